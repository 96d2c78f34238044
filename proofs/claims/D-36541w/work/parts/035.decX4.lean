set_option maxRecDepth 100000
def dkwX4_init_15 : List UInt8 := [5, 79, 42, 180, 0, 77, 27, 16, 104, 85, 42, 180, 0, 74, 27, 4, 79, 132, 1, 1, 167, 255, 226, 177]
abbrev dktX4_init_15 : List UInt8 := dkwX4_init_15 ++ []
def dkwX4_init_14 : List UInt8 := [181, 0, 171, 42, 17, 2, 88, 188, 10, 181, 0, 174, 3, 60, 27, 7, 162, 0, 31, 42, 180, 0, 71, 27]
abbrev dktX4_init_14 : List UInt8 := dkwX4_init_14 ++ dktX4_init_15
def dkwX4_init_13 : List UInt8 := [181, 0, 161, 42, 2, 181, 0, 164, 42, 17, 2, 88, 188, 10, 181, 0, 168, 42, 17, 2, 88, 188, 10]
abbrev dktX4_init_13 : List UInt8 := dkwX4_init_13 ++ dktX4_init_14
def dkwX4_init_12 : List UInt8 := [17, 0, 200, 188, 10, 181, 0, 155, 42, 17, 0, 200, 188, 10, 181, 0, 158, 42, 17, 0, 200, 188, 11]
abbrev dktX4_init_12 : List UInt8 := dkwX4_init_12 ++ dktX4_init_13
def dkwX4_init_11 : List UInt8 := [188, 11, 181, 0, 146, 42, 16, 120, 188, 11, 181, 0, 149, 42, 17, 0, 200, 188, 10, 181, 0, 152, 42]
abbrev dktX4_init_11 : List UInt8 := dkwX4_init_11 ++ dktX4_init_12
def dkwX4_init_10 : List UInt8 := [188, 11, 181, 0, 137, 42, 16, 120, 188, 11, 181, 0, 140, 42, 16, 120, 188, 11, 181, 0, 143, 42, 16, 120]
abbrev dktX4_init_10 : List UInt8 := dkwX4_init_10 ++ dktX4_init_11
def dkwX4_init_9 : List UInt8 := [188, 11, 181, 0, 128, 42, 16, 12, 188, 11, 181, 0, 131, 42, 16, 120, 188, 11, 181, 0, 134, 42, 16, 120]
abbrev dktX4_init_9 : List UInt8 := dkwX4_init_9 ++ dktX4_init_10
def dkwX4_init_8 : List UInt8 := [181, 0, 119, 42, 17, 0, 240, 188, 10, 181, 0, 122, 42, 16, 12, 188, 10, 181, 0, 125, 42, 16, 12]
abbrev dktX4_init_8 : List UInt8 := dkwX4_init_8 ++ dktX4_init_9
def dkwX4_init_7 : List UInt8 := [42, 16, 20, 188, 4, 181, 0, 113, 42, 16, 20, 188, 4, 181, 0, 116, 42, 17, 0, 240, 188, 11]
abbrev dktX4_init_7 : List UInt8 := dkwX4_init_7 ++ dktX4_init_8
def dkwX4_init_6 : List UInt8 := [42, 16, 20, 188, 10, 181, 0, 104, 42, 16, 20, 188, 10, 181, 0, 107, 42, 16, 20, 188, 10, 181, 0, 110]
abbrev dktX4_init_6 : List UInt8 := dkwX4_init_6 ++ dktX4_init_7
def dkwX4_init_5 : List UInt8 := [17, 14, 16, 188, 10, 181, 0, 95, 42, 16, 6, 188, 10, 181, 0, 98, 42, 16, 6, 188, 10, 181, 0, 101]
abbrev dktX4_init_5 : List UInt8 := dkwX4_init_5 ++ dktX4_init_6
def dkwX4_init_4 : List UInt8 := [188, 10, 181, 0, 86, 42, 17, 14, 16, 188, 10, 181, 0, 89, 42, 17, 14, 16, 188, 10, 181, 0, 92, 42]
abbrev dktX4_init_4 : List UInt8 := dkwX4_init_4 ++ dktX4_init_5
def dkwX4_init_3 : List UInt8 := [181, 0, 77, 42, 16, 16, 188, 11, 181, 0, 80, 42, 16, 16, 188, 10, 181, 0, 83, 42, 17, 14, 16]
abbrev dktX4_init_3 : List UInt8 := dkwX4_init_3 ++ dktX4_init_4
def dkwX4_init_2 : List UInt8 := [188, 5, 181, 0, 67, 42, 7, 188, 10, 181, 0, 71, 42, 7, 188, 10, 181, 0, 74, 42, 7, 188, 5]
abbrev dktX4_init_2 : List UInt8 := dkwX4_init_2 ++ dktX4_init_3
def dkwX4_init_1 : List UInt8 := [188, 11, 181, 0, 56, 42, 16, 12, 188, 10, 181, 0, 60, 42, 16, 12, 188, 4, 181, 0, 63, 42, 16, 24]
abbrev dktX4_init_1 : List UInt8 := dkwX4_init_1 ++ dktX4_init_2
def dkwX4_init_0 : List UInt8 := [42, 183, 0, 51, 42, 17, 9, 96, 188, 10, 181, 0, 7, 42, 16, 10, 188, 10, 181, 0, 1, 42, 16, 12]
abbrev dktX4_init_0 : List UInt8 := dkwX4_init_0 ++ dktX4_init_1
theorem dksX4_init_0 : cX4_init.data.toList.drop 0 = dktX4_init_0 := by decide +kernel
theorem dksX4_init_1 : cX4_init.data.toList.drop 24 = dktX4_init_1 := dk_seg dksX4_init_0 24 rfl rfl
theorem dksX4_init_2 : cX4_init.data.toList.drop 48 = dktX4_init_2 := dk_seg dksX4_init_1 24 rfl rfl
theorem dksX4_init_3 : cX4_init.data.toList.drop 71 = dktX4_init_3 := dk_seg dksX4_init_2 23 rfl rfl
theorem dksX4_init_4 : cX4_init.data.toList.drop 94 = dktX4_init_4 := dk_seg dksX4_init_3 23 rfl rfl
theorem dksX4_init_5 : cX4_init.data.toList.drop 118 = dktX4_init_5 := dk_seg dksX4_init_4 24 rfl rfl
theorem dksX4_init_6 : cX4_init.data.toList.drop 142 = dktX4_init_6 := dk_seg dksX4_init_5 24 rfl rfl
theorem dksX4_init_7 : cX4_init.data.toList.drop 166 = dktX4_init_7 := dk_seg dksX4_init_6 24 rfl rfl
theorem dksX4_init_8 : cX4_init.data.toList.drop 188 = dktX4_init_8 := dk_seg dksX4_init_7 22 rfl rfl
theorem dksX4_init_9 : cX4_init.data.toList.drop 211 = dktX4_init_9 := dk_seg dksX4_init_8 23 rfl rfl
theorem dksX4_init_10 : cX4_init.data.toList.drop 235 = dktX4_init_10 := dk_seg dksX4_init_9 24 rfl rfl
theorem dksX4_init_11 : cX4_init.data.toList.drop 259 = dktX4_init_11 := dk_seg dksX4_init_10 24 rfl rfl
theorem dksX4_init_12 : cX4_init.data.toList.drop 282 = dktX4_init_12 := dk_seg dksX4_init_11 23 rfl rfl
theorem dksX4_init_13 : cX4_init.data.toList.drop 305 = dktX4_init_13 := dk_seg dksX4_init_12 23 rfl rfl
theorem dksX4_init_14 : cX4_init.data.toList.drop 328 = dktX4_init_14 := dk_seg dksX4_init_13 23 rfl rfl
theorem dksX4_init_15 : cX4_init.data.toList.drop 352 = dktX4_init_15 := dk_seg dksX4_init_14 24 rfl rfl
theorem dX4_init_0 : decode cX4_init 0 = .ok (.aload_n 0, 1) := dk_42 (dk_at dksX4_init_0 0 rfl rfl)
theorem dX4_init_1 : decode cX4_init 1 = .ok (.invokespecial 51, 3) := dk_183 0 51 (dk_at dksX4_init_0 1 rfl rfl)
theorem dX4_init_4 : decode cX4_init 4 = .ok (.aload_n 0, 1) := dk_42 (dk_at dksX4_init_0 4 rfl rfl)
theorem dX4_init_5 : decode cX4_init 5 = .ok (.sipush 2400, 3) := dk_17 9 96 (dk_at dksX4_init_0 5 rfl rfl)
theorem dX4_init_8 : decode cX4_init 8 = .ok (.newarray .int, 2) := dk_188_10 (dk_at dksX4_init_0 8 rfl rfl)
theorem dX4_init_10 : decode cX4_init 10 = .ok (.putfield 7, 3) := dk_181 0 7 (dk_at dksX4_init_0 10 rfl rfl)
theorem dX4_init_13 : decode cX4_init 13 = .ok (.aload_n 0, 1) := dk_42 (dk_at dksX4_init_0 13 rfl rfl)
theorem dX4_init_14 : decode cX4_init 14 = .ok (.bipush 10, 2) := dk_16 10 (dk_at dksX4_init_0 14 rfl rfl)
theorem dX4_init_16 : decode cX4_init 16 = .ok (.newarray .int, 2) := dk_188_10 (dk_at dksX4_init_0 16 rfl rfl)
theorem dX4_init_18 : decode cX4_init 18 = .ok (.putfield 1, 3) := dk_181 0 1 (dk_at dksX4_init_0 18 rfl rfl)
theorem dX4_init_21 : decode cX4_init 21 = .ok (.aload_n 0, 1) := dk_42 (dk_at dksX4_init_0 21 rfl rfl)
theorem dX4_init_22 : decode cX4_init 22 = .ok (.bipush 12, 2) := dk_16 12 (dk_at dksX4_init_0 22 rfl rfl)
theorem dX4_init_24 : decode cX4_init 24 = .ok (.newarray .long, 2) := dk_188_11 (dk_at dksX4_init_1 0 rfl rfl)
theorem dX4_init_26 : decode cX4_init 26 = .ok (.putfield 56, 3) := dk_181 0 56 (dk_at dksX4_init_1 2 rfl rfl)
theorem dX4_init_29 : decode cX4_init 29 = .ok (.aload_n 0, 1) := dk_42 (dk_at dksX4_init_1 5 rfl rfl)
theorem dX4_init_30 : decode cX4_init 30 = .ok (.bipush 12, 2) := dk_16 12 (dk_at dksX4_init_1 6 rfl rfl)
theorem dX4_init_32 : decode cX4_init 32 = .ok (.newarray .int, 2) := dk_188_10 (dk_at dksX4_init_1 8 rfl rfl)
theorem dX4_init_34 : decode cX4_init 34 = .ok (.putfield 60, 3) := dk_181 0 60 (dk_at dksX4_init_1 10 rfl rfl)
theorem dX4_init_37 : decode cX4_init 37 = .ok (.aload_n 0, 1) := dk_42 (dk_at dksX4_init_1 13 rfl rfl)
theorem dX4_init_38 : decode cX4_init 38 = .ok (.bipush 12, 2) := dk_16 12 (dk_at dksX4_init_1 14 rfl rfl)
theorem dX4_init_40 : decode cX4_init 40 = .ok (.newarray .boolean, 2) := dk_188_4 (dk_at dksX4_init_1 16 rfl rfl)
theorem dX4_init_42 : decode cX4_init 42 = .ok (.putfield 63, 3) := dk_181 0 63 (dk_at dksX4_init_1 18 rfl rfl)
theorem dX4_init_45 : decode cX4_init 45 = .ok (.aload_n 0, 1) := dk_42 (dk_at dksX4_init_1 21 rfl rfl)
theorem dX4_init_46 : decode cX4_init 46 = .ok (.bipush 24, 2) := dk_16 24 (dk_at dksX4_init_1 22 rfl rfl)
theorem dX4_init_48 : decode cX4_init 48 = .ok (.newarray .char, 2) := dk_188_5 (dk_at dksX4_init_2 0 rfl rfl)
theorem dX4_init_50 : decode cX4_init 50 = .ok (.putfield 67, 3) := dk_181 0 67 (dk_at dksX4_init_2 2 rfl rfl)
theorem dX4_init_53 : decode cX4_init 53 = .ok (.aload_n 0, 1) := dk_42 (dk_at dksX4_init_2 5 rfl rfl)
theorem dX4_init_54 : decode cX4_init 54 = .ok (.iconst 4, 1) := dk_7 (dk_at dksX4_init_2 6 rfl rfl)
theorem dX4_init_55 : decode cX4_init 55 = .ok (.newarray .int, 2) := dk_188_10 (dk_at dksX4_init_2 7 rfl rfl)
theorem dX4_init_57 : decode cX4_init 57 = .ok (.putfield 71, 3) := dk_181 0 71 (dk_at dksX4_init_2 9 rfl rfl)
theorem dX4_init_60 : decode cX4_init 60 = .ok (.aload_n 0, 1) := dk_42 (dk_at dksX4_init_2 12 rfl rfl)
theorem dX4_init_61 : decode cX4_init 61 = .ok (.iconst 4, 1) := dk_7 (dk_at dksX4_init_2 13 rfl rfl)
theorem dX4_init_62 : decode cX4_init 62 = .ok (.newarray .int, 2) := dk_188_10 (dk_at dksX4_init_2 14 rfl rfl)
theorem dX4_init_64 : decode cX4_init 64 = .ok (.putfield 74, 3) := dk_181 0 74 (dk_at dksX4_init_2 16 rfl rfl)
theorem dX4_init_67 : decode cX4_init 67 = .ok (.aload_n 0, 1) := dk_42 (dk_at dksX4_init_2 19 rfl rfl)
theorem dX4_init_68 : decode cX4_init 68 = .ok (.iconst 4, 1) := dk_7 (dk_at dksX4_init_2 20 rfl rfl)
theorem dX4_init_69 : decode cX4_init 69 = .ok (.newarray .char, 2) := dk_188_5 (dk_at dksX4_init_2 21 rfl rfl)
theorem dX4_init_71 : decode cX4_init 71 = .ok (.putfield 77, 3) := dk_181 0 77 (dk_at dksX4_init_3 0 rfl rfl)
theorem dX4_init_74 : decode cX4_init 74 = .ok (.aload_n 0, 1) := dk_42 (dk_at dksX4_init_3 3 rfl rfl)
theorem dX4_init_75 : decode cX4_init 75 = .ok (.bipush 16, 2) := dk_16 16 (dk_at dksX4_init_3 4 rfl rfl)
theorem dX4_init_77 : decode cX4_init 77 = .ok (.newarray .long, 2) := dk_188_11 (dk_at dksX4_init_3 6 rfl rfl)
theorem dX4_init_79 : decode cX4_init 79 = .ok (.putfield 80, 3) := dk_181 0 80 (dk_at dksX4_init_3 8 rfl rfl)
theorem dX4_init_82 : decode cX4_init 82 = .ok (.aload_n 0, 1) := dk_42 (dk_at dksX4_init_3 11 rfl rfl)
theorem dX4_init_83 : decode cX4_init 83 = .ok (.bipush 16, 2) := dk_16 16 (dk_at dksX4_init_3 12 rfl rfl)
theorem dX4_init_85 : decode cX4_init 85 = .ok (.newarray .int, 2) := dk_188_10 (dk_at dksX4_init_3 14 rfl rfl)
theorem dX4_init_87 : decode cX4_init 87 = .ok (.putfield 83, 3) := dk_181 0 83 (dk_at dksX4_init_3 16 rfl rfl)
theorem dX4_init_90 : decode cX4_init 90 = .ok (.aload_n 0, 1) := dk_42 (dk_at dksX4_init_3 19 rfl rfl)
theorem dX4_init_91 : decode cX4_init 91 = .ok (.sipush 3600, 3) := dk_17 14 16 (dk_at dksX4_init_3 20 rfl rfl)
theorem dX4_init_94 : decode cX4_init 94 = .ok (.newarray .int, 2) := dk_188_10 (dk_at dksX4_init_4 0 rfl rfl)
theorem dX4_init_96 : decode cX4_init 96 = .ok (.putfield 86, 3) := dk_181 0 86 (dk_at dksX4_init_4 2 rfl rfl)
theorem dX4_init_99 : decode cX4_init 99 = .ok (.aload_n 0, 1) := dk_42 (dk_at dksX4_init_4 5 rfl rfl)
theorem dX4_init_100 : decode cX4_init 100 = .ok (.sipush 3600, 3) := dk_17 14 16 (dk_at dksX4_init_4 6 rfl rfl)
theorem dX4_init_103 : decode cX4_init 103 = .ok (.newarray .int, 2) := dk_188_10 (dk_at dksX4_init_4 9 rfl rfl)
theorem dX4_init_105 : decode cX4_init 105 = .ok (.putfield 89, 3) := dk_181 0 89 (dk_at dksX4_init_4 11 rfl rfl)
theorem dX4_init_108 : decode cX4_init 108 = .ok (.aload_n 0, 1) := dk_42 (dk_at dksX4_init_4 14 rfl rfl)
theorem dX4_init_109 : decode cX4_init 109 = .ok (.sipush 3600, 3) := dk_17 14 16 (dk_at dksX4_init_4 15 rfl rfl)
theorem dX4_init_112 : decode cX4_init 112 = .ok (.newarray .int, 2) := dk_188_10 (dk_at dksX4_init_4 18 rfl rfl)
theorem dX4_init_114 : decode cX4_init 114 = .ok (.putfield 92, 3) := dk_181 0 92 (dk_at dksX4_init_4 20 rfl rfl)
theorem dX4_init_117 : decode cX4_init 117 = .ok (.aload_n 0, 1) := dk_42 (dk_at dksX4_init_4 23 rfl rfl)
theorem dX4_init_118 : decode cX4_init 118 = .ok (.sipush 3600, 3) := dk_17 14 16 (dk_at dksX4_init_5 0 rfl rfl)
theorem dX4_init_121 : decode cX4_init 121 = .ok (.newarray .int, 2) := dk_188_10 (dk_at dksX4_init_5 3 rfl rfl)
theorem dX4_init_123 : decode cX4_init 123 = .ok (.putfield 95, 3) := dk_181 0 95 (dk_at dksX4_init_5 5 rfl rfl)
theorem dX4_init_126 : decode cX4_init 126 = .ok (.aload_n 0, 1) := dk_42 (dk_at dksX4_init_5 8 rfl rfl)
theorem dX4_init_127 : decode cX4_init 127 = .ok (.bipush 6, 2) := dk_16 6 (dk_at dksX4_init_5 9 rfl rfl)
theorem dX4_init_129 : decode cX4_init 129 = .ok (.newarray .int, 2) := dk_188_10 (dk_at dksX4_init_5 11 rfl rfl)
theorem dX4_init_131 : decode cX4_init 131 = .ok (.putfield 98, 3) := dk_181 0 98 (dk_at dksX4_init_5 13 rfl rfl)
theorem dX4_init_134 : decode cX4_init 134 = .ok (.aload_n 0, 1) := dk_42 (dk_at dksX4_init_5 16 rfl rfl)
theorem dX4_init_135 : decode cX4_init 135 = .ok (.bipush 6, 2) := dk_16 6 (dk_at dksX4_init_5 17 rfl rfl)
theorem dX4_init_137 : decode cX4_init 137 = .ok (.newarray .int, 2) := dk_188_10 (dk_at dksX4_init_5 19 rfl rfl)
theorem dX4_init_139 : decode cX4_init 139 = .ok (.putfield 101, 3) := dk_181 0 101 (dk_at dksX4_init_5 21 rfl rfl)
theorem dX4_init_142 : decode cX4_init 142 = .ok (.aload_n 0, 1) := dk_42 (dk_at dksX4_init_6 0 rfl rfl)
theorem dX4_init_143 : decode cX4_init 143 = .ok (.bipush 20, 2) := dk_16 20 (dk_at dksX4_init_6 1 rfl rfl)
theorem dX4_init_145 : decode cX4_init 145 = .ok (.newarray .int, 2) := dk_188_10 (dk_at dksX4_init_6 3 rfl rfl)
theorem dX4_init_147 : decode cX4_init 147 = .ok (.putfield 104, 3) := dk_181 0 104 (dk_at dksX4_init_6 5 rfl rfl)
theorem dX4_init_150 : decode cX4_init 150 = .ok (.aload_n 0, 1) := dk_42 (dk_at dksX4_init_6 8 rfl rfl)
theorem dX4_init_151 : decode cX4_init 151 = .ok (.bipush 20, 2) := dk_16 20 (dk_at dksX4_init_6 9 rfl rfl)
theorem dX4_init_153 : decode cX4_init 153 = .ok (.newarray .int, 2) := dk_188_10 (dk_at dksX4_init_6 11 rfl rfl)
theorem dX4_init_155 : decode cX4_init 155 = .ok (.putfield 107, 3) := dk_181 0 107 (dk_at dksX4_init_6 13 rfl rfl)
theorem dX4_init_158 : decode cX4_init 158 = .ok (.aload_n 0, 1) := dk_42 (dk_at dksX4_init_6 16 rfl rfl)
theorem dX4_init_159 : decode cX4_init 159 = .ok (.bipush 20, 2) := dk_16 20 (dk_at dksX4_init_6 17 rfl rfl)
theorem dX4_init_161 : decode cX4_init 161 = .ok (.newarray .int, 2) := dk_188_10 (dk_at dksX4_init_6 19 rfl rfl)
theorem dX4_init_163 : decode cX4_init 163 = .ok (.putfield 110, 3) := dk_181 0 110 (dk_at dksX4_init_6 21 rfl rfl)
theorem dX4_init_166 : decode cX4_init 166 = .ok (.aload_n 0, 1) := dk_42 (dk_at dksX4_init_7 0 rfl rfl)
theorem dX4_init_167 : decode cX4_init 167 = .ok (.bipush 20, 2) := dk_16 20 (dk_at dksX4_init_7 1 rfl rfl)
theorem dX4_init_169 : decode cX4_init 169 = .ok (.newarray .boolean, 2) := dk_188_4 (dk_at dksX4_init_7 3 rfl rfl)
theorem dX4_init_171 : decode cX4_init 171 = .ok (.putfield 113, 3) := dk_181 0 113 (dk_at dksX4_init_7 5 rfl rfl)
theorem dX4_init_174 : decode cX4_init 174 = .ok (.aload_n 0, 1) := dk_42 (dk_at dksX4_init_7 8 rfl rfl)
theorem dX4_init_175 : decode cX4_init 175 = .ok (.bipush 20, 2) := dk_16 20 (dk_at dksX4_init_7 9 rfl rfl)
theorem dX4_init_177 : decode cX4_init 177 = .ok (.newarray .boolean, 2) := dk_188_4 (dk_at dksX4_init_7 11 rfl rfl)
theorem dX4_init_179 : decode cX4_init 179 = .ok (.putfield 116, 3) := dk_181 0 116 (dk_at dksX4_init_7 13 rfl rfl)
theorem dX4_init_182 : decode cX4_init 182 = .ok (.aload_n 0, 1) := dk_42 (dk_at dksX4_init_7 16 rfl rfl)
theorem dX4_init_183 : decode cX4_init 183 = .ok (.sipush 240, 3) := dk_17 0 240 (dk_at dksX4_init_7 17 rfl rfl)
theorem dX4_init_186 : decode cX4_init 186 = .ok (.newarray .long, 2) := dk_188_11 (dk_at dksX4_init_7 20 rfl rfl)
theorem dX4_init_188 : decode cX4_init 188 = .ok (.putfield 119, 3) := dk_181 0 119 (dk_at dksX4_init_8 0 rfl rfl)
theorem dX4_init_191 : decode cX4_init 191 = .ok (.aload_n 0, 1) := dk_42 (dk_at dksX4_init_8 3 rfl rfl)
theorem dX4_init_192 : decode cX4_init 192 = .ok (.sipush 240, 3) := dk_17 0 240 (dk_at dksX4_init_8 4 rfl rfl)
theorem dX4_init_195 : decode cX4_init 195 = .ok (.newarray .int, 2) := dk_188_10 (dk_at dksX4_init_8 7 rfl rfl)
theorem dX4_init_197 : decode cX4_init 197 = .ok (.putfield 122, 3) := dk_181 0 122 (dk_at dksX4_init_8 9 rfl rfl)
theorem dX4_init_200 : decode cX4_init 200 = .ok (.aload_n 0, 1) := dk_42 (dk_at dksX4_init_8 12 rfl rfl)
theorem dX4_init_201 : decode cX4_init 201 = .ok (.bipush 12, 2) := dk_16 12 (dk_at dksX4_init_8 13 rfl rfl)
theorem dX4_init_203 : decode cX4_init 203 = .ok (.newarray .int, 2) := dk_188_10 (dk_at dksX4_init_8 15 rfl rfl)
theorem dX4_init_205 : decode cX4_init 205 = .ok (.putfield 125, 3) := dk_181 0 125 (dk_at dksX4_init_8 17 rfl rfl)
theorem dX4_init_208 : decode cX4_init 208 = .ok (.aload_n 0, 1) := dk_42 (dk_at dksX4_init_8 20 rfl rfl)
theorem dX4_init_209 : decode cX4_init 209 = .ok (.bipush 12, 2) := dk_16 12 (dk_at dksX4_init_8 21 rfl rfl)
theorem dX4_init_211 : decode cX4_init 211 = .ok (.newarray .long, 2) := dk_188_11 (dk_at dksX4_init_9 0 rfl rfl)
theorem dX4_init_213 : decode cX4_init 213 = .ok (.putfield 128, 3) := dk_181 0 128 (dk_at dksX4_init_9 2 rfl rfl)
theorem dX4_init_216 : decode cX4_init 216 = .ok (.aload_n 0, 1) := dk_42 (dk_at dksX4_init_9 5 rfl rfl)
theorem dX4_init_217 : decode cX4_init 217 = .ok (.bipush 12, 2) := dk_16 12 (dk_at dksX4_init_9 6 rfl rfl)
theorem dX4_init_219 : decode cX4_init 219 = .ok (.newarray .long, 2) := dk_188_11 (dk_at dksX4_init_9 8 rfl rfl)
theorem dX4_init_221 : decode cX4_init 221 = .ok (.putfield 131, 3) := dk_181 0 131 (dk_at dksX4_init_9 10 rfl rfl)
theorem dX4_init_224 : decode cX4_init 224 = .ok (.aload_n 0, 1) := dk_42 (dk_at dksX4_init_9 13 rfl rfl)
theorem dX4_init_225 : decode cX4_init 225 = .ok (.bipush 120, 2) := dk_16 120 (dk_at dksX4_init_9 14 rfl rfl)
theorem dX4_init_227 : decode cX4_init 227 = .ok (.newarray .long, 2) := dk_188_11 (dk_at dksX4_init_9 16 rfl rfl)
theorem dX4_init_229 : decode cX4_init 229 = .ok (.putfield 134, 3) := dk_181 0 134 (dk_at dksX4_init_9 18 rfl rfl)
theorem dX4_init_232 : decode cX4_init 232 = .ok (.aload_n 0, 1) := dk_42 (dk_at dksX4_init_9 21 rfl rfl)
theorem dX4_init_233 : decode cX4_init 233 = .ok (.bipush 120, 2) := dk_16 120 (dk_at dksX4_init_9 22 rfl rfl)
theorem dX4_init_235 : decode cX4_init 235 = .ok (.newarray .long, 2) := dk_188_11 (dk_at dksX4_init_10 0 rfl rfl)
theorem dX4_init_237 : decode cX4_init 237 = .ok (.putfield 137, 3) := dk_181 0 137 (dk_at dksX4_init_10 2 rfl rfl)
theorem dX4_init_240 : decode cX4_init 240 = .ok (.aload_n 0, 1) := dk_42 (dk_at dksX4_init_10 5 rfl rfl)
theorem dX4_init_241 : decode cX4_init 241 = .ok (.bipush 120, 2) := dk_16 120 (dk_at dksX4_init_10 6 rfl rfl)
theorem dX4_init_243 : decode cX4_init 243 = .ok (.newarray .long, 2) := dk_188_11 (dk_at dksX4_init_10 8 rfl rfl)
theorem dX4_init_245 : decode cX4_init 245 = .ok (.putfield 140, 3) := dk_181 0 140 (dk_at dksX4_init_10 10 rfl rfl)
theorem dX4_init_248 : decode cX4_init 248 = .ok (.aload_n 0, 1) := dk_42 (dk_at dksX4_init_10 13 rfl rfl)
theorem dX4_init_249 : decode cX4_init 249 = .ok (.bipush 120, 2) := dk_16 120 (dk_at dksX4_init_10 14 rfl rfl)
theorem dX4_init_251 : decode cX4_init 251 = .ok (.newarray .long, 2) := dk_188_11 (dk_at dksX4_init_10 16 rfl rfl)
theorem dX4_init_253 : decode cX4_init 253 = .ok (.putfield 143, 3) := dk_181 0 143 (dk_at dksX4_init_10 18 rfl rfl)
theorem dX4_init_256 : decode cX4_init 256 = .ok (.aload_n 0, 1) := dk_42 (dk_at dksX4_init_10 21 rfl rfl)
theorem dX4_init_257 : decode cX4_init 257 = .ok (.bipush 120, 2) := dk_16 120 (dk_at dksX4_init_10 22 rfl rfl)
theorem dX4_init_259 : decode cX4_init 259 = .ok (.newarray .long, 2) := dk_188_11 (dk_at dksX4_init_11 0 rfl rfl)
theorem dX4_init_261 : decode cX4_init 261 = .ok (.putfield 146, 3) := dk_181 0 146 (dk_at dksX4_init_11 2 rfl rfl)
theorem dX4_init_264 : decode cX4_init 264 = .ok (.aload_n 0, 1) := dk_42 (dk_at dksX4_init_11 5 rfl rfl)
theorem dX4_init_265 : decode cX4_init 265 = .ok (.bipush 120, 2) := dk_16 120 (dk_at dksX4_init_11 6 rfl rfl)
theorem dX4_init_267 : decode cX4_init 267 = .ok (.newarray .long, 2) := dk_188_11 (dk_at dksX4_init_11 8 rfl rfl)
theorem dX4_init_269 : decode cX4_init 269 = .ok (.putfield 149, 3) := dk_181 0 149 (dk_at dksX4_init_11 10 rfl rfl)
theorem dX4_init_272 : decode cX4_init 272 = .ok (.aload_n 0, 1) := dk_42 (dk_at dksX4_init_11 13 rfl rfl)
theorem dX4_init_273 : decode cX4_init 273 = .ok (.sipush 200, 3) := dk_17 0 200 (dk_at dksX4_init_11 14 rfl rfl)
theorem dX4_init_276 : decode cX4_init 276 = .ok (.newarray .int, 2) := dk_188_10 (dk_at dksX4_init_11 17 rfl rfl)
theorem dX4_init_278 : decode cX4_init 278 = .ok (.putfield 152, 3) := dk_181 0 152 (dk_at dksX4_init_11 19 rfl rfl)
theorem dX4_init_281 : decode cX4_init 281 = .ok (.aload_n 0, 1) := dk_42 (dk_at dksX4_init_11 22 rfl rfl)
theorem dX4_init_282 : decode cX4_init 282 = .ok (.sipush 200, 3) := dk_17 0 200 (dk_at dksX4_init_12 0 rfl rfl)
theorem dX4_init_285 : decode cX4_init 285 = .ok (.newarray .int, 2) := dk_188_10 (dk_at dksX4_init_12 3 rfl rfl)
theorem dX4_init_287 : decode cX4_init 287 = .ok (.putfield 155, 3) := dk_181 0 155 (dk_at dksX4_init_12 5 rfl rfl)
theorem dX4_init_290 : decode cX4_init 290 = .ok (.aload_n 0, 1) := dk_42 (dk_at dksX4_init_12 8 rfl rfl)
theorem dX4_init_291 : decode cX4_init 291 = .ok (.sipush 200, 3) := dk_17 0 200 (dk_at dksX4_init_12 9 rfl rfl)
theorem dX4_init_294 : decode cX4_init 294 = .ok (.newarray .int, 2) := dk_188_10 (dk_at dksX4_init_12 12 rfl rfl)
theorem dX4_init_296 : decode cX4_init 296 = .ok (.putfield 158, 3) := dk_181 0 158 (dk_at dksX4_init_12 14 rfl rfl)
theorem dX4_init_299 : decode cX4_init 299 = .ok (.aload_n 0, 1) := dk_42 (dk_at dksX4_init_12 17 rfl rfl)
theorem dX4_init_300 : decode cX4_init 300 = .ok (.sipush 200, 3) := dk_17 0 200 (dk_at dksX4_init_12 18 rfl rfl)
theorem dX4_init_303 : decode cX4_init 303 = .ok (.newarray .long, 2) := dk_188_11 (dk_at dksX4_init_12 21 rfl rfl)
theorem dX4_init_305 : decode cX4_init 305 = .ok (.putfield 161, 3) := dk_181 0 161 (dk_at dksX4_init_13 0 rfl rfl)
theorem dX4_init_308 : decode cX4_init 308 = .ok (.aload_n 0, 1) := dk_42 (dk_at dksX4_init_13 3 rfl rfl)
theorem dX4_init_309 : decode cX4_init 309 = .ok (.iconst (-1), 1) := dk_2 (dk_at dksX4_init_13 4 rfl rfl)
theorem dX4_init_310 : decode cX4_init 310 = .ok (.putfield 164, 3) := dk_181 0 164 (dk_at dksX4_init_13 5 rfl rfl)
theorem dX4_init_313 : decode cX4_init 313 = .ok (.aload_n 0, 1) := dk_42 (dk_at dksX4_init_13 8 rfl rfl)
theorem dX4_init_314 : decode cX4_init 314 = .ok (.sipush 600, 3) := dk_17 2 88 (dk_at dksX4_init_13 9 rfl rfl)
theorem dX4_init_317 : decode cX4_init 317 = .ok (.newarray .int, 2) := dk_188_10 (dk_at dksX4_init_13 12 rfl rfl)
theorem dX4_init_319 : decode cX4_init 319 = .ok (.putfield 168, 3) := dk_181 0 168 (dk_at dksX4_init_13 14 rfl rfl)
theorem dX4_init_322 : decode cX4_init 322 = .ok (.aload_n 0, 1) := dk_42 (dk_at dksX4_init_13 17 rfl rfl)
theorem dX4_init_323 : decode cX4_init 323 = .ok (.sipush 600, 3) := dk_17 2 88 (dk_at dksX4_init_13 18 rfl rfl)
theorem dX4_init_326 : decode cX4_init 326 = .ok (.newarray .int, 2) := dk_188_10 (dk_at dksX4_init_13 21 rfl rfl)
theorem dX4_init_328 : decode cX4_init 328 = .ok (.putfield 171, 3) := dk_181 0 171 (dk_at dksX4_init_14 0 rfl rfl)
theorem dX4_init_331 : decode cX4_init 331 = .ok (.aload_n 0, 1) := dk_42 (dk_at dksX4_init_14 3 rfl rfl)
theorem dX4_init_332 : decode cX4_init 332 = .ok (.sipush 600, 3) := dk_17 2 88 (dk_at dksX4_init_14 4 rfl rfl)
theorem dX4_init_335 : decode cX4_init 335 = .ok (.newarray .int, 2) := dk_188_10 (dk_at dksX4_init_14 7 rfl rfl)
theorem dX4_init_337 : decode cX4_init 337 = .ok (.putfield 174, 3) := dk_181 0 174 (dk_at dksX4_init_14 9 rfl rfl)
theorem dX4_init_340 : decode cX4_init 340 = .ok (.iconst 0, 1) := dk_3 (dk_at dksX4_init_14 12 rfl rfl)
theorem dX4_init_341 : decode cX4_init 341 = .ok (.istore_n 1, 1) := dk_60 (dk_at dksX4_init_14 13 rfl rfl)
theorem dX4_init_342 : decode cX4_init 342 = .ok (.iload_n 1, 1) := dk_27 (dk_at dksX4_init_14 14 rfl rfl)
theorem dX4_init_343 : decode cX4_init 343 = .ok (.iconst 4, 1) := dk_7 (dk_at dksX4_init_14 15 rfl rfl)
theorem dX4_init_344 : decode cX4_init 344 = .ok (.if_icmp .ge 31, 3) := dk_162 0 31 (dk_at dksX4_init_14 16 rfl rfl)
theorem dX4_init_347 : decode cX4_init 347 = .ok (.aload_n 0, 1) := dk_42 (dk_at dksX4_init_14 19 rfl rfl)
theorem dX4_init_348 : decode cX4_init 348 = .ok (.getfield 71, 3) := dk_180 0 71 (dk_at dksX4_init_14 20 rfl rfl)
theorem dX4_init_351 : decode cX4_init 351 = .ok (.iload_n 1, 1) := dk_27 (dk_at dksX4_init_14 23 rfl rfl)
theorem dX4_init_352 : decode cX4_init 352 = .ok (.iconst 2, 1) := dk_5 (dk_at dksX4_init_15 0 rfl rfl)
theorem dX4_init_353 : decode cX4_init 353 = .ok (.iastore, 1) := dk_79 (dk_at dksX4_init_15 1 rfl rfl)
theorem dX4_init_354 : decode cX4_init 354 = .ok (.aload_n 0, 1) := dk_42 (dk_at dksX4_init_15 2 rfl rfl)
theorem dX4_init_355 : decode cX4_init 355 = .ok (.getfield 77, 3) := dk_180 0 77 (dk_at dksX4_init_15 3 rfl rfl)
theorem dX4_init_358 : decode cX4_init 358 = .ok (.iload_n 1, 1) := dk_27 (dk_at dksX4_init_15 6 rfl rfl)
theorem dX4_init_359 : decode cX4_init 359 = .ok (.bipush 104, 2) := dk_16 104 (dk_at dksX4_init_15 7 rfl rfl)
theorem dX4_init_361 : decode cX4_init 361 = .ok (.castore, 1) := dk_85 (dk_at dksX4_init_15 9 rfl rfl)
theorem dX4_init_362 : decode cX4_init 362 = .ok (.aload_n 0, 1) := dk_42 (dk_at dksX4_init_15 10 rfl rfl)
theorem dX4_init_363 : decode cX4_init 363 = .ok (.getfield 74, 3) := dk_180 0 74 (dk_at dksX4_init_15 11 rfl rfl)
theorem dX4_init_366 : decode cX4_init 366 = .ok (.iload_n 1, 1) := dk_27 (dk_at dksX4_init_15 14 rfl rfl)
theorem dX4_init_367 : decode cX4_init 367 = .ok (.iconst 1, 1) := dk_4 (dk_at dksX4_init_15 15 rfl rfl)
theorem dX4_init_368 : decode cX4_init 368 = .ok (.iastore, 1) := dk_79 (dk_at dksX4_init_15 16 rfl rfl)
theorem dX4_init_369 : decode cX4_init 369 = .ok (.iinc 1 1, 3) := dk_132 1 1 (dk_at dksX4_init_15 17 rfl rfl)
theorem dX4_init_372 : decode cX4_init 372 = .ok (.goto (-30), 3) := dk_167 255 226 (dk_at dksX4_init_15 20 rfl rfl)
theorem dX4_init_375 : decode cX4_init 375 = .ok (.return_, 1) := dk_177 (dk_at dksX4_init_15 23 rfl rfl)
theorem dX4_thrown_0 : decode cX4_thrown 0 = .ok (.aload_n 0, 1) := by decide +kernel
theorem dX4_thrown_1 : decode cX4_thrown 1 = .ok (.getfield 177, 3) := by decide +kernel
theorem dX4_thrown_4 : decode cX4_thrown 4 = .ok (.ireturn, 1) := by decide +kernel
def dkwX4_put_3 : List UInt8 := [184, 0, 208, 172]
abbrev dktX4_put_3 : List UInt8 := dkwX4_put_3 ++ []
def dkwX4_put_2 : List UInt8 := [180, 0, 56, 27, 32, 80, 42, 180, 0, 60, 27, 21, 4, 79, 42, 180, 0, 63, 27, 4, 84, 32]
abbrev dktX4_put_2 : List UInt8 := dkwX4_put_2 ++ dktX4_put_3
def dkwX4_put_1 : List UInt8 := [20, 0, 203, 184, 0, 182, 154, 0, 7, 5, 167, 0, 4, 3, 182, 0, 205, 153, 0, 5, 3, 172, 42]
abbrev dktX4_put_1 : List UInt8 := dkwX4_put_1 ++ dktX4_put_2
def dkwX4_put_0 : List UInt8 := [42, 27, 184, 0, 198, 154, 0, 7, 4, 167, 0, 29, 21, 4, 184, 0, 190, 153, 0, 16, 32, 20, 0, 201]
abbrev dktX4_put_0 : List UInt8 := dkwX4_put_0 ++ dktX4_put_1
theorem dksX4_put_0 : cX4_put.data.toList.drop 0 = dktX4_put_0 := by decide +kernel
theorem dksX4_put_1 : cX4_put.data.toList.drop 24 = dktX4_put_1 := dk_seg dksX4_put_0 24 rfl rfl
theorem dksX4_put_2 : cX4_put.data.toList.drop 47 = dktX4_put_2 := dk_seg dksX4_put_1 23 rfl rfl
theorem dksX4_put_3 : cX4_put.data.toList.drop 69 = dktX4_put_3 := dk_seg dksX4_put_2 22 rfl rfl
theorem dX4_put_0 : decode cX4_put 0 = .ok (.aload_n 0, 1) := dk_42 (dk_at dksX4_put_0 0 rfl rfl)
theorem dX4_put_1 : decode cX4_put 1 = .ok (.iload_n 1, 1) := dk_27 (dk_at dksX4_put_0 1 rfl rfl)
theorem dX4_put_2 : decode cX4_put 2 = .ok (.invokestatic 198, 3) := dk_184 0 198 (dk_at dksX4_put_0 2 rfl rfl)
theorem dX4_put_5 : decode cX4_put 5 = .ok (.ifCond .ne 7, 3) := dk_154 0 7 (dk_at dksX4_put_0 5 rfl rfl)
theorem dX4_put_8 : decode cX4_put 8 = .ok (.iconst 1, 1) := dk_4 (dk_at dksX4_put_0 8 rfl rfl)
theorem dX4_put_9 : decode cX4_put 9 = .ok (.goto 29, 3) := dk_167 0 29 (dk_at dksX4_put_0 9 rfl rfl)
theorem dX4_put_12 : decode cX4_put 12 = .ok (.iload 4, 2) := dk_21 4 (dk_at dksX4_put_0 12 rfl rfl)
theorem dX4_put_14 : decode cX4_put 14 = .ok (.invokestatic 190, 3) := dk_184 0 190 (dk_at dksX4_put_0 14 rfl rfl)
theorem dX4_put_17 : decode cX4_put 17 = .ok (.ifCond .eq 16, 3) := dk_153 0 16 (dk_at dksX4_put_0 17 rfl rfl)
theorem dX4_put_20 : decode cX4_put 20 = .ok (.lload_n 2, 1) := dk_32 (dk_at dksX4_put_0 20 rfl rfl)
theorem dX4_put_21 : decode cX4_put 21 = .ok (.ldc2_w 201, 3) := dk_20 0 201 (dk_at dksX4_put_0 21 rfl rfl)
theorem dX4_put_24 : decode cX4_put 24 = .ok (.ldc2_w 203, 3) := dk_20 0 203 (dk_at dksX4_put_1 0 rfl rfl)
theorem dX4_put_27 : decode cX4_put 27 = .ok (.invokestatic 182, 3) := dk_184 0 182 (dk_at dksX4_put_1 3 rfl rfl)
theorem dX4_put_30 : decode cX4_put 30 = .ok (.ifCond .ne 7, 3) := dk_154 0 7 (dk_at dksX4_put_1 6 rfl rfl)
theorem dX4_put_33 : decode cX4_put 33 = .ok (.iconst 2, 1) := dk_5 (dk_at dksX4_put_1 9 rfl rfl)
theorem dX4_put_34 : decode cX4_put 34 = .ok (.goto 4, 3) := dk_167 0 4 (dk_at dksX4_put_1 10 rfl rfl)
theorem dX4_put_37 : decode cX4_put 37 = .ok (.iconst 0, 1) := dk_3 (dk_at dksX4_put_1 13 rfl rfl)
theorem dX4_put_38 : decode cX4_put 38 = .ok (.invokevirtual 205, 3) := dk_182 0 205 (dk_at dksX4_put_1 14 rfl rfl)
theorem dX4_put_41 : decode cX4_put 41 = .ok (.ifCond .eq 5, 3) := dk_153 0 5 (dk_at dksX4_put_1 17 rfl rfl)
theorem dX4_put_44 : decode cX4_put 44 = .ok (.iconst 0, 1) := dk_3 (dk_at dksX4_put_1 20 rfl rfl)
theorem dX4_put_45 : decode cX4_put 45 = .ok (.ireturn, 1) := dk_172 (dk_at dksX4_put_1 21 rfl rfl)
theorem dX4_put_46 : decode cX4_put 46 = .ok (.aload_n 0, 1) := dk_42 (dk_at dksX4_put_1 22 rfl rfl)
theorem dX4_put_47 : decode cX4_put 47 = .ok (.getfield 56, 3) := dk_180 0 56 (dk_at dksX4_put_2 0 rfl rfl)
theorem dX4_put_50 : decode cX4_put 50 = .ok (.iload_n 1, 1) := dk_27 (dk_at dksX4_put_2 3 rfl rfl)
theorem dX4_put_51 : decode cX4_put 51 = .ok (.lload_n 2, 1) := dk_32 (dk_at dksX4_put_2 4 rfl rfl)
theorem dX4_put_52 : decode cX4_put 52 = .ok (.lastore, 1) := dk_80 (dk_at dksX4_put_2 5 rfl rfl)
theorem dX4_put_53 : decode cX4_put 53 = .ok (.aload_n 0, 1) := dk_42 (dk_at dksX4_put_2 6 rfl rfl)
theorem dX4_put_54 : decode cX4_put 54 = .ok (.getfield 60, 3) := dk_180 0 60 (dk_at dksX4_put_2 7 rfl rfl)
theorem dX4_put_57 : decode cX4_put 57 = .ok (.iload_n 1, 1) := dk_27 (dk_at dksX4_put_2 10 rfl rfl)
theorem dX4_put_58 : decode cX4_put 58 = .ok (.iload 4, 2) := dk_21 4 (dk_at dksX4_put_2 11 rfl rfl)
theorem dX4_put_60 : decode cX4_put 60 = .ok (.iastore, 1) := dk_79 (dk_at dksX4_put_2 13 rfl rfl)
theorem dX4_put_61 : decode cX4_put 61 = .ok (.aload_n 0, 1) := dk_42 (dk_at dksX4_put_2 14 rfl rfl)
theorem dX4_put_62 : decode cX4_put 62 = .ok (.getfield 63, 3) := dk_180 0 63 (dk_at dksX4_put_2 15 rfl rfl)
theorem dX4_put_65 : decode cX4_put 65 = .ok (.iload_n 1, 1) := dk_27 (dk_at dksX4_put_2 18 rfl rfl)
theorem dX4_put_66 : decode cX4_put 66 = .ok (.iconst 1, 1) := dk_4 (dk_at dksX4_put_2 19 rfl rfl)
theorem dX4_put_67 : decode cX4_put 67 = .ok (.bastore, 1) := dk_84 (dk_at dksX4_put_2 20 rfl rfl)
theorem dX4_put_68 : decode cX4_put 68 = .ok (.lload_n 2, 1) := dk_32 (dk_at dksX4_put_2 21 rfl rfl)
theorem dX4_put_69 : decode cX4_put 69 = .ok (.invokestatic 208, 3) := dk_184 0 208 (dk_at dksX4_put_3 0 rfl rfl)
theorem dX4_put_72 : decode cX4_put 72 = .ok (.ireturn, 1) := dk_172 (dk_at dksX4_put_3 3 rfl rfl)
def dkwX4_isShelf_0 : List UInt8 := [26, 133, 9, 20, 0, 180, 184, 0, 182, 172]
abbrev dktX4_isShelf_0 : List UInt8 := dkwX4_isShelf_0 ++ []
theorem dksX4_isShelf_0 : cX4_isShelf.data.toList.drop 0 = dktX4_isShelf_0 := by decide +kernel
theorem dX4_isShelf_0 : decode cX4_isShelf 0 = .ok (.iload_n 0, 1) := dk_26 (dk_at dksX4_isShelf_0 0 rfl rfl)
theorem dX4_isShelf_1 : decode cX4_isShelf 1 = .ok (.i2l, 1) := dk_133 (dk_at dksX4_isShelf_0 1 rfl rfl)
theorem dX4_isShelf_2 : decode cX4_isShelf 2 = .ok (.lconst 0, 1) := dk_9 (dk_at dksX4_isShelf_0 2 rfl rfl)
theorem dX4_isShelf_3 : decode cX4_isShelf 3 = .ok (.ldc2_w 180, 3) := dk_20 0 180 (dk_at dksX4_isShelf_0 3 rfl rfl)
theorem dX4_isShelf_6 : decode cX4_isShelf 6 = .ok (.invokestatic 182, 3) := dk_184 0 182 (dk_at dksX4_isShelf_0 6 rfl rfl)
theorem dX4_isShelf_9 : decode cX4_isShelf 9 = .ok (.ireturn, 1) := dk_172 (dk_at dksX4_isShelf_0 9 rfl rfl)
def dkwX4_in_0 : List UInt8 := [30, 32, 148, 155, 0, 14, 30, 22, 4, 148, 157, 0, 7, 4, 167, 0, 4, 3, 172]
abbrev dktX4_in_0 : List UInt8 := dkwX4_in_0 ++ []
theorem dksX4_in_0 : cX4_in.data.toList.drop 0 = dktX4_in_0 := by decide +kernel
theorem dX4_in_0 : decode cX4_in 0 = .ok (.lload_n 0, 1) := dk_30 (dk_at dksX4_in_0 0 rfl rfl)
theorem dX4_in_1 : decode cX4_in 1 = .ok (.lload_n 2, 1) := dk_32 (dk_at dksX4_in_0 1 rfl rfl)
theorem dX4_in_2 : decode cX4_in 2 = .ok (.lcmp, 1) := dk_148 (dk_at dksX4_in_0 2 rfl rfl)
theorem dX4_in_3 : decode cX4_in 3 = .ok (.ifCond .lt 14, 3) := dk_155 0 14 (dk_at dksX4_in_0 3 rfl rfl)
theorem dX4_in_6 : decode cX4_in 6 = .ok (.lload_n 0, 1) := dk_30 (dk_at dksX4_in_0 6 rfl rfl)
theorem dX4_in_7 : decode cX4_in 7 = .ok (.lload 4, 2) := dk_22 4 (dk_at dksX4_in_0 7 rfl rfl)
theorem dX4_in_9 : decode cX4_in 9 = .ok (.lcmp, 1) := dk_148 (dk_at dksX4_in_0 9 rfl rfl)
theorem dX4_in_10 : decode cX4_in 10 = .ok (.ifCond .gt 7, 3) := dk_157 0 7 (dk_at dksX4_in_0 10 rfl rfl)
theorem dX4_in_13 : decode cX4_in 13 = .ok (.iconst 1, 1) := dk_4 (dk_at dksX4_in_0 13 rfl rfl)
theorem dX4_in_14 : decode cX4_in 14 = .ok (.goto 4, 3) := dk_167 0 4 (dk_at dksX4_in_0 14 rfl rfl)
theorem dX4_in_17 : decode cX4_in 17 = .ok (.iconst 0, 1) := dk_3 (dk_at dksX4_in_0 17 rfl rfl)
theorem dX4_in_18 : decode cX4_in 18 = .ok (.ireturn, 1) := dk_172 (dk_at dksX4_in_0 18 rfl rfl)
def dkwX4_isScale_0 : List UInt8 := [26, 133, 20, 0, 186, 20, 0, 188, 184, 0, 182, 172]
abbrev dktX4_isScale_0 : List UInt8 := dkwX4_isScale_0 ++ []
theorem dksX4_isScale_0 : cX4_isScale.data.toList.drop 0 = dktX4_isScale_0 := by decide +kernel
theorem dX4_isScale_0 : decode cX4_isScale 0 = .ok (.iload_n 0, 1) := dk_26 (dk_at dksX4_isScale_0 0 rfl rfl)
theorem dX4_isScale_1 : decode cX4_isScale 1 = .ok (.i2l, 1) := dk_133 (dk_at dksX4_isScale_0 1 rfl rfl)
theorem dX4_isScale_2 : decode cX4_isScale 2 = .ok (.ldc2_w 186, 3) := dk_20 0 186 (dk_at dksX4_isScale_0 2 rfl rfl)
theorem dX4_isScale_5 : decode cX4_isScale 5 = .ok (.ldc2_w 188, 3) := dk_20 0 188 (dk_at dksX4_isScale_0 5 rfl rfl)
theorem dX4_isScale_8 : decode cX4_isScale 8 = .ok (.invokestatic 182, 3) := dk_184 0 182 (dk_at dksX4_isScale_0 8 rfl rfl)
theorem dX4_isScale_11 : decode cX4_isScale 11 = .ok (.ireturn, 1) := dk_172 (dk_at dksX4_isScale_0 11 rfl rfl)
def dkwX4_fails_0 : List UInt8 := [42, 27, 181, 0, 177, 27, 158, 0, 7, 4, 167, 0, 4, 3, 172]
abbrev dktX4_fails_0 : List UInt8 := dkwX4_fails_0 ++ []
theorem dksX4_fails_0 : cX4_fails.data.toList.drop 0 = dktX4_fails_0 := by decide +kernel
theorem dX4_fails_0 : decode cX4_fails 0 = .ok (.aload_n 0, 1) := dk_42 (dk_at dksX4_fails_0 0 rfl rfl)
theorem dX4_fails_1 : decode cX4_fails 1 = .ok (.iload_n 1, 1) := dk_27 (dk_at dksX4_fails_0 1 rfl rfl)
theorem dX4_fails_2 : decode cX4_fails 2 = .ok (.putfield 177, 3) := dk_181 0 177 (dk_at dksX4_fails_0 2 rfl rfl)
theorem dX4_fails_5 : decode cX4_fails 5 = .ok (.iload_n 1, 1) := dk_27 (dk_at dksX4_fails_0 5 rfl rfl)
theorem dX4_fails_6 : decode cX4_fails 6 = .ok (.ifCond .le 7, 3) := dk_158 0 7 (dk_at dksX4_fails_0 6 rfl rfl)
theorem dX4_fails_9 : decode cX4_fails 9 = .ok (.iconst 1, 1) := dk_4 (dk_at dksX4_fails_0 9 rfl rfl)
theorem dX4_fails_10 : decode cX4_fails 10 = .ok (.goto 4, 3) := dk_167 0 4 (dk_at dksX4_fails_0 10 rfl rfl)
theorem dX4_fails_13 : decode cX4_fails 13 = .ok (.iconst 0, 1) := dk_3 (dk_at dksX4_fails_0 13 rfl rfl)
theorem dX4_fails_14 : decode cX4_fails 14 = .ok (.ireturn, 1) := dk_172 (dk_at dksX4_fails_0 14 rfl rfl)
def dkwX4_digitsOf_1 : List UInt8 := [167, 255, 241, 28, 172]
abbrev dktX4_digitsOf_1 : List UInt8 := dkwX4_digitsOf_1 ++ []
def dkwX4_digitsOf_0 : List UInt8 := [4, 61, 30, 20, 0, 14, 109, 66, 33, 9, 148, 153, 0, 15, 132, 2, 1, 33, 20, 0, 14, 109, 66]
abbrev dktX4_digitsOf_0 : List UInt8 := dkwX4_digitsOf_0 ++ dktX4_digitsOf_1
theorem dksX4_digitsOf_0 : cX4_digitsOf.data.toList.drop 0 = dktX4_digitsOf_0 := by decide +kernel
theorem dksX4_digitsOf_1 : cX4_digitsOf.data.toList.drop 23 = dktX4_digitsOf_1 := dk_seg dksX4_digitsOf_0 23 rfl rfl
theorem dX4_digitsOf_0 : decode cX4_digitsOf 0 = .ok (.iconst 1, 1) := dk_4 (dk_at dksX4_digitsOf_0 0 rfl rfl)
theorem dX4_digitsOf_1 : decode cX4_digitsOf 1 = .ok (.istore_n 2, 1) := dk_61 (dk_at dksX4_digitsOf_0 1 rfl rfl)
theorem dX4_digitsOf_2 : decode cX4_digitsOf 2 = .ok (.lload_n 0, 1) := dk_30 (dk_at dksX4_digitsOf_0 2 rfl rfl)
theorem dX4_digitsOf_3 : decode cX4_digitsOf 3 = .ok (.ldc2_w 14, 3) := dk_20 0 14 (dk_at dksX4_digitsOf_0 3 rfl rfl)
theorem dX4_digitsOf_6 : decode cX4_digitsOf 6 = .ok (.ldiv, 1) := dk_109 (dk_at dksX4_digitsOf_0 6 rfl rfl)
theorem dX4_digitsOf_7 : decode cX4_digitsOf 7 = .ok (.lstore_n 3, 1) := dk_66 (dk_at dksX4_digitsOf_0 7 rfl rfl)
theorem dX4_digitsOf_8 : decode cX4_digitsOf 8 = .ok (.lload_n 3, 1) := dk_33 (dk_at dksX4_digitsOf_0 8 rfl rfl)
theorem dX4_digitsOf_9 : decode cX4_digitsOf 9 = .ok (.lconst 0, 1) := dk_9 (dk_at dksX4_digitsOf_0 9 rfl rfl)
theorem dX4_digitsOf_10 : decode cX4_digitsOf 10 = .ok (.lcmp, 1) := dk_148 (dk_at dksX4_digitsOf_0 10 rfl rfl)
theorem dX4_digitsOf_11 : decode cX4_digitsOf 11 = .ok (.ifCond .eq 15, 3) := dk_153 0 15 (dk_at dksX4_digitsOf_0 11 rfl rfl)
theorem dX4_digitsOf_14 : decode cX4_digitsOf 14 = .ok (.iinc 2 1, 3) := dk_132 2 1 (dk_at dksX4_digitsOf_0 14 rfl rfl)
theorem dX4_digitsOf_17 : decode cX4_digitsOf 17 = .ok (.lload_n 3, 1) := dk_33 (dk_at dksX4_digitsOf_0 17 rfl rfl)
theorem dX4_digitsOf_18 : decode cX4_digitsOf 18 = .ok (.ldc2_w 14, 3) := dk_20 0 14 (dk_at dksX4_digitsOf_0 18 rfl rfl)
theorem dX4_digitsOf_21 : decode cX4_digitsOf 21 = .ok (.ldiv, 1) := dk_109 (dk_at dksX4_digitsOf_0 21 rfl rfl)
theorem dX4_digitsOf_22 : decode cX4_digitsOf 22 = .ok (.lstore_n 3, 1) := dk_66 (dk_at dksX4_digitsOf_0 22 rfl rfl)
theorem dX4_digitsOf_23 : decode cX4_digitsOf 23 = .ok (.goto (-15), 3) := dk_167 255 241 (dk_at dksX4_digitsOf_1 0 rfl rfl)
theorem dX4_digitsOf_26 : decode cX4_digitsOf 26 = .ok (.iload_n 2, 1) := dk_28 (dk_at dksX4_digitsOf_1 3 rfl rfl)
theorem dX4_digitsOf_27 : decode cX4_digitsOf 27 = .ok (.ireturn, 1) := dk_172 (dk_at dksX4_digitsOf_1 4 rfl rfl)
def dkwX4_type_1 : List UInt8 := [180, 0, 67, 42, 180, 0, 212, 27, 85, 42, 89, 180, 0, 212, 4, 96, 181, 0, 212, 42, 180, 0, 212, 172]
abbrev dktX4_type_1 : List UInt8 := dkwX4_type_1 ++ []
def dkwX4_type_0 : List UInt8 := [42, 42, 180, 0, 212, 16, 24, 160, 0, 7, 4, 167, 0, 4, 3, 182, 0, 205, 153, 0, 5, 3, 172, 42]
abbrev dktX4_type_0 : List UInt8 := dkwX4_type_0 ++ dktX4_type_1
theorem dksX4_type_0 : cX4_type.data.toList.drop 0 = dktX4_type_0 := by decide +kernel
theorem dksX4_type_1 : cX4_type.data.toList.drop 24 = dktX4_type_1 := dk_seg dksX4_type_0 24 rfl rfl
theorem dX4_type_0 : decode cX4_type 0 = .ok (.aload_n 0, 1) := dk_42 (dk_at dksX4_type_0 0 rfl rfl)
theorem dX4_type_1 : decode cX4_type 1 = .ok (.aload_n 0, 1) := dk_42 (dk_at dksX4_type_0 1 rfl rfl)
theorem dX4_type_2 : decode cX4_type 2 = .ok (.getfield 212, 3) := dk_180 0 212 (dk_at dksX4_type_0 2 rfl rfl)
theorem dX4_type_5 : decode cX4_type 5 = .ok (.bipush 24, 2) := dk_16 24 (dk_at dksX4_type_0 5 rfl rfl)
theorem dX4_type_7 : decode cX4_type 7 = .ok (.if_icmp .ne 7, 3) := dk_160 0 7 (dk_at dksX4_type_0 7 rfl rfl)
theorem dX4_type_10 : decode cX4_type 10 = .ok (.iconst 1, 1) := dk_4 (dk_at dksX4_type_0 10 rfl rfl)
theorem dX4_type_11 : decode cX4_type 11 = .ok (.goto 4, 3) := dk_167 0 4 (dk_at dksX4_type_0 11 rfl rfl)
theorem dX4_type_14 : decode cX4_type 14 = .ok (.iconst 0, 1) := dk_3 (dk_at dksX4_type_0 14 rfl rfl)
theorem dX4_type_15 : decode cX4_type 15 = .ok (.invokevirtual 205, 3) := dk_182 0 205 (dk_at dksX4_type_0 15 rfl rfl)
theorem dX4_type_18 : decode cX4_type 18 = .ok (.ifCond .eq 5, 3) := dk_153 0 5 (dk_at dksX4_type_0 18 rfl rfl)
theorem dX4_type_21 : decode cX4_type 21 = .ok (.iconst 0, 1) := dk_3 (dk_at dksX4_type_0 21 rfl rfl)
theorem dX4_type_22 : decode cX4_type 22 = .ok (.ireturn, 1) := dk_172 (dk_at dksX4_type_0 22 rfl rfl)
theorem dX4_type_23 : decode cX4_type 23 = .ok (.aload_n 0, 1) := dk_42 (dk_at dksX4_type_0 23 rfl rfl)
theorem dX4_type_24 : decode cX4_type 24 = .ok (.getfield 67, 3) := dk_180 0 67 (dk_at dksX4_type_1 0 rfl rfl)
theorem dX4_type_27 : decode cX4_type 27 = .ok (.aload_n 0, 1) := dk_42 (dk_at dksX4_type_1 3 rfl rfl)
theorem dX4_type_28 : decode cX4_type 28 = .ok (.getfield 212, 3) := dk_180 0 212 (dk_at dksX4_type_1 4 rfl rfl)
theorem dX4_type_31 : decode cX4_type 31 = .ok (.iload_n 1, 1) := dk_27 (dk_at dksX4_type_1 7 rfl rfl)
theorem dX4_type_32 : decode cX4_type 32 = .ok (.castore, 1) := dk_85 (dk_at dksX4_type_1 8 rfl rfl)
theorem dX4_type_33 : decode cX4_type 33 = .ok (.aload_n 0, 1) := dk_42 (dk_at dksX4_type_1 9 rfl rfl)
theorem dX4_type_34 : decode cX4_type 34 = .ok (.dup, 1) := dk_89 (dk_at dksX4_type_1 10 rfl rfl)
theorem dX4_type_35 : decode cX4_type 35 = .ok (.getfield 212, 3) := dk_180 0 212 (dk_at dksX4_type_1 11 rfl rfl)
theorem dX4_type_38 : decode cX4_type 38 = .ok (.iconst 1, 1) := dk_4 (dk_at dksX4_type_1 14 rfl rfl)
theorem dX4_type_39 : decode cX4_type 39 = .ok (.iadd, 1) := dk_96 (dk_at dksX4_type_1 15 rfl rfl)
theorem dX4_type_40 : decode cX4_type 40 = .ok (.putfield 212, 3) := dk_181 0 212 (dk_at dksX4_type_1 16 rfl rfl)
theorem dX4_type_43 : decode cX4_type 43 = .ok (.aload_n 0, 1) := dk_42 (dk_at dksX4_type_1 19 rfl rfl)
theorem dX4_type_44 : decode cX4_type 44 = .ok (.getfield 212, 3) := dk_180 0 212 (dk_at dksX4_type_1 20 rfl rfl)
theorem dX4_type_47 : decode cX4_type 47 = .ok (.ireturn, 1) := dk_172 (dk_at dksX4_type_1 23 rfl rfl)
def dkwX4_fault_0 : List UInt8 := [42, 3, 181, 0, 177, 42, 182, 0, 219, 172]
abbrev dktX4_fault_0 : List UInt8 := dkwX4_fault_0 ++ []
theorem dksX4_fault_0 : cX4_fault.data.toList.drop 0 = dktX4_fault_0 := by decide +kernel
theorem dX4_fault_0 : decode cX4_fault 0 = .ok (.aload_n 0, 1) := dk_42 (dk_at dksX4_fault_0 0 rfl rfl)
theorem dX4_fault_1 : decode cX4_fault 1 = .ok (.iconst 0, 1) := dk_3 (dk_at dksX4_fault_0 1 rfl rfl)
theorem dX4_fault_2 : decode cX4_fault 2 = .ok (.putfield 177, 3) := dk_181 0 177 (dk_at dksX4_fault_0 2 rfl rfl)
theorem dX4_fault_5 : decode cX4_fault 5 = .ok (.aload_n 0, 1) := dk_42 (dk_at dksX4_fault_0 5 rfl rfl)
theorem dX4_fault_6 : decode cX4_fault 6 = .ok (.invokevirtual 219, 3) := dk_182 0 219 (dk_at dksX4_fault_0 6 rfl rfl)
theorem dX4_fault_9 : decode cX4_fault 9 = .ok (.ireturn, 1) := dk_172 (dk_at dksX4_fault_0 9 rfl rfl)
def dkwX4_faultOf_2 : List UInt8 := [159, 0, 14, 27, 8, 159, 0, 9, 27, 16, 7, 160, 0, 10, 42, 180, 0, 212, 167, 0, 4, 2, 172]
abbrev dktX4_faultOf_2 : List UInt8 := dkwX4_faultOf_2 ++ []
def dkwX4_faultOf_1 : List UInt8 := [156, 0, 5, 28, 172, 132, 2, 1, 167, 255, 228, 27, 153, 0, 24, 27, 4, 159, 0, 19, 27, 6]
abbrev dktX4_faultOf_1 : List UInt8 := dkwX4_faultOf_1 ++ dktX4_faultOf_2
def dkwX4_faultOf_0 : List UInt8 := [3, 60, 3, 61, 28, 42, 180, 0, 212, 162, 0, 26, 27, 42, 180, 0, 67, 28, 52, 184, 0, 215, 60, 27]
abbrev dktX4_faultOf_0 : List UInt8 := dkwX4_faultOf_0 ++ dktX4_faultOf_1
theorem dksX4_faultOf_0 : cX4_faultOf.data.toList.drop 0 = dktX4_faultOf_0 := by decide +kernel
theorem dksX4_faultOf_1 : cX4_faultOf.data.toList.drop 24 = dktX4_faultOf_1 := dk_seg dksX4_faultOf_0 24 rfl rfl
theorem dksX4_faultOf_2 : cX4_faultOf.data.toList.drop 46 = dktX4_faultOf_2 := dk_seg dksX4_faultOf_1 22 rfl rfl
theorem dX4_faultOf_0 : decode cX4_faultOf 0 = .ok (.iconst 0, 1) := dk_3 (dk_at dksX4_faultOf_0 0 rfl rfl)
theorem dX4_faultOf_1 : decode cX4_faultOf 1 = .ok (.istore_n 1, 1) := dk_60 (dk_at dksX4_faultOf_0 1 rfl rfl)
theorem dX4_faultOf_2 : decode cX4_faultOf 2 = .ok (.iconst 0, 1) := dk_3 (dk_at dksX4_faultOf_0 2 rfl rfl)
theorem dX4_faultOf_3 : decode cX4_faultOf 3 = .ok (.istore_n 2, 1) := dk_61 (dk_at dksX4_faultOf_0 3 rfl rfl)
theorem dX4_faultOf_4 : decode cX4_faultOf 4 = .ok (.iload_n 2, 1) := dk_28 (dk_at dksX4_faultOf_0 4 rfl rfl)
theorem dX4_faultOf_5 : decode cX4_faultOf 5 = .ok (.aload_n 0, 1) := dk_42 (dk_at dksX4_faultOf_0 5 rfl rfl)
theorem dX4_faultOf_6 : decode cX4_faultOf 6 = .ok (.getfield 212, 3) := dk_180 0 212 (dk_at dksX4_faultOf_0 6 rfl rfl)
theorem dX4_faultOf_9 : decode cX4_faultOf 9 = .ok (.if_icmp .ge 26, 3) := dk_162 0 26 (dk_at dksX4_faultOf_0 9 rfl rfl)
theorem dX4_faultOf_12 : decode cX4_faultOf 12 = .ok (.iload_n 1, 1) := dk_27 (dk_at dksX4_faultOf_0 12 rfl rfl)
theorem dX4_faultOf_13 : decode cX4_faultOf 13 = .ok (.aload_n 0, 1) := dk_42 (dk_at dksX4_faultOf_0 13 rfl rfl)
theorem dX4_faultOf_14 : decode cX4_faultOf 14 = .ok (.getfield 67, 3) := dk_180 0 67 (dk_at dksX4_faultOf_0 14 rfl rfl)
theorem dX4_faultOf_17 : decode cX4_faultOf 17 = .ok (.iload_n 2, 1) := dk_28 (dk_at dksX4_faultOf_0 17 rfl rfl)
theorem dX4_faultOf_18 : decode cX4_faultOf 18 = .ok (.caload, 1) := dk_52 (dk_at dksX4_faultOf_0 18 rfl rfl)
theorem dX4_faultOf_19 : decode cX4_faultOf 19 = .ok (.invokestatic 215, 3) := dk_184 0 215 (dk_at dksX4_faultOf_0 19 rfl rfl)
theorem dX4_faultOf_22 : decode cX4_faultOf 22 = .ok (.istore_n 1, 1) := dk_60 (dk_at dksX4_faultOf_0 22 rfl rfl)
theorem dX4_faultOf_23 : decode cX4_faultOf 23 = .ok (.iload_n 1, 1) := dk_27 (dk_at dksX4_faultOf_0 23 rfl rfl)
theorem dX4_faultOf_24 : decode cX4_faultOf 24 = .ok (.ifCond .ge 5, 3) := dk_156 0 5 (dk_at dksX4_faultOf_1 0 rfl rfl)
theorem dX4_faultOf_27 : decode cX4_faultOf 27 = .ok (.iload_n 2, 1) := dk_28 (dk_at dksX4_faultOf_1 3 rfl rfl)
theorem dX4_faultOf_28 : decode cX4_faultOf 28 = .ok (.ireturn, 1) := dk_172 (dk_at dksX4_faultOf_1 4 rfl rfl)
theorem dX4_faultOf_29 : decode cX4_faultOf 29 = .ok (.iinc 2 1, 3) := dk_132 2 1 (dk_at dksX4_faultOf_1 5 rfl rfl)
theorem dX4_faultOf_32 : decode cX4_faultOf 32 = .ok (.goto (-28), 3) := dk_167 255 228 (dk_at dksX4_faultOf_1 8 rfl rfl)
theorem dX4_faultOf_35 : decode cX4_faultOf 35 = .ok (.iload_n 1, 1) := dk_27 (dk_at dksX4_faultOf_1 11 rfl rfl)
theorem dX4_faultOf_36 : decode cX4_faultOf 36 = .ok (.ifCond .eq 24, 3) := dk_153 0 24 (dk_at dksX4_faultOf_1 12 rfl rfl)
theorem dX4_faultOf_39 : decode cX4_faultOf 39 = .ok (.iload_n 1, 1) := dk_27 (dk_at dksX4_faultOf_1 15 rfl rfl)
theorem dX4_faultOf_40 : decode cX4_faultOf 40 = .ok (.iconst 1, 1) := dk_4 (dk_at dksX4_faultOf_1 16 rfl rfl)
theorem dX4_faultOf_41 : decode cX4_faultOf 41 = .ok (.if_icmp .eq 19, 3) := dk_159 0 19 (dk_at dksX4_faultOf_1 17 rfl rfl)
theorem dX4_faultOf_44 : decode cX4_faultOf 44 = .ok (.iload_n 1, 1) := dk_27 (dk_at dksX4_faultOf_1 20 rfl rfl)
theorem dX4_faultOf_45 : decode cX4_faultOf 45 = .ok (.iconst 3, 1) := dk_6 (dk_at dksX4_faultOf_1 21 rfl rfl)
theorem dX4_faultOf_46 : decode cX4_faultOf 46 = .ok (.if_icmp .eq 14, 3) := dk_159 0 14 (dk_at dksX4_faultOf_2 0 rfl rfl)
theorem dX4_faultOf_49 : decode cX4_faultOf 49 = .ok (.iload_n 1, 1) := dk_27 (dk_at dksX4_faultOf_2 3 rfl rfl)
theorem dX4_faultOf_50 : decode cX4_faultOf 50 = .ok (.iconst 5, 1) := dk_8 (dk_at dksX4_faultOf_2 4 rfl rfl)
theorem dX4_faultOf_51 : decode cX4_faultOf 51 = .ok (.if_icmp .eq 9, 3) := dk_159 0 9 (dk_at dksX4_faultOf_2 5 rfl rfl)
theorem dX4_faultOf_54 : decode cX4_faultOf 54 = .ok (.iload_n 1, 1) := dk_27 (dk_at dksX4_faultOf_2 8 rfl rfl)
theorem dX4_faultOf_55 : decode cX4_faultOf 55 = .ok (.bipush 7, 2) := dk_16 7 (dk_at dksX4_faultOf_2 9 rfl rfl)
theorem dX4_faultOf_57 : decode cX4_faultOf 57 = .ok (.if_icmp .ne 10, 3) := dk_160 0 10 (dk_at dksX4_faultOf_2 11 rfl rfl)
theorem dX4_faultOf_60 : decode cX4_faultOf 60 = .ok (.aload_n 0, 1) := dk_42 (dk_at dksX4_faultOf_2 14 rfl rfl)
theorem dX4_faultOf_61 : decode cX4_faultOf 61 = .ok (.getfield 212, 3) := dk_180 0 212 (dk_at dksX4_faultOf_2 15 rfl rfl)
theorem dX4_faultOf_64 : decode cX4_faultOf 64 = .ok (.goto 4, 3) := dk_167 0 4 (dk_at dksX4_faultOf_2 18 rfl rfl)
theorem dX4_faultOf_67 : decode cX4_faultOf 67 = .ok (.iconst (-1), 1) := dk_2 (dk_at dksX4_faultOf_2 21 rfl rfl)
theorem dX4_faultOf_68 : decode cX4_faultOf 68 = .ok (.ireturn, 1) := dk_172 (dk_at dksX4_faultOf_2 22 rfl rfl)
def dkwX4_next_10 : List UInt8 := [153, 0, 9, 26, 4, 96, 167, 0, 4, 2, 172, 2, 172]
abbrev dktX4_next_10 : List UInt8 := dkwX4_next_10 ++ []
def dkwX4_next_9 : List UInt8 := [153, 0, 8, 16, 8, 167, 0, 4, 2, 172, 28, 153, 0, 8, 16, 8, 167, 0, 4, 2, 172, 28]
abbrev dktX4_next_9 : List UInt8 := dkwX4_next_9 ++ dktX4_next_10
def dkwX4_next_8 : List UInt8 := [167, 0, 13, 21, 4, 153, 0, 7, 8, 167, 0, 4, 2, 172, 29, 153, 0, 8, 16, 7, 167, 0, 13, 28]
abbrev dktX4_next_8 : List UInt8 := dkwX4_next_8 ++ dktX4_next_9
def dkwX4_next_7 : List UInt8 := [8, 167, 0, 4, 2, 172, 28, 153, 0, 8, 16, 6, 167, 0, 4, 2, 172, 28, 153, 0, 8, 16, 6]
abbrev dktX4_next_7 : List UInt8 := dkwX4_next_7 ++ dktX4_next_8
def dkwX4_next_6 : List UInt8 := [172, 28, 153, 0, 7, 5, 167, 0, 23, 27, 16, 46, 160, 0, 7, 7, 167, 0, 13, 21, 4, 153, 0, 7]
abbrev dktX4_next_6 : List UInt8 := dkwX4_next_6 ++ dktX4_next_7
def dkwX4_next_5 : List UInt8 := [167, 0, 4, 2, 172, 28, 153, 0, 7, 5, 167, 0, 14, 27, 16, 46, 160, 0, 7, 6, 167, 0, 4, 2]
abbrev dktX4_next_5 : List UInt8 := dkwX4_next_5 ++ dktX4_next_6
def dkwX4_next_4 : List UInt8 := [29, 153, 0, 7, 4, 167, 0, 22, 28, 153, 0, 7, 5, 167, 0, 14, 27, 16, 46, 160, 0, 7, 6]
abbrev dktX4_next_4 : List UInt8 := dkwX4_next_4 ++ dktX4_next_5
def dkwX4_next_3 : List UInt8 := [170, 0, 0, 0, 0, 0, 0, 207, 0, 0, 0, 0, 0, 0, 0, 9, 0, 0, 0, 56, 0, 0, 0, 84, 0, 0, 0, 104, 0, 0, 0, 133, 0, 0, 0, 144, 0, 0, 0, 164, 0, 0, 0, 144, 0, 0, 0, 184, 0, 0, 0, 195, 0, 0, 0, 195]
abbrev dktX4_next_3 : List UInt8 := dkwX4_next_3 ++ dktX4_next_4
def dkwX4_next_2 : List UInt8 := [4, 167, 0, 4, 3, 54, 4, 26]
abbrev dktX4_next_2 : List UInt8 := dkwX4_next_2 ++ dktX4_next_3
def dkwX4_next_1 : List UInt8 := [27, 16, 45, 160, 0, 7, 4, 167, 0, 4, 3, 62, 27, 16, 101, 159, 0, 9, 27, 16, 69, 160, 0, 7]
abbrev dktX4_next_1 : List UInt8 := dkwX4_next_1 ++ dktX4_next_2
def dkwX4_next_0 : List UInt8 := [27, 16, 48, 161, 0, 13, 27, 16, 57, 163, 0, 7, 4, 167, 0, 4, 3, 61, 27, 16, 43, 159, 0, 9]
abbrev dktX4_next_0 : List UInt8 := dkwX4_next_0 ++ dktX4_next_1
theorem dksX4_next_0 : cX4_next.data.toList.drop 0 = dktX4_next_0 := by decide +kernel
theorem dksX4_next_1 : cX4_next.data.toList.drop 24 = dktX4_next_1 := dk_seg dksX4_next_0 24 rfl rfl
theorem dksX4_next_2 : cX4_next.data.toList.drop 48 = dktX4_next_2 := dk_seg dksX4_next_1 24 rfl rfl
theorem dksX4_next_3 : cX4_next.data.toList.drop 56 = dktX4_next_3 := dk_seg dksX4_next_2 8 rfl rfl
theorem dksX4_next_4 : cX4_next.data.toList.drop 112 = dktX4_next_4 := dk_seg dksX4_next_3 56 rfl rfl
theorem dksX4_next_5 : cX4_next.data.toList.drop 135 = dktX4_next_5 := dk_seg dksX4_next_4 23 rfl rfl
theorem dksX4_next_6 : cX4_next.data.toList.drop 159 = dktX4_next_6 := dk_seg dksX4_next_5 24 rfl rfl
theorem dksX4_next_7 : cX4_next.data.toList.drop 183 = dktX4_next_7 := dk_seg dksX4_next_6 24 rfl rfl
theorem dksX4_next_8 : cX4_next.data.toList.drop 206 = dktX4_next_8 := dk_seg dksX4_next_7 23 rfl rfl
theorem dksX4_next_9 : cX4_next.data.toList.drop 230 = dktX4_next_9 := dk_seg dksX4_next_8 24 rfl rfl
theorem dksX4_next_10 : cX4_next.data.toList.drop 252 = dktX4_next_10 := dk_seg dksX4_next_9 22 rfl rfl
theorem dX4_next_0 : decode cX4_next 0 = .ok (.iload_n 1, 1) := dk_27 (dk_at dksX4_next_0 0 rfl rfl)
theorem dX4_next_1 : decode cX4_next 1 = .ok (.bipush 48, 2) := dk_16 48 (dk_at dksX4_next_0 1 rfl rfl)
theorem dX4_next_3 : decode cX4_next 3 = .ok (.if_icmp .lt 13, 3) := dk_161 0 13 (dk_at dksX4_next_0 3 rfl rfl)
theorem dX4_next_6 : decode cX4_next 6 = .ok (.iload_n 1, 1) := dk_27 (dk_at dksX4_next_0 6 rfl rfl)
theorem dX4_next_7 : decode cX4_next 7 = .ok (.bipush 57, 2) := dk_16 57 (dk_at dksX4_next_0 7 rfl rfl)
theorem dX4_next_9 : decode cX4_next 9 = .ok (.if_icmp .gt 7, 3) := dk_163 0 7 (dk_at dksX4_next_0 9 rfl rfl)
theorem dX4_next_12 : decode cX4_next 12 = .ok (.iconst 1, 1) := dk_4 (dk_at dksX4_next_0 12 rfl rfl)
theorem dX4_next_13 : decode cX4_next 13 = .ok (.goto 4, 3) := dk_167 0 4 (dk_at dksX4_next_0 13 rfl rfl)
theorem dX4_next_16 : decode cX4_next 16 = .ok (.iconst 0, 1) := dk_3 (dk_at dksX4_next_0 16 rfl rfl)
theorem dX4_next_17 : decode cX4_next 17 = .ok (.istore_n 2, 1) := dk_61 (dk_at dksX4_next_0 17 rfl rfl)
theorem dX4_next_18 : decode cX4_next 18 = .ok (.iload_n 1, 1) := dk_27 (dk_at dksX4_next_0 18 rfl rfl)
theorem dX4_next_19 : decode cX4_next 19 = .ok (.bipush 43, 2) := dk_16 43 (dk_at dksX4_next_0 19 rfl rfl)
theorem dX4_next_21 : decode cX4_next 21 = .ok (.if_icmp .eq 9, 3) := dk_159 0 9 (dk_at dksX4_next_0 21 rfl rfl)
theorem dX4_next_24 : decode cX4_next 24 = .ok (.iload_n 1, 1) := dk_27 (dk_at dksX4_next_1 0 rfl rfl)
theorem dX4_next_25 : decode cX4_next 25 = .ok (.bipush 45, 2) := dk_16 45 (dk_at dksX4_next_1 1 rfl rfl)
theorem dX4_next_27 : decode cX4_next 27 = .ok (.if_icmp .ne 7, 3) := dk_160 0 7 (dk_at dksX4_next_1 3 rfl rfl)
theorem dX4_next_30 : decode cX4_next 30 = .ok (.iconst 1, 1) := dk_4 (dk_at dksX4_next_1 6 rfl rfl)
theorem dX4_next_31 : decode cX4_next 31 = .ok (.goto 4, 3) := dk_167 0 4 (dk_at dksX4_next_1 7 rfl rfl)
theorem dX4_next_34 : decode cX4_next 34 = .ok (.iconst 0, 1) := dk_3 (dk_at dksX4_next_1 10 rfl rfl)
theorem dX4_next_35 : decode cX4_next 35 = .ok (.istore_n 3, 1) := dk_62 (dk_at dksX4_next_1 11 rfl rfl)
theorem dX4_next_36 : decode cX4_next 36 = .ok (.iload_n 1, 1) := dk_27 (dk_at dksX4_next_1 12 rfl rfl)
theorem dX4_next_37 : decode cX4_next 37 = .ok (.bipush 101, 2) := dk_16 101 (dk_at dksX4_next_1 13 rfl rfl)
theorem dX4_next_39 : decode cX4_next 39 = .ok (.if_icmp .eq 9, 3) := dk_159 0 9 (dk_at dksX4_next_1 15 rfl rfl)
theorem dX4_next_42 : decode cX4_next 42 = .ok (.iload_n 1, 1) := dk_27 (dk_at dksX4_next_1 18 rfl rfl)
theorem dX4_next_43 : decode cX4_next 43 = .ok (.bipush 69, 2) := dk_16 69 (dk_at dksX4_next_1 19 rfl rfl)
theorem dX4_next_45 : decode cX4_next 45 = .ok (.if_icmp .ne 7, 3) := dk_160 0 7 (dk_at dksX4_next_1 21 rfl rfl)
theorem dX4_next_48 : decode cX4_next 48 = .ok (.iconst 1, 1) := dk_4 (dk_at dksX4_next_2 0 rfl rfl)
theorem dX4_next_49 : decode cX4_next 49 = .ok (.goto 4, 3) := dk_167 0 4 (dk_at dksX4_next_2 1 rfl rfl)
theorem dX4_next_52 : decode cX4_next 52 = .ok (.iconst 0, 1) := dk_3 (dk_at dksX4_next_2 4 rfl rfl)
theorem dX4_next_53 : decode cX4_next 53 = .ok (.istore 4, 2) := dk_54 4 (dk_at dksX4_next_2 5 rfl rfl)
theorem dX4_next_55 : decode cX4_next 55 = .ok (.iload_n 0, 1) := dk_26 (dk_at dksX4_next_2 7 rfl rfl)
theorem dX4_next_56 : decode cX4_next 56 = .ok (.tableswitch 207 0 9 #[56, 84, 104, 133, 144, 164, 144, 184, 195, 195], 56) := by decide +kernel
theorem dX4_next_112 : decode cX4_next 112 = .ok (.iload_n 3, 1) := dk_29 (dk_at dksX4_next_4 0 rfl rfl)
theorem dX4_next_113 : decode cX4_next 113 = .ok (.ifCond .eq 7, 3) := dk_153 0 7 (dk_at dksX4_next_4 1 rfl rfl)
theorem dX4_next_116 : decode cX4_next 116 = .ok (.iconst 1, 1) := dk_4 (dk_at dksX4_next_4 4 rfl rfl)
theorem dX4_next_117 : decode cX4_next 117 = .ok (.goto 22, 3) := dk_167 0 22 (dk_at dksX4_next_4 5 rfl rfl)
theorem dX4_next_120 : decode cX4_next 120 = .ok (.iload_n 2, 1) := dk_28 (dk_at dksX4_next_4 8 rfl rfl)
theorem dX4_next_121 : decode cX4_next 121 = .ok (.ifCond .eq 7, 3) := dk_153 0 7 (dk_at dksX4_next_4 9 rfl rfl)
theorem dX4_next_124 : decode cX4_next 124 = .ok (.iconst 2, 1) := dk_5 (dk_at dksX4_next_4 12 rfl rfl)
theorem dX4_next_125 : decode cX4_next 125 = .ok (.goto 14, 3) := dk_167 0 14 (dk_at dksX4_next_4 13 rfl rfl)
theorem dX4_next_128 : decode cX4_next 128 = .ok (.iload_n 1, 1) := dk_27 (dk_at dksX4_next_4 16 rfl rfl)
theorem dX4_next_129 : decode cX4_next 129 = .ok (.bipush 46, 2) := dk_16 46 (dk_at dksX4_next_4 17 rfl rfl)
theorem dX4_next_131 : decode cX4_next 131 = .ok (.if_icmp .ne 7, 3) := dk_160 0 7 (dk_at dksX4_next_4 19 rfl rfl)
theorem dX4_next_134 : decode cX4_next 134 = .ok (.iconst 3, 1) := dk_6 (dk_at dksX4_next_4 22 rfl rfl)
theorem dX4_next_135 : decode cX4_next 135 = .ok (.goto 4, 3) := dk_167 0 4 (dk_at dksX4_next_5 0 rfl rfl)
theorem dX4_next_138 : decode cX4_next 138 = .ok (.iconst (-1), 1) := dk_2 (dk_at dksX4_next_5 3 rfl rfl)
theorem dX4_next_139 : decode cX4_next 139 = .ok (.ireturn, 1) := dk_172 (dk_at dksX4_next_5 4 rfl rfl)
theorem dX4_next_140 : decode cX4_next 140 = .ok (.iload_n 2, 1) := dk_28 (dk_at dksX4_next_5 5 rfl rfl)
theorem dX4_next_141 : decode cX4_next 141 = .ok (.ifCond .eq 7, 3) := dk_153 0 7 (dk_at dksX4_next_5 6 rfl rfl)
theorem dX4_next_144 : decode cX4_next 144 = .ok (.iconst 2, 1) := dk_5 (dk_at dksX4_next_5 9 rfl rfl)
theorem dX4_next_145 : decode cX4_next 145 = .ok (.goto 14, 3) := dk_167 0 14 (dk_at dksX4_next_5 10 rfl rfl)
theorem dX4_next_148 : decode cX4_next 148 = .ok (.iload_n 1, 1) := dk_27 (dk_at dksX4_next_5 13 rfl rfl)
theorem dX4_next_149 : decode cX4_next 149 = .ok (.bipush 46, 2) := dk_16 46 (dk_at dksX4_next_5 14 rfl rfl)
theorem dX4_next_151 : decode cX4_next 151 = .ok (.if_icmp .ne 7, 3) := dk_160 0 7 (dk_at dksX4_next_5 16 rfl rfl)
theorem dX4_next_154 : decode cX4_next 154 = .ok (.iconst 3, 1) := dk_6 (dk_at dksX4_next_5 19 rfl rfl)
theorem dX4_next_155 : decode cX4_next 155 = .ok (.goto 4, 3) := dk_167 0 4 (dk_at dksX4_next_5 20 rfl rfl)
theorem dX4_next_158 : decode cX4_next 158 = .ok (.iconst (-1), 1) := dk_2 (dk_at dksX4_next_5 23 rfl rfl)
theorem dX4_next_159 : decode cX4_next 159 = .ok (.ireturn, 1) := dk_172 (dk_at dksX4_next_6 0 rfl rfl)
theorem dX4_next_160 : decode cX4_next 160 = .ok (.iload_n 2, 1) := dk_28 (dk_at dksX4_next_6 1 rfl rfl)
theorem dX4_next_161 : decode cX4_next 161 = .ok (.ifCond .eq 7, 3) := dk_153 0 7 (dk_at dksX4_next_6 2 rfl rfl)
theorem dX4_next_164 : decode cX4_next 164 = .ok (.iconst 2, 1) := dk_5 (dk_at dksX4_next_6 5 rfl rfl)
theorem dX4_next_165 : decode cX4_next 165 = .ok (.goto 23, 3) := dk_167 0 23 (dk_at dksX4_next_6 6 rfl rfl)
theorem dX4_next_168 : decode cX4_next 168 = .ok (.iload_n 1, 1) := dk_27 (dk_at dksX4_next_6 9 rfl rfl)
theorem dX4_next_169 : decode cX4_next 169 = .ok (.bipush 46, 2) := dk_16 46 (dk_at dksX4_next_6 10 rfl rfl)
theorem dX4_next_171 : decode cX4_next 171 = .ok (.if_icmp .ne 7, 3) := dk_160 0 7 (dk_at dksX4_next_6 12 rfl rfl)
theorem dX4_next_174 : decode cX4_next 174 = .ok (.iconst 4, 1) := dk_7 (dk_at dksX4_next_6 15 rfl rfl)
theorem dX4_next_175 : decode cX4_next 175 = .ok (.goto 13, 3) := dk_167 0 13 (dk_at dksX4_next_6 16 rfl rfl)
theorem dX4_next_178 : decode cX4_next 178 = .ok (.iload 4, 2) := dk_21 4 (dk_at dksX4_next_6 19 rfl rfl)
theorem dX4_next_180 : decode cX4_next 180 = .ok (.ifCond .eq 7, 3) := dk_153 0 7 (dk_at dksX4_next_6 21 rfl rfl)
theorem dX4_next_183 : decode cX4_next 183 = .ok (.iconst 5, 1) := dk_8 (dk_at dksX4_next_7 0 rfl rfl)
theorem dX4_next_184 : decode cX4_next 184 = .ok (.goto 4, 3) := dk_167 0 4 (dk_at dksX4_next_7 1 rfl rfl)
theorem dX4_next_187 : decode cX4_next 187 = .ok (.iconst (-1), 1) := dk_2 (dk_at dksX4_next_7 4 rfl rfl)
theorem dX4_next_188 : decode cX4_next 188 = .ok (.ireturn, 1) := dk_172 (dk_at dksX4_next_7 5 rfl rfl)
theorem dX4_next_189 : decode cX4_next 189 = .ok (.iload_n 2, 1) := dk_28 (dk_at dksX4_next_7 6 rfl rfl)
theorem dX4_next_190 : decode cX4_next 190 = .ok (.ifCond .eq 8, 3) := dk_153 0 8 (dk_at dksX4_next_7 7 rfl rfl)
theorem dX4_next_193 : decode cX4_next 193 = .ok (.bipush 6, 2) := dk_16 6 (dk_at dksX4_next_7 10 rfl rfl)
theorem dX4_next_195 : decode cX4_next 195 = .ok (.goto 4, 3) := dk_167 0 4 (dk_at dksX4_next_7 12 rfl rfl)
theorem dX4_next_198 : decode cX4_next 198 = .ok (.iconst (-1), 1) := dk_2 (dk_at dksX4_next_7 15 rfl rfl)
theorem dX4_next_199 : decode cX4_next 199 = .ok (.ireturn, 1) := dk_172 (dk_at dksX4_next_7 16 rfl rfl)
theorem dX4_next_200 : decode cX4_next 200 = .ok (.iload_n 2, 1) := dk_28 (dk_at dksX4_next_7 17 rfl rfl)
theorem dX4_next_201 : decode cX4_next 201 = .ok (.ifCond .eq 8, 3) := dk_153 0 8 (dk_at dksX4_next_7 18 rfl rfl)
theorem dX4_next_204 : decode cX4_next 204 = .ok (.bipush 6, 2) := dk_16 6 (dk_at dksX4_next_7 21 rfl rfl)
theorem dX4_next_206 : decode cX4_next 206 = .ok (.goto 13, 3) := dk_167 0 13 (dk_at dksX4_next_8 0 rfl rfl)
theorem dX4_next_209 : decode cX4_next 209 = .ok (.iload 4, 2) := dk_21 4 (dk_at dksX4_next_8 3 rfl rfl)
theorem dX4_next_211 : decode cX4_next 211 = .ok (.ifCond .eq 7, 3) := dk_153 0 7 (dk_at dksX4_next_8 5 rfl rfl)
theorem dX4_next_214 : decode cX4_next 214 = .ok (.iconst 5, 1) := dk_8 (dk_at dksX4_next_8 8 rfl rfl)
theorem dX4_next_215 : decode cX4_next 215 = .ok (.goto 4, 3) := dk_167 0 4 (dk_at dksX4_next_8 9 rfl rfl)
theorem dX4_next_218 : decode cX4_next 218 = .ok (.iconst (-1), 1) := dk_2 (dk_at dksX4_next_8 12 rfl rfl)
theorem dX4_next_219 : decode cX4_next 219 = .ok (.ireturn, 1) := dk_172 (dk_at dksX4_next_8 13 rfl rfl)
theorem dX4_next_220 : decode cX4_next 220 = .ok (.iload_n 3, 1) := dk_29 (dk_at dksX4_next_8 14 rfl rfl)
theorem dX4_next_221 : decode cX4_next 221 = .ok (.ifCond .eq 8, 3) := dk_153 0 8 (dk_at dksX4_next_8 15 rfl rfl)
theorem dX4_next_224 : decode cX4_next 224 = .ok (.bipush 7, 2) := dk_16 7 (dk_at dksX4_next_8 18 rfl rfl)
theorem dX4_next_226 : decode cX4_next 226 = .ok (.goto 13, 3) := dk_167 0 13 (dk_at dksX4_next_8 20 rfl rfl)
theorem dX4_next_229 : decode cX4_next 229 = .ok (.iload_n 2, 1) := dk_28 (dk_at dksX4_next_8 23 rfl rfl)
theorem dX4_next_230 : decode cX4_next 230 = .ok (.ifCond .eq 8, 3) := dk_153 0 8 (dk_at dksX4_next_9 0 rfl rfl)
theorem dX4_next_233 : decode cX4_next 233 = .ok (.bipush 8, 2) := dk_16 8 (dk_at dksX4_next_9 3 rfl rfl)
theorem dX4_next_235 : decode cX4_next 235 = .ok (.goto 4, 3) := dk_167 0 4 (dk_at dksX4_next_9 5 rfl rfl)
theorem dX4_next_238 : decode cX4_next 238 = .ok (.iconst (-1), 1) := dk_2 (dk_at dksX4_next_9 8 rfl rfl)
theorem dX4_next_239 : decode cX4_next 239 = .ok (.ireturn, 1) := dk_172 (dk_at dksX4_next_9 9 rfl rfl)
theorem dX4_next_240 : decode cX4_next 240 = .ok (.iload_n 2, 1) := dk_28 (dk_at dksX4_next_9 10 rfl rfl)
theorem dX4_next_241 : decode cX4_next 241 = .ok (.ifCond .eq 8, 3) := dk_153 0 8 (dk_at dksX4_next_9 11 rfl rfl)
theorem dX4_next_244 : decode cX4_next 244 = .ok (.bipush 8, 2) := dk_16 8 (dk_at dksX4_next_9 14 rfl rfl)
theorem dX4_next_246 : decode cX4_next 246 = .ok (.goto 4, 3) := dk_167 0 4 (dk_at dksX4_next_9 16 rfl rfl)
theorem dX4_next_249 : decode cX4_next 249 = .ok (.iconst (-1), 1) := dk_2 (dk_at dksX4_next_9 19 rfl rfl)
theorem dX4_next_250 : decode cX4_next 250 = .ok (.ireturn, 1) := dk_172 (dk_at dksX4_next_9 20 rfl rfl)
theorem dX4_next_251 : decode cX4_next 251 = .ok (.iload_n 2, 1) := dk_28 (dk_at dksX4_next_9 21 rfl rfl)
theorem dX4_next_252 : decode cX4_next 252 = .ok (.ifCond .eq 9, 3) := dk_153 0 9 (dk_at dksX4_next_10 0 rfl rfl)
theorem dX4_next_255 : decode cX4_next 255 = .ok (.iload_n 0, 1) := dk_26 (dk_at dksX4_next_10 3 rfl rfl)
theorem dX4_next_256 : decode cX4_next 256 = .ok (.iconst 1, 1) := dk_4 (dk_at dksX4_next_10 4 rfl rfl)
theorem dX4_next_257 : decode cX4_next 257 = .ok (.iadd, 1) := dk_96 (dk_at dksX4_next_10 5 rfl rfl)
theorem dX4_next_258 : decode cX4_next 258 = .ok (.goto 4, 3) := dk_167 0 4 (dk_at dksX4_next_10 6 rfl rfl)
theorem dX4_next_261 : decode cX4_next 261 = .ok (.iconst (-1), 1) := dk_2 (dk_at dksX4_next_10 9 rfl rfl)
theorem dX4_next_262 : decode cX4_next 262 = .ok (.ireturn, 1) := dk_172 (dk_at dksX4_next_10 10 rfl rfl)
theorem dX4_next_263 : decode cX4_next 263 = .ok (.iconst (-1), 1) := dk_2 (dk_at dksX4_next_10 11 rfl rfl)
theorem dX4_next_264 : decode cX4_next 264 = .ok (.ireturn, 1) := dk_172 (dk_at dksX4_next_10 12 rfl rfl)
def dkwX4_read_10 : List UInt8 := [153, 0, 5, 3, 172, 42, 3, 181, 0, 212, 42, 180, 0, 60, 27, 46, 172]
abbrev dktX4_read_10 : List UInt8 := dkwX4_read_10 ++ []
def dkwX4_read_9 : List UInt8 := [167, 0, 4, 3, 28, 21, 4, 29, 104, 100, 182, 0, 223, 153, 0, 7, 3, 167, 0, 4, 6, 182, 0, 205]
abbrev dktX4_read_9 : List UInt8 := dkwX4_read_9 ++ dktX4_read_10
def dkwX4_read_8 : List UInt8 := [132, 6, 1, 167, 255, 117, 42, 42, 27, 7, 42, 180, 0, 67, 3, 52, 16, 45, 160, 0, 7, 4]
abbrev dktX4_read_8 : List UInt8 := dkwX4_read_8 ++ dktX4_read_9
def dkwX4_read_7 : List UInt8 := [21, 5, 16, 7, 160, 0, 18, 42, 180, 0, 67, 21, 6, 52, 16, 45, 160, 0, 6, 2, 54, 4]
abbrev dktX4_read_7 : List UInt8 := dkwX4_read_7 ++ dktX4_read_8
def dkwX4_read_6 : List UInt8 := [61, 21, 5, 16, 8, 161, 0, 19, 16, 10, 29, 104, 42, 180, 0, 67, 21, 6, 52, 96, 16, 48, 100, 62]
abbrev dktX4_read_6 : List UInt8 := dkwX4_read_6 ++ dktX4_read_7
def dkwX4_read_5 : List UInt8 := [133, 182, 0, 33, 42, 7, 8, 182, 0, 27, 28, 21, 5, 16, 6, 160, 0, 7, 4, 167, 0, 4, 3, 96]
abbrev dktX4_read_5 : List UInt8 := dkwX4_read_5 ++ dktX4_read_6
def dkwX4_read_4 : List UInt8 := [52, 16, 46, 159, 0, 46, 42, 7, 4, 182, 0, 24, 42, 8, 42, 180, 0, 67, 21, 6, 52, 16, 48, 100]
abbrev dktX4_read_4 : List UInt8 := dkwX4_read_4 ++ dktX4_read_5
def dkwX4_read_3 : List UInt8 := [184, 0, 215, 54, 5, 21, 5, 5, 159, 0, 10, 21, 5, 16, 6, 160, 0, 58, 42, 180, 0, 67, 21, 6]
abbrev dktX4_read_3 : List UInt8 := dkwX4_read_3 ++ dktX4_read_4
def dkwX4_read_2 : List UInt8 := [54, 5, 3, 54, 6, 21, 6, 42, 180, 0, 212, 162, 0, 136, 21, 5, 42, 180, 0, 67, 21, 6, 52]
abbrev dktX4_read_2 : List UInt8 := dkwX4_read_2 ++ dktX4_read_3
def dkwX4_read_1 : List UInt8 := [182, 0, 205, 153, 0, 5, 3, 172, 42, 180, 0, 1, 7, 3, 79, 3, 61, 3, 62, 4, 54, 4, 3]
abbrev dktX4_read_1 : List UInt8 := dkwX4_read_1 ++ dktX4_read_2
def dkwX4_read_0 : List UInt8 := [42, 27, 184, 0, 198, 154, 0, 7, 4, 167, 0, 15, 42, 182, 0, 219, 155, 0, 7, 5, 167, 0, 4, 3]
abbrev dktX4_read_0 : List UInt8 := dkwX4_read_0 ++ dktX4_read_1
theorem dksX4_read_0 : cX4_read.data.toList.drop 0 = dktX4_read_0 := by decide +kernel
theorem dksX4_read_1 : cX4_read.data.toList.drop 24 = dktX4_read_1 := dk_seg dksX4_read_0 24 rfl rfl
theorem dksX4_read_2 : cX4_read.data.toList.drop 47 = dktX4_read_2 := dk_seg dksX4_read_1 23 rfl rfl
theorem dksX4_read_3 : cX4_read.data.toList.drop 70 = dktX4_read_3 := dk_seg dksX4_read_2 23 rfl rfl
theorem dksX4_read_4 : cX4_read.data.toList.drop 94 = dktX4_read_4 := dk_seg dksX4_read_3 24 rfl rfl
theorem dksX4_read_5 : cX4_read.data.toList.drop 118 = dktX4_read_5 := dk_seg dksX4_read_4 24 rfl rfl
theorem dksX4_read_6 : cX4_read.data.toList.drop 142 = dktX4_read_6 := dk_seg dksX4_read_5 24 rfl rfl
theorem dksX4_read_7 : cX4_read.data.toList.drop 166 = dktX4_read_7 := dk_seg dksX4_read_6 24 rfl rfl
theorem dksX4_read_8 : cX4_read.data.toList.drop 188 = dktX4_read_8 := dk_seg dksX4_read_7 22 rfl rfl
theorem dksX4_read_9 : cX4_read.data.toList.drop 210 = dktX4_read_9 := dk_seg dksX4_read_8 22 rfl rfl
theorem dksX4_read_10 : cX4_read.data.toList.drop 234 = dktX4_read_10 := dk_seg dksX4_read_9 24 rfl rfl
theorem dX4_read_0 : decode cX4_read 0 = .ok (.aload_n 0, 1) := dk_42 (dk_at dksX4_read_0 0 rfl rfl)
theorem dX4_read_1 : decode cX4_read 1 = .ok (.iload_n 1, 1) := dk_27 (dk_at dksX4_read_0 1 rfl rfl)
theorem dX4_read_2 : decode cX4_read 2 = .ok (.invokestatic 198, 3) := dk_184 0 198 (dk_at dksX4_read_0 2 rfl rfl)
theorem dX4_read_5 : decode cX4_read 5 = .ok (.ifCond .ne 7, 3) := dk_154 0 7 (dk_at dksX4_read_0 5 rfl rfl)
theorem dX4_read_8 : decode cX4_read 8 = .ok (.iconst 1, 1) := dk_4 (dk_at dksX4_read_0 8 rfl rfl)
theorem dX4_read_9 : decode cX4_read 9 = .ok (.goto 15, 3) := dk_167 0 15 (dk_at dksX4_read_0 9 rfl rfl)
theorem dX4_read_12 : decode cX4_read 12 = .ok (.aload_n 0, 1) := dk_42 (dk_at dksX4_read_0 12 rfl rfl)
theorem dX4_read_13 : decode cX4_read 13 = .ok (.invokevirtual 219, 3) := dk_182 0 219 (dk_at dksX4_read_0 13 rfl rfl)
theorem dX4_read_16 : decode cX4_read 16 = .ok (.ifCond .lt 7, 3) := dk_155 0 7 (dk_at dksX4_read_0 16 rfl rfl)
theorem dX4_read_19 : decode cX4_read 19 = .ok (.iconst 2, 1) := dk_5 (dk_at dksX4_read_0 19 rfl rfl)
theorem dX4_read_20 : decode cX4_read 20 = .ok (.goto 4, 3) := dk_167 0 4 (dk_at dksX4_read_0 20 rfl rfl)
theorem dX4_read_23 : decode cX4_read 23 = .ok (.iconst 0, 1) := dk_3 (dk_at dksX4_read_0 23 rfl rfl)
theorem dX4_read_24 : decode cX4_read 24 = .ok (.invokevirtual 205, 3) := dk_182 0 205 (dk_at dksX4_read_1 0 rfl rfl)
theorem dX4_read_27 : decode cX4_read 27 = .ok (.ifCond .eq 5, 3) := dk_153 0 5 (dk_at dksX4_read_1 3 rfl rfl)
theorem dX4_read_30 : decode cX4_read 30 = .ok (.iconst 0, 1) := dk_3 (dk_at dksX4_read_1 6 rfl rfl)
theorem dX4_read_31 : decode cX4_read 31 = .ok (.ireturn, 1) := dk_172 (dk_at dksX4_read_1 7 rfl rfl)
theorem dX4_read_32 : decode cX4_read 32 = .ok (.aload_n 0, 1) := dk_42 (dk_at dksX4_read_1 8 rfl rfl)
theorem dX4_read_33 : decode cX4_read 33 = .ok (.getfield 1, 3) := dk_180 0 1 (dk_at dksX4_read_1 9 rfl rfl)
theorem dX4_read_36 : decode cX4_read 36 = .ok (.iconst 4, 1) := dk_7 (dk_at dksX4_read_1 12 rfl rfl)
theorem dX4_read_37 : decode cX4_read 37 = .ok (.iconst 0, 1) := dk_3 (dk_at dksX4_read_1 13 rfl rfl)
theorem dX4_read_38 : decode cX4_read 38 = .ok (.iastore, 1) := dk_79 (dk_at dksX4_read_1 14 rfl rfl)
theorem dX4_read_39 : decode cX4_read 39 = .ok (.iconst 0, 1) := dk_3 (dk_at dksX4_read_1 15 rfl rfl)
theorem dX4_read_40 : decode cX4_read 40 = .ok (.istore_n 2, 1) := dk_61 (dk_at dksX4_read_1 16 rfl rfl)
theorem dX4_read_41 : decode cX4_read 41 = .ok (.iconst 0, 1) := dk_3 (dk_at dksX4_read_1 17 rfl rfl)
theorem dX4_read_42 : decode cX4_read 42 = .ok (.istore_n 3, 1) := dk_62 (dk_at dksX4_read_1 18 rfl rfl)
theorem dX4_read_43 : decode cX4_read 43 = .ok (.iconst 1, 1) := dk_4 (dk_at dksX4_read_1 19 rfl rfl)
theorem dX4_read_44 : decode cX4_read 44 = .ok (.istore 4, 2) := dk_54 4 (dk_at dksX4_read_1 20 rfl rfl)
theorem dX4_read_46 : decode cX4_read 46 = .ok (.iconst 0, 1) := dk_3 (dk_at dksX4_read_1 22 rfl rfl)
theorem dX4_read_47 : decode cX4_read 47 = .ok (.istore 5, 2) := dk_54 5 (dk_at dksX4_read_2 0 rfl rfl)
theorem dX4_read_49 : decode cX4_read 49 = .ok (.iconst 0, 1) := dk_3 (dk_at dksX4_read_2 2 rfl rfl)
theorem dX4_read_50 : decode cX4_read 50 = .ok (.istore 6, 2) := dk_54 6 (dk_at dksX4_read_2 3 rfl rfl)
theorem dX4_read_52 : decode cX4_read 52 = .ok (.iload 6, 2) := dk_21 6 (dk_at dksX4_read_2 5 rfl rfl)
theorem dX4_read_54 : decode cX4_read 54 = .ok (.aload_n 0, 1) := dk_42 (dk_at dksX4_read_2 7 rfl rfl)
theorem dX4_read_55 : decode cX4_read 55 = .ok (.getfield 212, 3) := dk_180 0 212 (dk_at dksX4_read_2 8 rfl rfl)
theorem dX4_read_58 : decode cX4_read 58 = .ok (.if_icmp .ge 136, 3) := dk_162 0 136 (dk_at dksX4_read_2 11 rfl rfl)
theorem dX4_read_61 : decode cX4_read 61 = .ok (.iload 5, 2) := dk_21 5 (dk_at dksX4_read_2 14 rfl rfl)
theorem dX4_read_63 : decode cX4_read 63 = .ok (.aload_n 0, 1) := dk_42 (dk_at dksX4_read_2 16 rfl rfl)
theorem dX4_read_64 : decode cX4_read 64 = .ok (.getfield 67, 3) := dk_180 0 67 (dk_at dksX4_read_2 17 rfl rfl)
theorem dX4_read_67 : decode cX4_read 67 = .ok (.iload 6, 2) := dk_21 6 (dk_at dksX4_read_2 20 rfl rfl)
theorem dX4_read_69 : decode cX4_read 69 = .ok (.caload, 1) := dk_52 (dk_at dksX4_read_2 22 rfl rfl)
theorem dX4_read_70 : decode cX4_read 70 = .ok (.invokestatic 215, 3) := dk_184 0 215 (dk_at dksX4_read_3 0 rfl rfl)
theorem dX4_read_73 : decode cX4_read 73 = .ok (.istore 5, 2) := dk_54 5 (dk_at dksX4_read_3 3 rfl rfl)
theorem dX4_read_75 : decode cX4_read 75 = .ok (.iload 5, 2) := dk_21 5 (dk_at dksX4_read_3 5 rfl rfl)
theorem dX4_read_77 : decode cX4_read 77 = .ok (.iconst 2, 1) := dk_5 (dk_at dksX4_read_3 7 rfl rfl)
theorem dX4_read_78 : decode cX4_read 78 = .ok (.if_icmp .eq 10, 3) := dk_159 0 10 (dk_at dksX4_read_3 8 rfl rfl)
theorem dX4_read_81 : decode cX4_read 81 = .ok (.iload 5, 2) := dk_21 5 (dk_at dksX4_read_3 11 rfl rfl)
theorem dX4_read_83 : decode cX4_read 83 = .ok (.bipush 6, 2) := dk_16 6 (dk_at dksX4_read_3 13 rfl rfl)
theorem dX4_read_85 : decode cX4_read 85 = .ok (.if_icmp .ne 58, 3) := dk_160 0 58 (dk_at dksX4_read_3 15 rfl rfl)
theorem dX4_read_88 : decode cX4_read 88 = .ok (.aload_n 0, 1) := dk_42 (dk_at dksX4_read_3 18 rfl rfl)
theorem dX4_read_89 : decode cX4_read 89 = .ok (.getfield 67, 3) := dk_180 0 67 (dk_at dksX4_read_3 19 rfl rfl)
theorem dX4_read_92 : decode cX4_read 92 = .ok (.iload 6, 2) := dk_21 6 (dk_at dksX4_read_3 22 rfl rfl)
theorem dX4_read_94 : decode cX4_read 94 = .ok (.caload, 1) := dk_52 (dk_at dksX4_read_4 0 rfl rfl)
theorem dX4_read_95 : decode cX4_read 95 = .ok (.bipush 46, 2) := dk_16 46 (dk_at dksX4_read_4 1 rfl rfl)
theorem dX4_read_97 : decode cX4_read 97 = .ok (.if_icmp .eq 46, 3) := dk_159 0 46 (dk_at dksX4_read_4 3 rfl rfl)
theorem dX4_read_100 : decode cX4_read 100 = .ok (.aload_n 0, 1) := dk_42 (dk_at dksX4_read_4 6 rfl rfl)
theorem dX4_read_101 : decode cX4_read 101 = .ok (.iconst 4, 1) := dk_7 (dk_at dksX4_read_4 7 rfl rfl)
theorem dX4_read_102 : decode cX4_read 102 = .ok (.iconst 1, 1) := dk_4 (dk_at dksX4_read_4 8 rfl rfl)
theorem dX4_read_103 : decode cX4_read 103 = .ok (.invokevirtual 24, 3) := dk_182 0 24 (dk_at dksX4_read_4 9 rfl rfl)
theorem dX4_read_106 : decode cX4_read 106 = .ok (.aload_n 0, 1) := dk_42 (dk_at dksX4_read_4 12 rfl rfl)
theorem dX4_read_107 : decode cX4_read 107 = .ok (.iconst 5, 1) := dk_8 (dk_at dksX4_read_4 13 rfl rfl)
theorem dX4_read_108 : decode cX4_read 108 = .ok (.aload_n 0, 1) := dk_42 (dk_at dksX4_read_4 14 rfl rfl)
theorem dX4_read_109 : decode cX4_read 109 = .ok (.getfield 67, 3) := dk_180 0 67 (dk_at dksX4_read_4 15 rfl rfl)
theorem dX4_read_112 : decode cX4_read 112 = .ok (.iload 6, 2) := dk_21 6 (dk_at dksX4_read_4 18 rfl rfl)
theorem dX4_read_114 : decode cX4_read 114 = .ok (.caload, 1) := dk_52 (dk_at dksX4_read_4 20 rfl rfl)
theorem dX4_read_115 : decode cX4_read 115 = .ok (.bipush 48, 2) := dk_16 48 (dk_at dksX4_read_4 21 rfl rfl)
theorem dX4_read_117 : decode cX4_read 117 = .ok (.isub, 1) := dk_100 (dk_at dksX4_read_4 23 rfl rfl)
theorem dX4_read_118 : decode cX4_read 118 = .ok (.i2l, 1) := dk_133 (dk_at dksX4_read_5 0 rfl rfl)
theorem dX4_read_119 : decode cX4_read 119 = .ok (.invokevirtual 33, 3) := dk_182 0 33 (dk_at dksX4_read_5 1 rfl rfl)
theorem dX4_read_122 : decode cX4_read 122 = .ok (.aload_n 0, 1) := dk_42 (dk_at dksX4_read_5 4 rfl rfl)
theorem dX4_read_123 : decode cX4_read 123 = .ok (.iconst 4, 1) := dk_7 (dk_at dksX4_read_5 5 rfl rfl)
theorem dX4_read_124 : decode cX4_read 124 = .ok (.iconst 5, 1) := dk_8 (dk_at dksX4_read_5 6 rfl rfl)
theorem dX4_read_125 : decode cX4_read 125 = .ok (.invokevirtual 27, 3) := dk_182 0 27 (dk_at dksX4_read_5 7 rfl rfl)
theorem dX4_read_128 : decode cX4_read 128 = .ok (.iload_n 2, 1) := dk_28 (dk_at dksX4_read_5 10 rfl rfl)
theorem dX4_read_129 : decode cX4_read 129 = .ok (.iload 5, 2) := dk_21 5 (dk_at dksX4_read_5 11 rfl rfl)
theorem dX4_read_131 : decode cX4_read 131 = .ok (.bipush 6, 2) := dk_16 6 (dk_at dksX4_read_5 13 rfl rfl)
theorem dX4_read_133 : decode cX4_read 133 = .ok (.if_icmp .ne 7, 3) := dk_160 0 7 (dk_at dksX4_read_5 15 rfl rfl)
theorem dX4_read_136 : decode cX4_read 136 = .ok (.iconst 1, 1) := dk_4 (dk_at dksX4_read_5 18 rfl rfl)
theorem dX4_read_137 : decode cX4_read 137 = .ok (.goto 4, 3) := dk_167 0 4 (dk_at dksX4_read_5 19 rfl rfl)
theorem dX4_read_140 : decode cX4_read 140 = .ok (.iconst 0, 1) := dk_3 (dk_at dksX4_read_5 22 rfl rfl)
theorem dX4_read_141 : decode cX4_read 141 = .ok (.iadd, 1) := dk_96 (dk_at dksX4_read_5 23 rfl rfl)
theorem dX4_read_142 : decode cX4_read 142 = .ok (.istore_n 2, 1) := dk_61 (dk_at dksX4_read_6 0 rfl rfl)
theorem dX4_read_143 : decode cX4_read 143 = .ok (.iload 5, 2) := dk_21 5 (dk_at dksX4_read_6 1 rfl rfl)
theorem dX4_read_145 : decode cX4_read 145 = .ok (.bipush 8, 2) := dk_16 8 (dk_at dksX4_read_6 3 rfl rfl)
theorem dX4_read_147 : decode cX4_read 147 = .ok (.if_icmp .lt 19, 3) := dk_161 0 19 (dk_at dksX4_read_6 5 rfl rfl)
theorem dX4_read_150 : decode cX4_read 150 = .ok (.bipush 10, 2) := dk_16 10 (dk_at dksX4_read_6 8 rfl rfl)
theorem dX4_read_152 : decode cX4_read 152 = .ok (.iload_n 3, 1) := dk_29 (dk_at dksX4_read_6 10 rfl rfl)
theorem dX4_read_153 : decode cX4_read 153 = .ok (.imul, 1) := dk_104 (dk_at dksX4_read_6 11 rfl rfl)
theorem dX4_read_154 : decode cX4_read 154 = .ok (.aload_n 0, 1) := dk_42 (dk_at dksX4_read_6 12 rfl rfl)
theorem dX4_read_155 : decode cX4_read 155 = .ok (.getfield 67, 3) := dk_180 0 67 (dk_at dksX4_read_6 13 rfl rfl)
theorem dX4_read_158 : decode cX4_read 158 = .ok (.iload 6, 2) := dk_21 6 (dk_at dksX4_read_6 16 rfl rfl)
theorem dX4_read_160 : decode cX4_read 160 = .ok (.caload, 1) := dk_52 (dk_at dksX4_read_6 18 rfl rfl)
theorem dX4_read_161 : decode cX4_read 161 = .ok (.iadd, 1) := dk_96 (dk_at dksX4_read_6 19 rfl rfl)
theorem dX4_read_162 : decode cX4_read 162 = .ok (.bipush 48, 2) := dk_16 48 (dk_at dksX4_read_6 20 rfl rfl)
theorem dX4_read_164 : decode cX4_read 164 = .ok (.isub, 1) := dk_100 (dk_at dksX4_read_6 22 rfl rfl)
theorem dX4_read_165 : decode cX4_read 165 = .ok (.istore_n 3, 1) := dk_62 (dk_at dksX4_read_6 23 rfl rfl)
theorem dX4_read_166 : decode cX4_read 166 = .ok (.iload 5, 2) := dk_21 5 (dk_at dksX4_read_7 0 rfl rfl)
theorem dX4_read_168 : decode cX4_read 168 = .ok (.bipush 7, 2) := dk_16 7 (dk_at dksX4_read_7 2 rfl rfl)
theorem dX4_read_170 : decode cX4_read 170 = .ok (.if_icmp .ne 18, 3) := dk_160 0 18 (dk_at dksX4_read_7 4 rfl rfl)
theorem dX4_read_173 : decode cX4_read 173 = .ok (.aload_n 0, 1) := dk_42 (dk_at dksX4_read_7 7 rfl rfl)
theorem dX4_read_174 : decode cX4_read 174 = .ok (.getfield 67, 3) := dk_180 0 67 (dk_at dksX4_read_7 8 rfl rfl)
theorem dX4_read_177 : decode cX4_read 177 = .ok (.iload 6, 2) := dk_21 6 (dk_at dksX4_read_7 11 rfl rfl)
theorem dX4_read_179 : decode cX4_read 179 = .ok (.caload, 1) := dk_52 (dk_at dksX4_read_7 13 rfl rfl)
theorem dX4_read_180 : decode cX4_read 180 = .ok (.bipush 45, 2) := dk_16 45 (dk_at dksX4_read_7 14 rfl rfl)
theorem dX4_read_182 : decode cX4_read 182 = .ok (.if_icmp .ne 6, 3) := dk_160 0 6 (dk_at dksX4_read_7 16 rfl rfl)
theorem dX4_read_185 : decode cX4_read 185 = .ok (.iconst (-1), 1) := dk_2 (dk_at dksX4_read_7 19 rfl rfl)
theorem dX4_read_186 : decode cX4_read 186 = .ok (.istore 4, 2) := dk_54 4 (dk_at dksX4_read_7 20 rfl rfl)
theorem dX4_read_188 : decode cX4_read 188 = .ok (.iinc 6 1, 3) := dk_132 6 1 (dk_at dksX4_read_8 0 rfl rfl)
theorem dX4_read_191 : decode cX4_read 191 = .ok (.goto (-139), 3) := dk_167 255 117 (dk_at dksX4_read_8 3 rfl rfl)
theorem dX4_read_194 : decode cX4_read 194 = .ok (.aload_n 0, 1) := dk_42 (dk_at dksX4_read_8 6 rfl rfl)
theorem dX4_read_195 : decode cX4_read 195 = .ok (.aload_n 0, 1) := dk_42 (dk_at dksX4_read_8 7 rfl rfl)
theorem dX4_read_196 : decode cX4_read 196 = .ok (.iload_n 1, 1) := dk_27 (dk_at dksX4_read_8 8 rfl rfl)
theorem dX4_read_197 : decode cX4_read 197 = .ok (.iconst 4, 1) := dk_7 (dk_at dksX4_read_8 9 rfl rfl)
theorem dX4_read_198 : decode cX4_read 198 = .ok (.aload_n 0, 1) := dk_42 (dk_at dksX4_read_8 10 rfl rfl)
theorem dX4_read_199 : decode cX4_read 199 = .ok (.getfield 67, 3) := dk_180 0 67 (dk_at dksX4_read_8 11 rfl rfl)
theorem dX4_read_202 : decode cX4_read 202 = .ok (.iconst 0, 1) := dk_3 (dk_at dksX4_read_8 14 rfl rfl)
theorem dX4_read_203 : decode cX4_read 203 = .ok (.caload, 1) := dk_52 (dk_at dksX4_read_8 15 rfl rfl)
theorem dX4_read_204 : decode cX4_read 204 = .ok (.bipush 45, 2) := dk_16 45 (dk_at dksX4_read_8 16 rfl rfl)
theorem dX4_read_206 : decode cX4_read 206 = .ok (.if_icmp .ne 7, 3) := dk_160 0 7 (dk_at dksX4_read_8 18 rfl rfl)
theorem dX4_read_209 : decode cX4_read 209 = .ok (.iconst 1, 1) := dk_4 (dk_at dksX4_read_8 21 rfl rfl)
theorem dX4_read_210 : decode cX4_read 210 = .ok (.goto 4, 3) := dk_167 0 4 (dk_at dksX4_read_9 0 rfl rfl)
theorem dX4_read_213 : decode cX4_read 213 = .ok (.iconst 0, 1) := dk_3 (dk_at dksX4_read_9 3 rfl rfl)
theorem dX4_read_214 : decode cX4_read 214 = .ok (.iload_n 2, 1) := dk_28 (dk_at dksX4_read_9 4 rfl rfl)
theorem dX4_read_215 : decode cX4_read 215 = .ok (.iload 4, 2) := dk_21 4 (dk_at dksX4_read_9 5 rfl rfl)
theorem dX4_read_217 : decode cX4_read 217 = .ok (.iload_n 3, 1) := dk_29 (dk_at dksX4_read_9 7 rfl rfl)
theorem dX4_read_218 : decode cX4_read 218 = .ok (.imul, 1) := dk_104 (dk_at dksX4_read_9 8 rfl rfl)
theorem dX4_read_219 : decode cX4_read 219 = .ok (.isub, 1) := dk_100 (dk_at dksX4_read_9 9 rfl rfl)
theorem dX4_read_220 : decode cX4_read 220 = .ok (.invokevirtual 223, 3) := dk_182 0 223 (dk_at dksX4_read_9 10 rfl rfl)
theorem dX4_read_223 : decode cX4_read 223 = .ok (.ifCond .eq 7, 3) := dk_153 0 7 (dk_at dksX4_read_9 13 rfl rfl)
theorem dX4_read_226 : decode cX4_read 226 = .ok (.iconst 0, 1) := dk_3 (dk_at dksX4_read_9 16 rfl rfl)
theorem dX4_read_227 : decode cX4_read 227 = .ok (.goto 4, 3) := dk_167 0 4 (dk_at dksX4_read_9 17 rfl rfl)
theorem dX4_read_230 : decode cX4_read 230 = .ok (.iconst 3, 1) := dk_6 (dk_at dksX4_read_9 20 rfl rfl)
theorem dX4_read_231 : decode cX4_read 231 = .ok (.invokevirtual 205, 3) := dk_182 0 205 (dk_at dksX4_read_9 21 rfl rfl)
theorem dX4_read_234 : decode cX4_read 234 = .ok (.ifCond .eq 5, 3) := dk_153 0 5 (dk_at dksX4_read_10 0 rfl rfl)
theorem dX4_read_237 : decode cX4_read 237 = .ok (.iconst 0, 1) := dk_3 (dk_at dksX4_read_10 3 rfl rfl)
theorem dX4_read_238 : decode cX4_read 238 = .ok (.ireturn, 1) := dk_172 (dk_at dksX4_read_10 4 rfl rfl)
theorem dX4_read_239 : decode cX4_read 239 = .ok (.aload_n 0, 1) := dk_42 (dk_at dksX4_read_10 5 rfl rfl)
theorem dX4_read_240 : decode cX4_read 240 = .ok (.iconst 0, 1) := dk_3 (dk_at dksX4_read_10 6 rfl rfl)
theorem dX4_read_241 : decode cX4_read 241 = .ok (.putfield 212, 3) := dk_181 0 212 (dk_at dksX4_read_10 7 rfl rfl)
theorem dX4_read_244 : decode cX4_read 244 = .ok (.aload_n 0, 1) := dk_42 (dk_at dksX4_read_10 10 rfl rfl)
theorem dX4_read_245 : decode cX4_read 245 = .ok (.getfield 60, 3) := dk_180 0 60 (dk_at dksX4_read_10 11 rfl rfl)
theorem dX4_read_248 : decode cX4_read 248 = .ok (.iload_n 1, 1) := dk_27 (dk_at dksX4_read_10 14 rfl rfl)
theorem dX4_read_249 : decode cX4_read 249 = .ok (.iaload, 1) := dk_46 (dk_at dksX4_read_10 15 rfl rfl)
theorem dX4_read_250 : decode cX4_read 250 = .ok (.ireturn, 1) := dk_172 (dk_at dksX4_read_10 16 rfl rfl)
def dkwX4_shifts_4 : List UInt8 := [79, 177]
abbrev dktX4_shifts_4 : List UInt8 := dkwX4_shifts_4 ++ []
def dkwX4_shifts_3 : List UInt8 := [17, 0, 240, 27, 104, 29, 96, 3, 79, 132, 3, 1, 167, 255, 235, 42, 180, 0, 1, 27, 92, 46, 28, 96]
abbrev dktX4_shifts_3 : List UInt8 := dkwX4_shifts_3 ++ dktX4_shifts_4
def dkwX4_shifts_2 : List UInt8 := [104, 29, 96, 46, 79, 132, 3, 255, 167, 255, 223, 3, 62, 29, 28, 162, 0, 22, 42, 180, 0, 7]
abbrev dktX4_shifts_2 : List UInt8 := dkwX4_shifts_2 ++ dktX4_shifts_3
def dkwX4_shifts_1 : List UInt8 := [155, 0, 35, 42, 180, 0, 7, 17, 0, 240, 27, 104, 29, 96, 28, 96, 42, 180, 0, 7, 17, 0, 240, 27]
abbrev dktX4_shifts_1 : List UInt8 := dkwX4_shifts_1 ++ dktX4_shifts_2
def dkwX4_shifts_0 : List UInt8 := [28, 158, 0, 12, 42, 180, 0, 1, 27, 46, 154, 0, 4, 177, 42, 180, 0, 1, 27, 46, 4, 100, 62, 29]
abbrev dktX4_shifts_0 : List UInt8 := dkwX4_shifts_0 ++ dktX4_shifts_1
theorem dksX4_shifts_0 : cX4_shifts.data.toList.drop 0 = dktX4_shifts_0 := by decide +kernel
theorem dksX4_shifts_1 : cX4_shifts.data.toList.drop 24 = dktX4_shifts_1 := dk_seg dksX4_shifts_0 24 rfl rfl
theorem dksX4_shifts_2 : cX4_shifts.data.toList.drop 48 = dktX4_shifts_2 := dk_seg dksX4_shifts_1 24 rfl rfl
theorem dksX4_shifts_3 : cX4_shifts.data.toList.drop 70 = dktX4_shifts_3 := dk_seg dksX4_shifts_2 22 rfl rfl
theorem dksX4_shifts_4 : cX4_shifts.data.toList.drop 94 = dktX4_shifts_4 := dk_seg dksX4_shifts_3 24 rfl rfl
theorem dX4_shifts_0 : decode cX4_shifts 0 = .ok (.iload_n 2, 1) := dk_28 (dk_at dksX4_shifts_0 0 rfl rfl)
theorem dX4_shifts_1 : decode cX4_shifts 1 = .ok (.ifCond .le 12, 3) := dk_158 0 12 (dk_at dksX4_shifts_0 1 rfl rfl)
theorem dX4_shifts_4 : decode cX4_shifts 4 = .ok (.aload_n 0, 1) := dk_42 (dk_at dksX4_shifts_0 4 rfl rfl)
theorem dX4_shifts_5 : decode cX4_shifts 5 = .ok (.getfield 1, 3) := dk_180 0 1 (dk_at dksX4_shifts_0 5 rfl rfl)
theorem dX4_shifts_8 : decode cX4_shifts 8 = .ok (.iload_n 1, 1) := dk_27 (dk_at dksX4_shifts_0 8 rfl rfl)
theorem dX4_shifts_9 : decode cX4_shifts 9 = .ok (.iaload, 1) := dk_46 (dk_at dksX4_shifts_0 9 rfl rfl)
theorem dX4_shifts_10 : decode cX4_shifts 10 = .ok (.ifCond .ne 4, 3) := dk_154 0 4 (dk_at dksX4_shifts_0 10 rfl rfl)
theorem dX4_shifts_13 : decode cX4_shifts 13 = .ok (.return_, 1) := dk_177 (dk_at dksX4_shifts_0 13 rfl rfl)
theorem dX4_shifts_14 : decode cX4_shifts 14 = .ok (.aload_n 0, 1) := dk_42 (dk_at dksX4_shifts_0 14 rfl rfl)
theorem dX4_shifts_15 : decode cX4_shifts 15 = .ok (.getfield 1, 3) := dk_180 0 1 (dk_at dksX4_shifts_0 15 rfl rfl)
theorem dX4_shifts_18 : decode cX4_shifts 18 = .ok (.iload_n 1, 1) := dk_27 (dk_at dksX4_shifts_0 18 rfl rfl)
theorem dX4_shifts_19 : decode cX4_shifts 19 = .ok (.iaload, 1) := dk_46 (dk_at dksX4_shifts_0 19 rfl rfl)
theorem dX4_shifts_20 : decode cX4_shifts 20 = .ok (.iconst 1, 1) := dk_4 (dk_at dksX4_shifts_0 20 rfl rfl)
theorem dX4_shifts_21 : decode cX4_shifts 21 = .ok (.isub, 1) := dk_100 (dk_at dksX4_shifts_0 21 rfl rfl)
theorem dX4_shifts_22 : decode cX4_shifts 22 = .ok (.istore_n 3, 1) := dk_62 (dk_at dksX4_shifts_0 22 rfl rfl)
theorem dX4_shifts_23 : decode cX4_shifts 23 = .ok (.iload_n 3, 1) := dk_29 (dk_at dksX4_shifts_0 23 rfl rfl)
theorem dX4_shifts_24 : decode cX4_shifts 24 = .ok (.ifCond .lt 35, 3) := dk_155 0 35 (dk_at dksX4_shifts_1 0 rfl rfl)
theorem dX4_shifts_27 : decode cX4_shifts 27 = .ok (.aload_n 0, 1) := dk_42 (dk_at dksX4_shifts_1 3 rfl rfl)
theorem dX4_shifts_28 : decode cX4_shifts 28 = .ok (.getfield 7, 3) := dk_180 0 7 (dk_at dksX4_shifts_1 4 rfl rfl)
theorem dX4_shifts_31 : decode cX4_shifts 31 = .ok (.sipush 240, 3) := dk_17 0 240 (dk_at dksX4_shifts_1 7 rfl rfl)
theorem dX4_shifts_34 : decode cX4_shifts 34 = .ok (.iload_n 1, 1) := dk_27 (dk_at dksX4_shifts_1 10 rfl rfl)
theorem dX4_shifts_35 : decode cX4_shifts 35 = .ok (.imul, 1) := dk_104 (dk_at dksX4_shifts_1 11 rfl rfl)
theorem dX4_shifts_36 : decode cX4_shifts 36 = .ok (.iload_n 3, 1) := dk_29 (dk_at dksX4_shifts_1 12 rfl rfl)
theorem dX4_shifts_37 : decode cX4_shifts 37 = .ok (.iadd, 1) := dk_96 (dk_at dksX4_shifts_1 13 rfl rfl)
theorem dX4_shifts_38 : decode cX4_shifts 38 = .ok (.iload_n 2, 1) := dk_28 (dk_at dksX4_shifts_1 14 rfl rfl)
theorem dX4_shifts_39 : decode cX4_shifts 39 = .ok (.iadd, 1) := dk_96 (dk_at dksX4_shifts_1 15 rfl rfl)
theorem dX4_shifts_40 : decode cX4_shifts 40 = .ok (.aload_n 0, 1) := dk_42 (dk_at dksX4_shifts_1 16 rfl rfl)
theorem dX4_shifts_41 : decode cX4_shifts 41 = .ok (.getfield 7, 3) := dk_180 0 7 (dk_at dksX4_shifts_1 17 rfl rfl)
theorem dX4_shifts_44 : decode cX4_shifts 44 = .ok (.sipush 240, 3) := dk_17 0 240 (dk_at dksX4_shifts_1 20 rfl rfl)
theorem dX4_shifts_47 : decode cX4_shifts 47 = .ok (.iload_n 1, 1) := dk_27 (dk_at dksX4_shifts_1 23 rfl rfl)
theorem dX4_shifts_48 : decode cX4_shifts 48 = .ok (.imul, 1) := dk_104 (dk_at dksX4_shifts_2 0 rfl rfl)
theorem dX4_shifts_49 : decode cX4_shifts 49 = .ok (.iload_n 3, 1) := dk_29 (dk_at dksX4_shifts_2 1 rfl rfl)
theorem dX4_shifts_50 : decode cX4_shifts 50 = .ok (.iadd, 1) := dk_96 (dk_at dksX4_shifts_2 2 rfl rfl)
theorem dX4_shifts_51 : decode cX4_shifts 51 = .ok (.iaload, 1) := dk_46 (dk_at dksX4_shifts_2 3 rfl rfl)
theorem dX4_shifts_52 : decode cX4_shifts 52 = .ok (.iastore, 1) := dk_79 (dk_at dksX4_shifts_2 4 rfl rfl)
theorem dX4_shifts_53 : decode cX4_shifts 53 = .ok (.iinc 3 (-1), 3) := dk_132 3 255 (dk_at dksX4_shifts_2 5 rfl rfl)
theorem dX4_shifts_56 : decode cX4_shifts 56 = .ok (.goto (-33), 3) := dk_167 255 223 (dk_at dksX4_shifts_2 8 rfl rfl)
theorem dX4_shifts_59 : decode cX4_shifts 59 = .ok (.iconst 0, 1) := dk_3 (dk_at dksX4_shifts_2 11 rfl rfl)
theorem dX4_shifts_60 : decode cX4_shifts 60 = .ok (.istore_n 3, 1) := dk_62 (dk_at dksX4_shifts_2 12 rfl rfl)
theorem dX4_shifts_61 : decode cX4_shifts 61 = .ok (.iload_n 3, 1) := dk_29 (dk_at dksX4_shifts_2 13 rfl rfl)
theorem dX4_shifts_62 : decode cX4_shifts 62 = .ok (.iload_n 2, 1) := dk_28 (dk_at dksX4_shifts_2 14 rfl rfl)
theorem dX4_shifts_63 : decode cX4_shifts 63 = .ok (.if_icmp .ge 22, 3) := dk_162 0 22 (dk_at dksX4_shifts_2 15 rfl rfl)
theorem dX4_shifts_66 : decode cX4_shifts 66 = .ok (.aload_n 0, 1) := dk_42 (dk_at dksX4_shifts_2 18 rfl rfl)
theorem dX4_shifts_67 : decode cX4_shifts 67 = .ok (.getfield 7, 3) := dk_180 0 7 (dk_at dksX4_shifts_2 19 rfl rfl)
theorem dX4_shifts_70 : decode cX4_shifts 70 = .ok (.sipush 240, 3) := dk_17 0 240 (dk_at dksX4_shifts_3 0 rfl rfl)
theorem dX4_shifts_73 : decode cX4_shifts 73 = .ok (.iload_n 1, 1) := dk_27 (dk_at dksX4_shifts_3 3 rfl rfl)
theorem dX4_shifts_74 : decode cX4_shifts 74 = .ok (.imul, 1) := dk_104 (dk_at dksX4_shifts_3 4 rfl rfl)
theorem dX4_shifts_75 : decode cX4_shifts 75 = .ok (.iload_n 3, 1) := dk_29 (dk_at dksX4_shifts_3 5 rfl rfl)
theorem dX4_shifts_76 : decode cX4_shifts 76 = .ok (.iadd, 1) := dk_96 (dk_at dksX4_shifts_3 6 rfl rfl)
theorem dX4_shifts_77 : decode cX4_shifts 77 = .ok (.iconst 0, 1) := dk_3 (dk_at dksX4_shifts_3 7 rfl rfl)
theorem dX4_shifts_78 : decode cX4_shifts 78 = .ok (.iastore, 1) := dk_79 (dk_at dksX4_shifts_3 8 rfl rfl)
theorem dX4_shifts_79 : decode cX4_shifts 79 = .ok (.iinc 3 1, 3) := dk_132 3 1 (dk_at dksX4_shifts_3 9 rfl rfl)
theorem dX4_shifts_82 : decode cX4_shifts 82 = .ok (.goto (-21), 3) := dk_167 255 235 (dk_at dksX4_shifts_3 12 rfl rfl)
theorem dX4_shifts_85 : decode cX4_shifts 85 = .ok (.aload_n 0, 1) := dk_42 (dk_at dksX4_shifts_3 15 rfl rfl)
theorem dX4_shifts_86 : decode cX4_shifts 86 = .ok (.getfield 1, 3) := dk_180 0 1 (dk_at dksX4_shifts_3 16 rfl rfl)
theorem dX4_shifts_89 : decode cX4_shifts 89 = .ok (.iload_n 1, 1) := dk_27 (dk_at dksX4_shifts_3 19 rfl rfl)
theorem dX4_shifts_90 : decode cX4_shifts 90 = .ok (.dup2, 1) := dk_92 (dk_at dksX4_shifts_3 20 rfl rfl)
theorem dX4_shifts_91 : decode cX4_shifts 91 = .ok (.iaload, 1) := dk_46 (dk_at dksX4_shifts_3 21 rfl rfl)
theorem dX4_shifts_92 : decode cX4_shifts 92 = .ok (.iload_n 2, 1) := dk_28 (dk_at dksX4_shifts_3 22 rfl rfl)
theorem dX4_shifts_93 : decode cX4_shifts 93 = .ok (.iadd, 1) := dk_96 (dk_at dksX4_shifts_3 23 rfl rfl)
theorem dX4_shifts_94 : decode cX4_shifts 94 = .ok (.iastore, 1) := dk_79 (dk_at dksX4_shifts_4 0 rfl rfl)
theorem dX4_shifts_95 : decode cX4_shifts 95 = .ok (.return_, 1) := dk_177 (dk_at dksX4_shifts_4 1 rfl rfl)
def dkwX4_lets_2 : List UInt8 := [167, 255, 229, 177]
abbrev dktX4_lets_2 : List UInt8 := dkwX4_lets_2 ++ []
def dkwX4_lets_1 : List UInt8 := [148, 158, 0, 26, 42, 27, 22, 4, 20, 0, 14, 113, 136, 182, 0, 16, 22, 4, 20, 0, 14, 109, 55, 4]
abbrev dktX4_lets_1 : List UInt8 := dkwX4_lets_1 ++ dktX4_lets_2
def dkwX4_lets_0 : List UInt8 := [42, 180, 0, 1, 27, 3, 79, 32, 9, 148, 156, 0, 8, 32, 117, 167, 0, 4, 32, 55, 4, 22, 4, 9]
abbrev dktX4_lets_0 : List UInt8 := dkwX4_lets_0 ++ dktX4_lets_1
theorem dksX4_lets_0 : cX4_lets.data.toList.drop 0 = dktX4_lets_0 := by decide +kernel
theorem dksX4_lets_1 : cX4_lets.data.toList.drop 24 = dktX4_lets_1 := dk_seg dksX4_lets_0 24 rfl rfl
theorem dksX4_lets_2 : cX4_lets.data.toList.drop 48 = dktX4_lets_2 := dk_seg dksX4_lets_1 24 rfl rfl
theorem dX4_lets_0 : decode cX4_lets 0 = .ok (.aload_n 0, 1) := dk_42 (dk_at dksX4_lets_0 0 rfl rfl)
theorem dX4_lets_1 : decode cX4_lets 1 = .ok (.getfield 1, 3) := dk_180 0 1 (dk_at dksX4_lets_0 1 rfl rfl)
theorem dX4_lets_4 : decode cX4_lets 4 = .ok (.iload_n 1, 1) := dk_27 (dk_at dksX4_lets_0 4 rfl rfl)
theorem dX4_lets_5 : decode cX4_lets 5 = .ok (.iconst 0, 1) := dk_3 (dk_at dksX4_lets_0 5 rfl rfl)
theorem dX4_lets_6 : decode cX4_lets 6 = .ok (.iastore, 1) := dk_79 (dk_at dksX4_lets_0 6 rfl rfl)
theorem dX4_lets_7 : decode cX4_lets 7 = .ok (.lload_n 2, 1) := dk_32 (dk_at dksX4_lets_0 7 rfl rfl)
theorem dX4_lets_8 : decode cX4_lets 8 = .ok (.lconst 0, 1) := dk_9 (dk_at dksX4_lets_0 8 rfl rfl)
theorem dX4_lets_9 : decode cX4_lets 9 = .ok (.lcmp, 1) := dk_148 (dk_at dksX4_lets_0 9 rfl rfl)
theorem dX4_lets_10 : decode cX4_lets 10 = .ok (.ifCond .ge 8, 3) := dk_156 0 8 (dk_at dksX4_lets_0 10 rfl rfl)
theorem dX4_lets_13 : decode cX4_lets 13 = .ok (.lload_n 2, 1) := dk_32 (dk_at dksX4_lets_0 13 rfl rfl)
theorem dX4_lets_14 : decode cX4_lets 14 = .ok (.lneg, 1) := dk_117 (dk_at dksX4_lets_0 14 rfl rfl)
theorem dX4_lets_15 : decode cX4_lets 15 = .ok (.goto 4, 3) := dk_167 0 4 (dk_at dksX4_lets_0 15 rfl rfl)
theorem dX4_lets_18 : decode cX4_lets 18 = .ok (.lload_n 2, 1) := dk_32 (dk_at dksX4_lets_0 18 rfl rfl)
theorem dX4_lets_19 : decode cX4_lets 19 = .ok (.lstore 4, 2) := dk_55 4 (dk_at dksX4_lets_0 19 rfl rfl)
theorem dX4_lets_21 : decode cX4_lets 21 = .ok (.lload 4, 2) := dk_22 4 (dk_at dksX4_lets_0 21 rfl rfl)
theorem dX4_lets_23 : decode cX4_lets 23 = .ok (.lconst 0, 1) := dk_9 (dk_at dksX4_lets_0 23 rfl rfl)
theorem dX4_lets_24 : decode cX4_lets 24 = .ok (.lcmp, 1) := dk_148 (dk_at dksX4_lets_1 0 rfl rfl)
theorem dX4_lets_25 : decode cX4_lets 25 = .ok (.ifCond .le 26, 3) := dk_158 0 26 (dk_at dksX4_lets_1 1 rfl rfl)
theorem dX4_lets_28 : decode cX4_lets 28 = .ok (.aload_n 0, 1) := dk_42 (dk_at dksX4_lets_1 4 rfl rfl)
theorem dX4_lets_29 : decode cX4_lets 29 = .ok (.iload_n 1, 1) := dk_27 (dk_at dksX4_lets_1 5 rfl rfl)
theorem dX4_lets_30 : decode cX4_lets 30 = .ok (.lload 4, 2) := dk_22 4 (dk_at dksX4_lets_1 6 rfl rfl)
theorem dX4_lets_32 : decode cX4_lets 32 = .ok (.ldc2_w 14, 3) := dk_20 0 14 (dk_at dksX4_lets_1 8 rfl rfl)
theorem dX4_lets_35 : decode cX4_lets 35 = .ok (.lrem, 1) := dk_113 (dk_at dksX4_lets_1 11 rfl rfl)
theorem dX4_lets_36 : decode cX4_lets 36 = .ok (.l2i, 1) := dk_136 (dk_at dksX4_lets_1 12 rfl rfl)
theorem dX4_lets_37 : decode cX4_lets 37 = .ok (.invokevirtual 16, 3) := dk_182 0 16 (dk_at dksX4_lets_1 13 rfl rfl)
theorem dX4_lets_40 : decode cX4_lets 40 = .ok (.lload 4, 2) := dk_22 4 (dk_at dksX4_lets_1 16 rfl rfl)
theorem dX4_lets_42 : decode cX4_lets 42 = .ok (.ldc2_w 14, 3) := dk_20 0 14 (dk_at dksX4_lets_1 18 rfl rfl)
theorem dX4_lets_45 : decode cX4_lets 45 = .ok (.ldiv, 1) := dk_109 (dk_at dksX4_lets_1 21 rfl rfl)
theorem dX4_lets_46 : decode cX4_lets 46 = .ok (.lstore 4, 2) := dk_55 4 (dk_at dksX4_lets_1 22 rfl rfl)
theorem dX4_lets_48 : decode cX4_lets 48 = .ok (.goto (-27), 3) := dk_167 255 229 (dk_at dksX4_lets_2 0 rfl rfl)
theorem dX4_lets_51 : decode cX4_lets 51 = .ok (.return_, 1) := dk_177 (dk_at dksX4_lets_2 3 rfl rfl)
def dkwX4_adds_1 : List UInt8 := [46, 4, 96, 79, 177]
abbrev dktX4_adds_1 : List UInt8 := dkwX4_adds_1 ++ []
def dkwX4_adds_0 : List UInt8 := [42, 180, 0, 7, 17, 0, 240, 27, 104, 42, 180, 0, 1, 27, 46, 96, 28, 79, 42, 180, 0, 1, 27, 92]
abbrev dktX4_adds_0 : List UInt8 := dkwX4_adds_0 ++ dktX4_adds_1
theorem dksX4_adds_0 : cX4_adds.data.toList.drop 0 = dktX4_adds_0 := by decide +kernel
theorem dksX4_adds_1 : cX4_adds.data.toList.drop 24 = dktX4_adds_1 := dk_seg dksX4_adds_0 24 rfl rfl
theorem dX4_adds_0 : decode cX4_adds 0 = .ok (.aload_n 0, 1) := dk_42 (dk_at dksX4_adds_0 0 rfl rfl)
theorem dX4_adds_1 : decode cX4_adds 1 = .ok (.getfield 7, 3) := dk_180 0 7 (dk_at dksX4_adds_0 1 rfl rfl)
theorem dX4_adds_4 : decode cX4_adds 4 = .ok (.sipush 240, 3) := dk_17 0 240 (dk_at dksX4_adds_0 4 rfl rfl)
theorem dX4_adds_7 : decode cX4_adds 7 = .ok (.iload_n 1, 1) := dk_27 (dk_at dksX4_adds_0 7 rfl rfl)
theorem dX4_adds_8 : decode cX4_adds 8 = .ok (.imul, 1) := dk_104 (dk_at dksX4_adds_0 8 rfl rfl)
theorem dX4_adds_9 : decode cX4_adds 9 = .ok (.aload_n 0, 1) := dk_42 (dk_at dksX4_adds_0 9 rfl rfl)
theorem dX4_adds_10 : decode cX4_adds 10 = .ok (.getfield 1, 3) := dk_180 0 1 (dk_at dksX4_adds_0 10 rfl rfl)
theorem dX4_adds_13 : decode cX4_adds 13 = .ok (.iload_n 1, 1) := dk_27 (dk_at dksX4_adds_0 13 rfl rfl)
theorem dX4_adds_14 : decode cX4_adds 14 = .ok (.iaload, 1) := dk_46 (dk_at dksX4_adds_0 14 rfl rfl)
theorem dX4_adds_15 : decode cX4_adds 15 = .ok (.iadd, 1) := dk_96 (dk_at dksX4_adds_0 15 rfl rfl)
theorem dX4_adds_16 : decode cX4_adds 16 = .ok (.iload_n 2, 1) := dk_28 (dk_at dksX4_adds_0 16 rfl rfl)
theorem dX4_adds_17 : decode cX4_adds 17 = .ok (.iastore, 1) := dk_79 (dk_at dksX4_adds_0 17 rfl rfl)
theorem dX4_adds_18 : decode cX4_adds 18 = .ok (.aload_n 0, 1) := dk_42 (dk_at dksX4_adds_0 18 rfl rfl)
theorem dX4_adds_19 : decode cX4_adds 19 = .ok (.getfield 1, 3) := dk_180 0 1 (dk_at dksX4_adds_0 19 rfl rfl)
theorem dX4_adds_22 : decode cX4_adds 22 = .ok (.iload_n 1, 1) := dk_27 (dk_at dksX4_adds_0 22 rfl rfl)
theorem dX4_adds_23 : decode cX4_adds 23 = .ok (.dup2, 1) := dk_92 (dk_at dksX4_adds_0 23 rfl rfl)
theorem dX4_adds_24 : decode cX4_adds 24 = .ok (.iaload, 1) := dk_46 (dk_at dksX4_adds_1 0 rfl rfl)
theorem dX4_adds_25 : decode cX4_adds 25 = .ok (.iconst 1, 1) := dk_4 (dk_at dksX4_adds_1 1 rfl rfl)
theorem dX4_adds_26 : decode cX4_adds 26 = .ok (.iadd, 1) := dk_96 (dk_at dksX4_adds_1 2 rfl rfl)
theorem dX4_adds_27 : decode cX4_adds 27 = .ok (.iastore, 1) := dk_79 (dk_at dksX4_adds_1 3 rfl rfl)
theorem dX4_adds_28 : decode cX4_adds 28 = .ok (.return_, 1) := dk_177 (dk_at dksX4_adds_1 4 rfl rfl)
def dkwX4_plus_4 : List UInt8 := [21, 5, 96, 21, 6, 16, 10, 112, 79, 21, 6, 16, 10, 108, 54, 4, 132, 5, 1, 167, 255, 180, 177]
abbrev dktX4_plus_4 : List UInt8 := dkwX4_plus_4 ++ []
def dkwX4_plus_3 : List UInt8 := [180, 0, 1, 27, 46, 160, 0, 9, 42, 27, 3, 182, 0, 16, 42, 180, 0, 7, 17, 0, 240, 27, 104]
abbrev dktX4_plus_3 : List UInt8 := dkwX4_plus_3 ++ dktX4_plus_4
def dkwX4_plus_2 : List UInt8 := [21, 4, 42, 27, 21, 5, 182, 0, 10, 96, 42, 28, 21, 5, 182, 0, 10, 96, 54, 6, 21, 5, 42]
abbrev dktX4_plus_2 : List UInt8 := dkwX4_plus_2 ++ dktX4_plus_3
def dkwX4_plus_1 : List UInt8 := [42, 180, 0, 1, 28, 46, 62, 3, 54, 4, 3, 54, 5, 21, 5, 29, 161, 0, 8, 21, 4, 158, 0, 71]
abbrev dktX4_plus_1 : List UInt8 := dkwX4_plus_1 ++ dktX4_plus_2
def dkwX4_plus_0 : List UInt8 := [42, 180, 0, 1, 27, 46, 42, 180, 0, 1, 28, 46, 164, 0, 12, 42, 180, 0, 1, 27, 46, 167, 0, 9]
abbrev dktX4_plus_0 : List UInt8 := dkwX4_plus_0 ++ dktX4_plus_1
theorem dksX4_plus_0 : cX4_plus.data.toList.drop 0 = dktX4_plus_0 := by decide +kernel
theorem dksX4_plus_1 : cX4_plus.data.toList.drop 24 = dktX4_plus_1 := dk_seg dksX4_plus_0 24 rfl rfl
theorem dksX4_plus_2 : cX4_plus.data.toList.drop 48 = dktX4_plus_2 := dk_seg dksX4_plus_1 24 rfl rfl
theorem dksX4_plus_3 : cX4_plus.data.toList.drop 71 = dktX4_plus_3 := dk_seg dksX4_plus_2 23 rfl rfl
theorem dksX4_plus_4 : cX4_plus.data.toList.drop 94 = dktX4_plus_4 := dk_seg dksX4_plus_3 23 rfl rfl
theorem dX4_plus_0 : decode cX4_plus 0 = .ok (.aload_n 0, 1) := dk_42 (dk_at dksX4_plus_0 0 rfl rfl)
theorem dX4_plus_1 : decode cX4_plus 1 = .ok (.getfield 1, 3) := dk_180 0 1 (dk_at dksX4_plus_0 1 rfl rfl)
theorem dX4_plus_4 : decode cX4_plus 4 = .ok (.iload_n 1, 1) := dk_27 (dk_at dksX4_plus_0 4 rfl rfl)
theorem dX4_plus_5 : decode cX4_plus 5 = .ok (.iaload, 1) := dk_46 (dk_at dksX4_plus_0 5 rfl rfl)
theorem dX4_plus_6 : decode cX4_plus 6 = .ok (.aload_n 0, 1) := dk_42 (dk_at dksX4_plus_0 6 rfl rfl)
theorem dX4_plus_7 : decode cX4_plus 7 = .ok (.getfield 1, 3) := dk_180 0 1 (dk_at dksX4_plus_0 7 rfl rfl)
theorem dX4_plus_10 : decode cX4_plus 10 = .ok (.iload_n 2, 1) := dk_28 (dk_at dksX4_plus_0 10 rfl rfl)
theorem dX4_plus_11 : decode cX4_plus 11 = .ok (.iaload, 1) := dk_46 (dk_at dksX4_plus_0 11 rfl rfl)
theorem dX4_plus_12 : decode cX4_plus 12 = .ok (.if_icmp .le 12, 3) := dk_164 0 12 (dk_at dksX4_plus_0 12 rfl rfl)
theorem dX4_plus_15 : decode cX4_plus 15 = .ok (.aload_n 0, 1) := dk_42 (dk_at dksX4_plus_0 15 rfl rfl)
theorem dX4_plus_16 : decode cX4_plus 16 = .ok (.getfield 1, 3) := dk_180 0 1 (dk_at dksX4_plus_0 16 rfl rfl)
theorem dX4_plus_19 : decode cX4_plus 19 = .ok (.iload_n 1, 1) := dk_27 (dk_at dksX4_plus_0 19 rfl rfl)
theorem dX4_plus_20 : decode cX4_plus 20 = .ok (.iaload, 1) := dk_46 (dk_at dksX4_plus_0 20 rfl rfl)
theorem dX4_plus_21 : decode cX4_plus 21 = .ok (.goto 9, 3) := dk_167 0 9 (dk_at dksX4_plus_0 21 rfl rfl)
theorem dX4_plus_24 : decode cX4_plus 24 = .ok (.aload_n 0, 1) := dk_42 (dk_at dksX4_plus_1 0 rfl rfl)
theorem dX4_plus_25 : decode cX4_plus 25 = .ok (.getfield 1, 3) := dk_180 0 1 (dk_at dksX4_plus_1 1 rfl rfl)
theorem dX4_plus_28 : decode cX4_plus 28 = .ok (.iload_n 2, 1) := dk_28 (dk_at dksX4_plus_1 4 rfl rfl)
theorem dX4_plus_29 : decode cX4_plus 29 = .ok (.iaload, 1) := dk_46 (dk_at dksX4_plus_1 5 rfl rfl)
theorem dX4_plus_30 : decode cX4_plus 30 = .ok (.istore_n 3, 1) := dk_62 (dk_at dksX4_plus_1 6 rfl rfl)
theorem dX4_plus_31 : decode cX4_plus 31 = .ok (.iconst 0, 1) := dk_3 (dk_at dksX4_plus_1 7 rfl rfl)
theorem dX4_plus_32 : decode cX4_plus 32 = .ok (.istore 4, 2) := dk_54 4 (dk_at dksX4_plus_1 8 rfl rfl)
theorem dX4_plus_34 : decode cX4_plus 34 = .ok (.iconst 0, 1) := dk_3 (dk_at dksX4_plus_1 10 rfl rfl)
theorem dX4_plus_35 : decode cX4_plus 35 = .ok (.istore 5, 2) := dk_54 5 (dk_at dksX4_plus_1 11 rfl rfl)
theorem dX4_plus_37 : decode cX4_plus 37 = .ok (.iload 5, 2) := dk_21 5 (dk_at dksX4_plus_1 13 rfl rfl)
theorem dX4_plus_39 : decode cX4_plus 39 = .ok (.iload_n 3, 1) := dk_29 (dk_at dksX4_plus_1 15 rfl rfl)
theorem dX4_plus_40 : decode cX4_plus 40 = .ok (.if_icmp .lt 8, 3) := dk_161 0 8 (dk_at dksX4_plus_1 16 rfl rfl)
theorem dX4_plus_43 : decode cX4_plus 43 = .ok (.iload 4, 2) := dk_21 4 (dk_at dksX4_plus_1 19 rfl rfl)
theorem dX4_plus_45 : decode cX4_plus 45 = .ok (.ifCond .le 71, 3) := dk_158 0 71 (dk_at dksX4_plus_1 21 rfl rfl)
theorem dX4_plus_48 : decode cX4_plus 48 = .ok (.iload 4, 2) := dk_21 4 (dk_at dksX4_plus_2 0 rfl rfl)
theorem dX4_plus_50 : decode cX4_plus 50 = .ok (.aload_n 0, 1) := dk_42 (dk_at dksX4_plus_2 2 rfl rfl)
theorem dX4_plus_51 : decode cX4_plus 51 = .ok (.iload_n 1, 1) := dk_27 (dk_at dksX4_plus_2 3 rfl rfl)
theorem dX4_plus_52 : decode cX4_plus 52 = .ok (.iload 5, 2) := dk_21 5 (dk_at dksX4_plus_2 4 rfl rfl)
theorem dX4_plus_54 : decode cX4_plus 54 = .ok (.invokevirtual 10, 3) := dk_182 0 10 (dk_at dksX4_plus_2 6 rfl rfl)
theorem dX4_plus_57 : decode cX4_plus 57 = .ok (.iadd, 1) := dk_96 (dk_at dksX4_plus_2 9 rfl rfl)
theorem dX4_plus_58 : decode cX4_plus 58 = .ok (.aload_n 0, 1) := dk_42 (dk_at dksX4_plus_2 10 rfl rfl)
theorem dX4_plus_59 : decode cX4_plus 59 = .ok (.iload_n 2, 1) := dk_28 (dk_at dksX4_plus_2 11 rfl rfl)
theorem dX4_plus_60 : decode cX4_plus 60 = .ok (.iload 5, 2) := dk_21 5 (dk_at dksX4_plus_2 12 rfl rfl)
theorem dX4_plus_62 : decode cX4_plus 62 = .ok (.invokevirtual 10, 3) := dk_182 0 10 (dk_at dksX4_plus_2 14 rfl rfl)
theorem dX4_plus_65 : decode cX4_plus 65 = .ok (.iadd, 1) := dk_96 (dk_at dksX4_plus_2 17 rfl rfl)
theorem dX4_plus_66 : decode cX4_plus 66 = .ok (.istore 6, 2) := dk_54 6 (dk_at dksX4_plus_2 18 rfl rfl)
theorem dX4_plus_68 : decode cX4_plus 68 = .ok (.iload 5, 2) := dk_21 5 (dk_at dksX4_plus_2 20 rfl rfl)
theorem dX4_plus_70 : decode cX4_plus 70 = .ok (.aload_n 0, 1) := dk_42 (dk_at dksX4_plus_2 22 rfl rfl)
theorem dX4_plus_71 : decode cX4_plus 71 = .ok (.getfield 1, 3) := dk_180 0 1 (dk_at dksX4_plus_3 0 rfl rfl)
theorem dX4_plus_74 : decode cX4_plus 74 = .ok (.iload_n 1, 1) := dk_27 (dk_at dksX4_plus_3 3 rfl rfl)
theorem dX4_plus_75 : decode cX4_plus 75 = .ok (.iaload, 1) := dk_46 (dk_at dksX4_plus_3 4 rfl rfl)
theorem dX4_plus_76 : decode cX4_plus 76 = .ok (.if_icmp .ne 9, 3) := dk_160 0 9 (dk_at dksX4_plus_3 5 rfl rfl)
theorem dX4_plus_79 : decode cX4_plus 79 = .ok (.aload_n 0, 1) := dk_42 (dk_at dksX4_plus_3 8 rfl rfl)
theorem dX4_plus_80 : decode cX4_plus 80 = .ok (.iload_n 1, 1) := dk_27 (dk_at dksX4_plus_3 9 rfl rfl)
theorem dX4_plus_81 : decode cX4_plus 81 = .ok (.iconst 0, 1) := dk_3 (dk_at dksX4_plus_3 10 rfl rfl)
theorem dX4_plus_82 : decode cX4_plus 82 = .ok (.invokevirtual 16, 3) := dk_182 0 16 (dk_at dksX4_plus_3 11 rfl rfl)
theorem dX4_plus_85 : decode cX4_plus 85 = .ok (.aload_n 0, 1) := dk_42 (dk_at dksX4_plus_3 14 rfl rfl)
theorem dX4_plus_86 : decode cX4_plus 86 = .ok (.getfield 7, 3) := dk_180 0 7 (dk_at dksX4_plus_3 15 rfl rfl)
theorem dX4_plus_89 : decode cX4_plus 89 = .ok (.sipush 240, 3) := dk_17 0 240 (dk_at dksX4_plus_3 18 rfl rfl)
theorem dX4_plus_92 : decode cX4_plus 92 = .ok (.iload_n 1, 1) := dk_27 (dk_at dksX4_plus_3 21 rfl rfl)
theorem dX4_plus_93 : decode cX4_plus 93 = .ok (.imul, 1) := dk_104 (dk_at dksX4_plus_3 22 rfl rfl)
theorem dX4_plus_94 : decode cX4_plus 94 = .ok (.iload 5, 2) := dk_21 5 (dk_at dksX4_plus_4 0 rfl rfl)
theorem dX4_plus_96 : decode cX4_plus 96 = .ok (.iadd, 1) := dk_96 (dk_at dksX4_plus_4 2 rfl rfl)
theorem dX4_plus_97 : decode cX4_plus 97 = .ok (.iload 6, 2) := dk_21 6 (dk_at dksX4_plus_4 3 rfl rfl)
theorem dX4_plus_99 : decode cX4_plus 99 = .ok (.bipush 10, 2) := dk_16 10 (dk_at dksX4_plus_4 5 rfl rfl)
theorem dX4_plus_101 : decode cX4_plus 101 = .ok (.irem, 1) := dk_112 (dk_at dksX4_plus_4 7 rfl rfl)
theorem dX4_plus_102 : decode cX4_plus 102 = .ok (.iastore, 1) := dk_79 (dk_at dksX4_plus_4 8 rfl rfl)
theorem dX4_plus_103 : decode cX4_plus 103 = .ok (.iload 6, 2) := dk_21 6 (dk_at dksX4_plus_4 9 rfl rfl)
theorem dX4_plus_105 : decode cX4_plus 105 = .ok (.bipush 10, 2) := dk_16 10 (dk_at dksX4_plus_4 11 rfl rfl)
theorem dX4_plus_107 : decode cX4_plus 107 = .ok (.idiv, 1) := dk_108 (dk_at dksX4_plus_4 13 rfl rfl)
theorem dX4_plus_108 : decode cX4_plus 108 = .ok (.istore 4, 2) := dk_54 4 (dk_at dksX4_plus_4 14 rfl rfl)
theorem dX4_plus_110 : decode cX4_plus 110 = .ok (.iinc 5 1, 3) := dk_132 5 1 (dk_at dksX4_plus_4 16 rfl rfl)
theorem dX4_plus_113 : decode cX4_plus 113 = .ok (.goto (-76), 3) := dk_167 255 180 (dk_at dksX4_plus_4 19 rfl rfl)
theorem dX4_plus_116 : decode cX4_plus 116 = .ok (.return_, 1) := dk_177 (dk_at dksX4_plus_4 22 rfl rfl)
def dkwX4_digit_1 : List UInt8 := [167, 0, 4, 3, 172]
abbrev dktX4_digit_1 : List UInt8 := dkwX4_digit_1 ++ []
def dkwX4_digit_0 : List UInt8 := [28, 42, 180, 0, 1, 27, 46, 162, 0, 18, 42, 180, 0, 7, 17, 0, 240, 27, 104, 28, 96, 46]
abbrev dktX4_digit_0 : List UInt8 := dkwX4_digit_0 ++ dktX4_digit_1
theorem dksX4_digit_0 : cX4_digit.data.toList.drop 0 = dktX4_digit_0 := by decide +kernel
theorem dksX4_digit_1 : cX4_digit.data.toList.drop 22 = dktX4_digit_1 := dk_seg dksX4_digit_0 22 rfl rfl
theorem dX4_digit_0 : decode cX4_digit 0 = .ok (.iload_n 2, 1) := dk_28 (dk_at dksX4_digit_0 0 rfl rfl)
theorem dX4_digit_1 : decode cX4_digit 1 = .ok (.aload_n 0, 1) := dk_42 (dk_at dksX4_digit_0 1 rfl rfl)
theorem dX4_digit_2 : decode cX4_digit 2 = .ok (.getfield 1, 3) := dk_180 0 1 (dk_at dksX4_digit_0 2 rfl rfl)
theorem dX4_digit_5 : decode cX4_digit 5 = .ok (.iload_n 1, 1) := dk_27 (dk_at dksX4_digit_0 5 rfl rfl)
theorem dX4_digit_6 : decode cX4_digit 6 = .ok (.iaload, 1) := dk_46 (dk_at dksX4_digit_0 6 rfl rfl)
theorem dX4_digit_7 : decode cX4_digit 7 = .ok (.if_icmp .ge 18, 3) := dk_162 0 18 (dk_at dksX4_digit_0 7 rfl rfl)
theorem dX4_digit_10 : decode cX4_digit 10 = .ok (.aload_n 0, 1) := dk_42 (dk_at dksX4_digit_0 10 rfl rfl)
theorem dX4_digit_11 : decode cX4_digit 11 = .ok (.getfield 7, 3) := dk_180 0 7 (dk_at dksX4_digit_0 11 rfl rfl)
theorem dX4_digit_14 : decode cX4_digit 14 = .ok (.sipush 240, 3) := dk_17 0 240 (dk_at dksX4_digit_0 14 rfl rfl)
theorem dX4_digit_17 : decode cX4_digit 17 = .ok (.iload_n 1, 1) := dk_27 (dk_at dksX4_digit_0 17 rfl rfl)
theorem dX4_digit_18 : decode cX4_digit 18 = .ok (.imul, 1) := dk_104 (dk_at dksX4_digit_0 18 rfl rfl)
theorem dX4_digit_19 : decode cX4_digit 19 = .ok (.iload_n 2, 1) := dk_28 (dk_at dksX4_digit_0 19 rfl rfl)
theorem dX4_digit_20 : decode cX4_digit 20 = .ok (.iadd, 1) := dk_96 (dk_at dksX4_digit_0 20 rfl rfl)
theorem dX4_digit_21 : decode cX4_digit 21 = .ok (.iaload, 1) := dk_46 (dk_at dksX4_digit_0 21 rfl rfl)
theorem dX4_digit_22 : decode cX4_digit 22 = .ok (.goto 4, 3) := dk_167 0 4 (dk_at dksX4_digit_1 0 rfl rfl)
theorem dX4_digit_25 : decode cX4_digit 25 = .ok (.iconst 0, 1) := dk_3 (dk_at dksX4_digit_1 3 rfl rfl)
theorem dX4_digit_26 : decode cX4_digit 26 = .ok (.ireturn, 1) := dk_172 (dk_at dksX4_digit_1 4 rfl rfl)
def dkwX4_lays_2 : List UInt8 := [180, 0, 60, 27, 21, 4, 79, 42, 180, 0, 63, 27, 4, 84, 4, 172]
abbrev dktX4_lays_2 : List UInt8 := dkwX4_lays_2 ++ []
def dkwX4_lays_1 : List UInt8 := [180, 0, 56, 27, 29, 153, 0, 12, 42, 28, 182, 0, 194, 117, 167, 0, 8, 42, 28, 182, 0, 194, 80, 42]
abbrev dktX4_lays_1 : List UInt8 := dkwX4_lays_1 ++ dktX4_lays_2
def dkwX4_lays_0 : List UInt8 := [42, 180, 0, 1, 28, 46, 16, 18, 163, 0, 11, 21, 4, 184, 0, 190, 154, 0, 5, 3, 172, 42]
abbrev dktX4_lays_0 : List UInt8 := dkwX4_lays_0 ++ dktX4_lays_1
theorem dksX4_lays_0 : cX4_lays.data.toList.drop 0 = dktX4_lays_0 := by decide +kernel
theorem dksX4_lays_1 : cX4_lays.data.toList.drop 22 = dktX4_lays_1 := dk_seg dksX4_lays_0 22 rfl rfl
theorem dksX4_lays_2 : cX4_lays.data.toList.drop 46 = dktX4_lays_2 := dk_seg dksX4_lays_1 24 rfl rfl
theorem dX4_lays_0 : decode cX4_lays 0 = .ok (.aload_n 0, 1) := dk_42 (dk_at dksX4_lays_0 0 rfl rfl)
theorem dX4_lays_1 : decode cX4_lays 1 = .ok (.getfield 1, 3) := dk_180 0 1 (dk_at dksX4_lays_0 1 rfl rfl)
theorem dX4_lays_4 : decode cX4_lays 4 = .ok (.iload_n 2, 1) := dk_28 (dk_at dksX4_lays_0 4 rfl rfl)
theorem dX4_lays_5 : decode cX4_lays 5 = .ok (.iaload, 1) := dk_46 (dk_at dksX4_lays_0 5 rfl rfl)
theorem dX4_lays_6 : decode cX4_lays 6 = .ok (.bipush 18, 2) := dk_16 18 (dk_at dksX4_lays_0 6 rfl rfl)
theorem dX4_lays_8 : decode cX4_lays 8 = .ok (.if_icmp .gt 11, 3) := dk_163 0 11 (dk_at dksX4_lays_0 8 rfl rfl)
theorem dX4_lays_11 : decode cX4_lays 11 = .ok (.iload 4, 2) := dk_21 4 (dk_at dksX4_lays_0 11 rfl rfl)
theorem dX4_lays_13 : decode cX4_lays 13 = .ok (.invokestatic 190, 3) := dk_184 0 190 (dk_at dksX4_lays_0 13 rfl rfl)
theorem dX4_lays_16 : decode cX4_lays 16 = .ok (.ifCond .ne 5, 3) := dk_154 0 5 (dk_at dksX4_lays_0 16 rfl rfl)
theorem dX4_lays_19 : decode cX4_lays 19 = .ok (.iconst 0, 1) := dk_3 (dk_at dksX4_lays_0 19 rfl rfl)
theorem dX4_lays_20 : decode cX4_lays 20 = .ok (.ireturn, 1) := dk_172 (dk_at dksX4_lays_0 20 rfl rfl)
theorem dX4_lays_21 : decode cX4_lays 21 = .ok (.aload_n 0, 1) := dk_42 (dk_at dksX4_lays_0 21 rfl rfl)
theorem dX4_lays_22 : decode cX4_lays 22 = .ok (.getfield 56, 3) := dk_180 0 56 (dk_at dksX4_lays_1 0 rfl rfl)
theorem dX4_lays_25 : decode cX4_lays 25 = .ok (.iload_n 1, 1) := dk_27 (dk_at dksX4_lays_1 3 rfl rfl)
theorem dX4_lays_26 : decode cX4_lays 26 = .ok (.iload_n 3, 1) := dk_29 (dk_at dksX4_lays_1 4 rfl rfl)
theorem dX4_lays_27 : decode cX4_lays 27 = .ok (.ifCond .eq 12, 3) := dk_153 0 12 (dk_at dksX4_lays_1 5 rfl rfl)
theorem dX4_lays_30 : decode cX4_lays 30 = .ok (.aload_n 0, 1) := dk_42 (dk_at dksX4_lays_1 8 rfl rfl)
theorem dX4_lays_31 : decode cX4_lays 31 = .ok (.iload_n 2, 1) := dk_28 (dk_at dksX4_lays_1 9 rfl rfl)
theorem dX4_lays_32 : decode cX4_lays 32 = .ok (.invokevirtual 194, 3) := dk_182 0 194 (dk_at dksX4_lays_1 10 rfl rfl)
theorem dX4_lays_35 : decode cX4_lays 35 = .ok (.lneg, 1) := dk_117 (dk_at dksX4_lays_1 13 rfl rfl)
theorem dX4_lays_36 : decode cX4_lays 36 = .ok (.goto 8, 3) := dk_167 0 8 (dk_at dksX4_lays_1 14 rfl rfl)
theorem dX4_lays_39 : decode cX4_lays 39 = .ok (.aload_n 0, 1) := dk_42 (dk_at dksX4_lays_1 17 rfl rfl)
theorem dX4_lays_40 : decode cX4_lays 40 = .ok (.iload_n 2, 1) := dk_28 (dk_at dksX4_lays_1 18 rfl rfl)
theorem dX4_lays_41 : decode cX4_lays 41 = .ok (.invokevirtual 194, 3) := dk_182 0 194 (dk_at dksX4_lays_1 19 rfl rfl)
theorem dX4_lays_44 : decode cX4_lays 44 = .ok (.lastore, 1) := dk_80 (dk_at dksX4_lays_1 22 rfl rfl)
theorem dX4_lays_45 : decode cX4_lays 45 = .ok (.aload_n 0, 1) := dk_42 (dk_at dksX4_lays_1 23 rfl rfl)
theorem dX4_lays_46 : decode cX4_lays 46 = .ok (.getfield 60, 3) := dk_180 0 60 (dk_at dksX4_lays_2 0 rfl rfl)
theorem dX4_lays_49 : decode cX4_lays 49 = .ok (.iload_n 1, 1) := dk_27 (dk_at dksX4_lays_2 3 rfl rfl)
theorem dX4_lays_50 : decode cX4_lays 50 = .ok (.iload 4, 2) := dk_21 4 (dk_at dksX4_lays_2 4 rfl rfl)
theorem dX4_lays_52 : decode cX4_lays 52 = .ok (.iastore, 1) := dk_79 (dk_at dksX4_lays_2 6 rfl rfl)
theorem dX4_lays_53 : decode cX4_lays 53 = .ok (.aload_n 0, 1) := dk_42 (dk_at dksX4_lays_2 7 rfl rfl)
theorem dX4_lays_54 : decode cX4_lays 54 = .ok (.getfield 63, 3) := dk_180 0 63 (dk_at dksX4_lays_2 8 rfl rfl)
theorem dX4_lays_57 : decode cX4_lays 57 = .ok (.iload_n 1, 1) := dk_27 (dk_at dksX4_lays_2 11 rfl rfl)
theorem dX4_lays_58 : decode cX4_lays 58 = .ok (.iconst 1, 1) := dk_4 (dk_at dksX4_lays_2 12 rfl rfl)
theorem dX4_lays_59 : decode cX4_lays 59 = .ok (.bastore, 1) := dk_84 (dk_at dksX4_lays_2 13 rfl rfl)
theorem dX4_lays_60 : decode cX4_lays 60 = .ok (.iconst 1, 1) := dk_4 (dk_at dksX4_lays_2 14 rfl rfl)
theorem dX4_lays_61 : decode cX4_lays 61 = .ok (.ireturn, 1) := dk_172 (dk_at dksX4_lays_2 15 rfl rfl)
def dkwX4_value_1 : List UInt8 := [21, 4, 182, 0, 10, 133, 97, 65, 132, 4, 255, 167, 255, 233, 32, 173]
abbrev dktX4_value_1 : List UInt8 := dkwX4_value_1 ++ []
def dkwX4_value_0 : List UInt8 := [9, 65, 42, 180, 0, 1, 27, 46, 4, 100, 54, 4, 21, 4, 155, 0, 24, 20, 0, 14, 32, 105, 42, 27]
abbrev dktX4_value_0 : List UInt8 := dkwX4_value_0 ++ dktX4_value_1
theorem dksX4_value_0 : cX4_value.data.toList.drop 0 = dktX4_value_0 := by decide +kernel
theorem dksX4_value_1 : cX4_value.data.toList.drop 24 = dktX4_value_1 := dk_seg dksX4_value_0 24 rfl rfl
theorem dX4_value_0 : decode cX4_value 0 = .ok (.lconst 0, 1) := dk_9 (dk_at dksX4_value_0 0 rfl rfl)
theorem dX4_value_1 : decode cX4_value 1 = .ok (.lstore_n 2, 1) := dk_65 (dk_at dksX4_value_0 1 rfl rfl)
theorem dX4_value_2 : decode cX4_value 2 = .ok (.aload_n 0, 1) := dk_42 (dk_at dksX4_value_0 2 rfl rfl)
theorem dX4_value_3 : decode cX4_value 3 = .ok (.getfield 1, 3) := dk_180 0 1 (dk_at dksX4_value_0 3 rfl rfl)
theorem dX4_value_6 : decode cX4_value 6 = .ok (.iload_n 1, 1) := dk_27 (dk_at dksX4_value_0 6 rfl rfl)
theorem dX4_value_7 : decode cX4_value 7 = .ok (.iaload, 1) := dk_46 (dk_at dksX4_value_0 7 rfl rfl)
theorem dX4_value_8 : decode cX4_value 8 = .ok (.iconst 1, 1) := dk_4 (dk_at dksX4_value_0 8 rfl rfl)
theorem dX4_value_9 : decode cX4_value 9 = .ok (.isub, 1) := dk_100 (dk_at dksX4_value_0 9 rfl rfl)
theorem dX4_value_10 : decode cX4_value 10 = .ok (.istore 4, 2) := dk_54 4 (dk_at dksX4_value_0 10 rfl rfl)
theorem dX4_value_12 : decode cX4_value 12 = .ok (.iload 4, 2) := dk_21 4 (dk_at dksX4_value_0 12 rfl rfl)
theorem dX4_value_14 : decode cX4_value 14 = .ok (.ifCond .lt 24, 3) := dk_155 0 24 (dk_at dksX4_value_0 14 rfl rfl)
theorem dX4_value_17 : decode cX4_value 17 = .ok (.ldc2_w 14, 3) := dk_20 0 14 (dk_at dksX4_value_0 17 rfl rfl)
theorem dX4_value_20 : decode cX4_value 20 = .ok (.lload_n 2, 1) := dk_32 (dk_at dksX4_value_0 20 rfl rfl)
theorem dX4_value_21 : decode cX4_value 21 = .ok (.lmul, 1) := dk_105 (dk_at dksX4_value_0 21 rfl rfl)
theorem dX4_value_22 : decode cX4_value 22 = .ok (.aload_n 0, 1) := dk_42 (dk_at dksX4_value_0 22 rfl rfl)
theorem dX4_value_23 : decode cX4_value 23 = .ok (.iload_n 1, 1) := dk_27 (dk_at dksX4_value_0 23 rfl rfl)
theorem dX4_value_24 : decode cX4_value 24 = .ok (.iload 4, 2) := dk_21 4 (dk_at dksX4_value_1 0 rfl rfl)
theorem dX4_value_26 : decode cX4_value 26 = .ok (.invokevirtual 10, 3) := dk_182 0 10 (dk_at dksX4_value_1 2 rfl rfl)
theorem dX4_value_29 : decode cX4_value 29 = .ok (.i2l, 1) := dk_133 (dk_at dksX4_value_1 5 rfl rfl)
theorem dX4_value_30 : decode cX4_value 30 = .ok (.ladd, 1) := dk_97 (dk_at dksX4_value_1 6 rfl rfl)
theorem dX4_value_31 : decode cX4_value 31 = .ok (.lstore_n 2, 1) := dk_65 (dk_at dksX4_value_1 7 rfl rfl)
theorem dX4_value_32 : decode cX4_value 32 = .ok (.iinc 4 (-1), 3) := dk_132 4 255 (dk_at dksX4_value_1 8 rfl rfl)
theorem dX4_value_35 : decode cX4_value 35 = .ok (.goto (-23), 3) := dk_167 255 233 (dk_at dksX4_value_1 11 rfl rfl)
theorem dX4_value_38 : decode cX4_value 38 = .ok (.lload_n 2, 1) := dk_32 (dk_at dksX4_value_1 14 rfl rfl)
theorem dX4_value_39 : decode cX4_value 39 = .ok (.lreturn, 1) := dk_173 (dk_at dksX4_value_1 15 rfl rfl)
def dkwX4_wipe_0 : List UInt8 := [42, 3, 181, 0, 177, 42, 180, 0, 212, 60, 42, 3, 181, 0, 212, 27, 172]
abbrev dktX4_wipe_0 : List UInt8 := dkwX4_wipe_0 ++ []
theorem dksX4_wipe_0 : cX4_wipe.data.toList.drop 0 = dktX4_wipe_0 := by decide +kernel
theorem dX4_wipe_0 : decode cX4_wipe 0 = .ok (.aload_n 0, 1) := dk_42 (dk_at dksX4_wipe_0 0 rfl rfl)
theorem dX4_wipe_1 : decode cX4_wipe 1 = .ok (.iconst 0, 1) := dk_3 (dk_at dksX4_wipe_0 1 rfl rfl)
theorem dX4_wipe_2 : decode cX4_wipe 2 = .ok (.putfield 177, 3) := dk_181 0 177 (dk_at dksX4_wipe_0 2 rfl rfl)
theorem dX4_wipe_5 : decode cX4_wipe 5 = .ok (.aload_n 0, 1) := dk_42 (dk_at dksX4_wipe_0 5 rfl rfl)
theorem dX4_wipe_6 : decode cX4_wipe 6 = .ok (.getfield 212, 3) := dk_180 0 212 (dk_at dksX4_wipe_0 6 rfl rfl)
theorem dX4_wipe_9 : decode cX4_wipe 9 = .ok (.istore_n 1, 1) := dk_60 (dk_at dksX4_wipe_0 9 rfl rfl)
theorem dX4_wipe_10 : decode cX4_wipe 10 = .ok (.aload_n 0, 1) := dk_42 (dk_at dksX4_wipe_0 10 rfl rfl)
theorem dX4_wipe_11 : decode cX4_wipe 11 = .ok (.iconst 0, 1) := dk_3 (dk_at dksX4_wipe_0 11 rfl rfl)
theorem dX4_wipe_12 : decode cX4_wipe 12 = .ok (.putfield 212, 3) := dk_181 0 212 (dk_at dksX4_wipe_0 12 rfl rfl)
theorem dX4_wipe_15 : decode cX4_wipe 15 = .ok (.iload_n 1, 1) := dk_27 (dk_at dksX4_wipe_0 15 rfl rfl)
theorem dX4_wipe_16 : decode cX4_wipe 16 = .ok (.ireturn, 1) := dk_172 (dk_at dksX4_wipe_0 16 rfl rfl)
def dkwX4_unscaled_0 : List UInt8 := [42, 42, 27, 182, 0, 227, 182, 0, 205, 153, 0, 7, 9, 167, 0, 9, 42, 180, 0, 56, 27, 47, 173]
abbrev dktX4_unscaled_0 : List UInt8 := dkwX4_unscaled_0 ++ []
theorem dksX4_unscaled_0 : cX4_unscaled.data.toList.drop 0 = dktX4_unscaled_0 := by decide +kernel
theorem dX4_unscaled_0 : decode cX4_unscaled 0 = .ok (.aload_n 0, 1) := dk_42 (dk_at dksX4_unscaled_0 0 rfl rfl)
theorem dX4_unscaled_1 : decode cX4_unscaled 1 = .ok (.aload_n 0, 1) := dk_42 (dk_at dksX4_unscaled_0 1 rfl rfl)
theorem dX4_unscaled_2 : decode cX4_unscaled 2 = .ok (.iload_n 1, 1) := dk_27 (dk_at dksX4_unscaled_0 2 rfl rfl)
theorem dX4_unscaled_3 : decode cX4_unscaled 3 = .ok (.invokevirtual 227, 3) := dk_182 0 227 (dk_at dksX4_unscaled_0 3 rfl rfl)
theorem dX4_unscaled_6 : decode cX4_unscaled 6 = .ok (.invokevirtual 205, 3) := dk_182 0 205 (dk_at dksX4_unscaled_0 6 rfl rfl)
theorem dX4_unscaled_9 : decode cX4_unscaled 9 = .ok (.ifCond .eq 7, 3) := dk_153 0 7 (dk_at dksX4_unscaled_0 9 rfl rfl)
theorem dX4_unscaled_12 : decode cX4_unscaled 12 = .ok (.lconst 0, 1) := dk_9 (dk_at dksX4_unscaled_0 12 rfl rfl)
theorem dX4_unscaled_13 : decode cX4_unscaled 13 = .ok (.goto 9, 3) := dk_167 0 9 (dk_at dksX4_unscaled_0 13 rfl rfl)
theorem dX4_unscaled_16 : decode cX4_unscaled 16 = .ok (.aload_n 0, 1) := dk_42 (dk_at dksX4_unscaled_0 16 rfl rfl)
theorem dX4_unscaled_17 : decode cX4_unscaled 17 = .ok (.getfield 56, 3) := dk_180 0 56 (dk_at dksX4_unscaled_0 17 rfl rfl)
theorem dX4_unscaled_20 : decode cX4_unscaled 20 = .ok (.iload_n 1, 1) := dk_27 (dk_at dksX4_unscaled_0 20 rfl rfl)
theorem dX4_unscaled_21 : decode cX4_unscaled 21 = .ok (.laload, 1) := dk_47 (dk_at dksX4_unscaled_0 21 rfl rfl)
theorem dX4_unscaled_22 : decode cX4_unscaled 22 = .ok (.lreturn, 1) := dk_173 (dk_at dksX4_unscaled_0 22 rfl rfl)
def dkwX4_noValue_1 : List UInt8 := [5, 172]
abbrev dktX4_noValue_1 : List UInt8 := dkwX4_noValue_1 ++ []
def dkwX4_noValue_0 : List UInt8 := [27, 184, 0, 198, 154, 0, 7, 4, 167, 0, 17, 42, 180, 0, 63, 27, 51, 153, 0, 7, 3, 167, 0, 4]
abbrev dktX4_noValue_0 : List UInt8 := dkwX4_noValue_0 ++ dktX4_noValue_1
theorem dksX4_noValue_0 : cX4_noValue.data.toList.drop 0 = dktX4_noValue_0 := by decide +kernel
theorem dksX4_noValue_1 : cX4_noValue.data.toList.drop 24 = dktX4_noValue_1 := dk_seg dksX4_noValue_0 24 rfl rfl
theorem dX4_noValue_0 : decode cX4_noValue 0 = .ok (.iload_n 1, 1) := dk_27 (dk_at dksX4_noValue_0 0 rfl rfl)
theorem dX4_noValue_1 : decode cX4_noValue 1 = .ok (.invokestatic 198, 3) := dk_184 0 198 (dk_at dksX4_noValue_0 1 rfl rfl)
theorem dX4_noValue_4 : decode cX4_noValue 4 = .ok (.ifCond .ne 7, 3) := dk_154 0 7 (dk_at dksX4_noValue_0 4 rfl rfl)
theorem dX4_noValue_7 : decode cX4_noValue 7 = .ok (.iconst 1, 1) := dk_4 (dk_at dksX4_noValue_0 7 rfl rfl)
theorem dX4_noValue_8 : decode cX4_noValue 8 = .ok (.goto 17, 3) := dk_167 0 17 (dk_at dksX4_noValue_0 8 rfl rfl)
theorem dX4_noValue_11 : decode cX4_noValue 11 = .ok (.aload_n 0, 1) := dk_42 (dk_at dksX4_noValue_0 11 rfl rfl)
theorem dX4_noValue_12 : decode cX4_noValue 12 = .ok (.getfield 63, 3) := dk_180 0 63 (dk_at dksX4_noValue_0 12 rfl rfl)
theorem dX4_noValue_15 : decode cX4_noValue 15 = .ok (.iload_n 1, 1) := dk_27 (dk_at dksX4_noValue_0 15 rfl rfl)
theorem dX4_noValue_16 : decode cX4_noValue 16 = .ok (.baload, 1) := dk_51 (dk_at dksX4_noValue_0 16 rfl rfl)
theorem dX4_noValue_17 : decode cX4_noValue 17 = .ok (.ifCond .eq 7, 3) := dk_153 0 7 (dk_at dksX4_noValue_0 17 rfl rfl)
theorem dX4_noValue_20 : decode cX4_noValue 20 = .ok (.iconst 0, 1) := dk_3 (dk_at dksX4_noValue_0 20 rfl rfl)
theorem dX4_noValue_21 : decode cX4_noValue 21 = .ok (.goto 4, 3) := dk_167 0 4 (dk_at dksX4_noValue_0 21 rfl rfl)
theorem dX4_noValue_24 : decode cX4_noValue 24 = .ok (.iconst 2, 1) := dk_5 (dk_at dksX4_noValue_1 0 rfl rfl)
theorem dX4_noValue_25 : decode cX4_noValue 25 = .ok (.ireturn, 1) := dk_172 (dk_at dksX4_noValue_1 1 rfl rfl)
def dkwX4_scale_0 : List UInt8 := [42, 42, 27, 182, 0, 227, 182, 0, 205, 153, 0, 7, 3, 167, 0, 9, 42, 180, 0, 60, 27, 46, 172]
abbrev dktX4_scale_0 : List UInt8 := dkwX4_scale_0 ++ []
theorem dksX4_scale_0 : cX4_scale.data.toList.drop 0 = dktX4_scale_0 := by decide +kernel
theorem dX4_scale_0 : decode cX4_scale 0 = .ok (.aload_n 0, 1) := dk_42 (dk_at dksX4_scale_0 0 rfl rfl)
theorem dX4_scale_1 : decode cX4_scale 1 = .ok (.aload_n 0, 1) := dk_42 (dk_at dksX4_scale_0 1 rfl rfl)
theorem dX4_scale_2 : decode cX4_scale 2 = .ok (.iload_n 1, 1) := dk_27 (dk_at dksX4_scale_0 2 rfl rfl)
theorem dX4_scale_3 : decode cX4_scale 3 = .ok (.invokevirtual 227, 3) := dk_182 0 227 (dk_at dksX4_scale_0 3 rfl rfl)
theorem dX4_scale_6 : decode cX4_scale 6 = .ok (.invokevirtual 205, 3) := dk_182 0 205 (dk_at dksX4_scale_0 6 rfl rfl)
theorem dX4_scale_9 : decode cX4_scale 9 = .ok (.ifCond .eq 7, 3) := dk_153 0 7 (dk_at dksX4_scale_0 9 rfl rfl)
theorem dX4_scale_12 : decode cX4_scale 12 = .ok (.iconst 0, 1) := dk_3 (dk_at dksX4_scale_0 12 rfl rfl)
theorem dX4_scale_13 : decode cX4_scale 13 = .ok (.goto 9, 3) := dk_167 0 9 (dk_at dksX4_scale_0 13 rfl rfl)
theorem dX4_scale_16 : decode cX4_scale 16 = .ok (.aload_n 0, 1) := dk_42 (dk_at dksX4_scale_0 16 rfl rfl)
theorem dX4_scale_17 : decode cX4_scale 17 = .ok (.getfield 60, 3) := dk_180 0 60 (dk_at dksX4_scale_0 17 rfl rfl)
theorem dX4_scale_20 : decode cX4_scale 20 = .ok (.iload_n 1, 1) := dk_27 (dk_at dksX4_scale_0 20 rfl rfl)
theorem dX4_scale_21 : decode cX4_scale 21 = .ok (.iaload, 1) := dk_46 (dk_at dksX4_scale_0 21 rfl rfl)
theorem dX4_scale_22 : decode cX4_scale 22 = .ok (.ireturn, 1) := dk_172 (dk_at dksX4_scale_0 22 rfl rfl)
def dkwX4_precision_2 : List UInt8 := [167, 0, 12, 42, 180, 0, 56, 27, 47, 184, 0, 208, 172]
abbrev dktX4_precision_2 : List UInt8 := dkwX4_precision_2 ++ []
def dkwX4_precision_1 : List UInt8 := [172, 42, 180, 0, 56, 27, 47, 9, 148, 156, 0, 16, 42, 180, 0, 56, 27, 47, 184, 0, 208, 116]
abbrev dktX4_precision_1 : List UInt8 := dkwX4_precision_1 ++ dktX4_precision_2
def dkwX4_precision_0 : List UInt8 := [42, 42, 27, 182, 0, 227, 182, 0, 205, 154, 0, 14, 42, 180, 0, 56, 27, 47, 9, 148, 154, 0, 5, 3]
abbrev dktX4_precision_0 : List UInt8 := dkwX4_precision_0 ++ dktX4_precision_1
theorem dksX4_precision_0 : cX4_precision.data.toList.drop 0 = dktX4_precision_0 := by decide +kernel
theorem dksX4_precision_1 : cX4_precision.data.toList.drop 24 = dktX4_precision_1 := dk_seg dksX4_precision_0 24 rfl rfl
theorem dksX4_precision_2 : cX4_precision.data.toList.drop 46 = dktX4_precision_2 := dk_seg dksX4_precision_1 22 rfl rfl
theorem dX4_precision_0 : decode cX4_precision 0 = .ok (.aload_n 0, 1) := dk_42 (dk_at dksX4_precision_0 0 rfl rfl)
theorem dX4_precision_1 : decode cX4_precision 1 = .ok (.aload_n 0, 1) := dk_42 (dk_at dksX4_precision_0 1 rfl rfl)
theorem dX4_precision_2 : decode cX4_precision 2 = .ok (.iload_n 1, 1) := dk_27 (dk_at dksX4_precision_0 2 rfl rfl)
theorem dX4_precision_3 : decode cX4_precision 3 = .ok (.invokevirtual 227, 3) := dk_182 0 227 (dk_at dksX4_precision_0 3 rfl rfl)
theorem dX4_precision_6 : decode cX4_precision 6 = .ok (.invokevirtual 205, 3) := dk_182 0 205 (dk_at dksX4_precision_0 6 rfl rfl)
theorem dX4_precision_9 : decode cX4_precision 9 = .ok (.ifCond .ne 14, 3) := dk_154 0 14 (dk_at dksX4_precision_0 9 rfl rfl)
theorem dX4_precision_12 : decode cX4_precision 12 = .ok (.aload_n 0, 1) := dk_42 (dk_at dksX4_precision_0 12 rfl rfl)
theorem dX4_precision_13 : decode cX4_precision 13 = .ok (.getfield 56, 3) := dk_180 0 56 (dk_at dksX4_precision_0 13 rfl rfl)
theorem dX4_precision_16 : decode cX4_precision 16 = .ok (.iload_n 1, 1) := dk_27 (dk_at dksX4_precision_0 16 rfl rfl)
theorem dX4_precision_17 : decode cX4_precision 17 = .ok (.laload, 1) := dk_47 (dk_at dksX4_precision_0 17 rfl rfl)
theorem dX4_precision_18 : decode cX4_precision 18 = .ok (.lconst 0, 1) := dk_9 (dk_at dksX4_precision_0 18 rfl rfl)
theorem dX4_precision_19 : decode cX4_precision 19 = .ok (.lcmp, 1) := dk_148 (dk_at dksX4_precision_0 19 rfl rfl)
theorem dX4_precision_20 : decode cX4_precision 20 = .ok (.ifCond .ne 5, 3) := dk_154 0 5 (dk_at dksX4_precision_0 20 rfl rfl)
theorem dX4_precision_23 : decode cX4_precision 23 = .ok (.iconst 0, 1) := dk_3 (dk_at dksX4_precision_0 23 rfl rfl)
theorem dX4_precision_24 : decode cX4_precision 24 = .ok (.ireturn, 1) := dk_172 (dk_at dksX4_precision_1 0 rfl rfl)
theorem dX4_precision_25 : decode cX4_precision 25 = .ok (.aload_n 0, 1) := dk_42 (dk_at dksX4_precision_1 1 rfl rfl)
theorem dX4_precision_26 : decode cX4_precision 26 = .ok (.getfield 56, 3) := dk_180 0 56 (dk_at dksX4_precision_1 2 rfl rfl)
theorem dX4_precision_29 : decode cX4_precision 29 = .ok (.iload_n 1, 1) := dk_27 (dk_at dksX4_precision_1 5 rfl rfl)
theorem dX4_precision_30 : decode cX4_precision 30 = .ok (.laload, 1) := dk_47 (dk_at dksX4_precision_1 6 rfl rfl)
theorem dX4_precision_31 : decode cX4_precision 31 = .ok (.lconst 0, 1) := dk_9 (dk_at dksX4_precision_1 7 rfl rfl)
theorem dX4_precision_32 : decode cX4_precision 32 = .ok (.lcmp, 1) := dk_148 (dk_at dksX4_precision_1 8 rfl rfl)
theorem dX4_precision_33 : decode cX4_precision 33 = .ok (.ifCond .ge 16, 3) := dk_156 0 16 (dk_at dksX4_precision_1 9 rfl rfl)
theorem dX4_precision_36 : decode cX4_precision 36 = .ok (.aload_n 0, 1) := dk_42 (dk_at dksX4_precision_1 12 rfl rfl)
theorem dX4_precision_37 : decode cX4_precision 37 = .ok (.getfield 56, 3) := dk_180 0 56 (dk_at dksX4_precision_1 13 rfl rfl)
theorem dX4_precision_40 : decode cX4_precision 40 = .ok (.iload_n 1, 1) := dk_27 (dk_at dksX4_precision_1 16 rfl rfl)
theorem dX4_precision_41 : decode cX4_precision 41 = .ok (.laload, 1) := dk_47 (dk_at dksX4_precision_1 17 rfl rfl)
theorem dX4_precision_42 : decode cX4_precision 42 = .ok (.invokestatic 208, 3) := dk_184 0 208 (dk_at dksX4_precision_1 18 rfl rfl)
theorem dX4_precision_45 : decode cX4_precision 45 = .ok (.ineg, 1) := dk_116 (dk_at dksX4_precision_1 21 rfl rfl)
theorem dX4_precision_46 : decode cX4_precision 46 = .ok (.goto 12, 3) := dk_167 0 12 (dk_at dksX4_precision_2 0 rfl rfl)
theorem dX4_precision_49 : decode cX4_precision 49 = .ok (.aload_n 0, 1) := dk_42 (dk_at dksX4_precision_2 3 rfl rfl)
theorem dX4_precision_50 : decode cX4_precision 50 = .ok (.getfield 56, 3) := dk_180 0 56 (dk_at dksX4_precision_2 4 rfl rfl)
theorem dX4_precision_53 : decode cX4_precision 53 = .ok (.iload_n 1, 1) := dk_27 (dk_at dksX4_precision_2 7 rfl rfl)
theorem dX4_precision_54 : decode cX4_precision 54 = .ok (.laload, 1) := dk_47 (dk_at dksX4_precision_2 8 rfl rfl)
theorem dX4_precision_55 : decode cX4_precision 55 = .ok (.invokestatic 208, 3) := dk_184 0 208 (dk_at dksX4_precision_2 9 rfl rfl)
theorem dX4_precision_58 : decode cX4_precision 58 = .ok (.ireturn, 1) := dk_172 (dk_at dksX4_precision_2 12 rfl rfl)
def dkwX4_join_11 : List UInt8 := [46, 172]
abbrev dktX4_join_11 : List UInt8 := dkwX4_join_11 ++ []
def dkwX4_join_10 : List UInt8 := [153, 0, 7, 3, 167, 0, 4, 7, 182, 0, 205, 153, 0, 7, 3, 167, 0, 10, 42, 180, 0, 60, 21, 4]
abbrev dktX4_join_10 : List UInt8 := dkwX4_join_10 ++ dktX4_join_11
def dkwX4_join_9 : List UInt8 := [28, 182, 0, 255, 157, 0, 7, 27, 167, 0, 4, 28, 21, 4, 182, 1, 2, 54, 6, 42, 21, 6]
abbrev dktX4_join_9 : List UInt8 := dkwX4_join_9 ++ dktX4_join_10
def dkwX4_join_8 : List UInt8 := [182, 0, 255, 155, 0, 7, 27, 167, 0, 4, 28, 21, 4, 182, 1, 2, 54, 6, 167, 0, 25, 42, 42, 27]
abbrev dktX4_join_8 : List UInt8 := dkwX4_join_8 ++ dktX4_join_9
def dkwX4_join_7 : List UInt8 := [54, 6, 167, 0, 63, 42, 27, 28, 21, 4, 182, 0, 251, 54, 6, 167, 0, 50, 42, 42, 27, 28]
abbrev dktX4_join_7 : List UInt8 := dkwX4_join_7 ++ dktX4_join_8
def dkwX4_join_6 : List UInt8 := [42, 27, 28, 3, 21, 4, 182, 0, 248, 54, 6, 167, 0, 77, 42, 27, 28, 4, 21, 4, 182, 0, 248]
abbrev dktX4_join_6 : List UInt8 := dkwX4_join_6 ++ dktX4_join_7
def dkwX4_join_5 : List UInt8 := [171, 0, 0, 0, 0, 108, 0, 0, 0, 4, 0, 0, 0, 42, 0, 0, 0, 70, 0, 0, 0, 43, 0, 0, 0, 42, 0, 0, 0, 45, 0, 0, 0, 56, 0, 0, 0, 103, 0, 0, 0, 83]
abbrev dktX4_join_5 : List UInt8 := dkwX4_join_5 ++ dktX4_join_6
def dkwX4_join_4 : List UInt8 := [172, 29]
abbrev dktX4_join_4 : List UInt8 := dkwX4_join_4 ++ dktX4_join_5
def dkwX4_join_3 : List UInt8 := [153, 0, 12, 42, 180, 0, 63, 28, 51, 154, 0, 7, 6, 167, 0, 4, 3, 182, 0, 205, 153, 0, 5, 3]
abbrev dktX4_join_3 : List UInt8 := dkwX4_join_3 ++ dktX4_join_4
def dkwX4_join_2 : List UInt8 := [158, 0, 7, 4, 167, 0, 35, 21, 5, 154, 0, 7, 5, 167, 0, 26, 42, 180, 0, 63, 27, 51]
abbrev dktX4_join_2 : List UInt8 := dkwX4_join_2 ++ dktX4_join_3
def dkwX4_join_1 : List UInt8 := [29, 16, 108, 160, 0, 7, 4, 167, 0, 4, 3, 54, 5, 42, 42, 27, 28, 21, 4, 182, 0, 244]
abbrev dktX4_join_1 : List UInt8 := dkwX4_join_1 ++ dktX4_join_2
def dkwX4_join_0 : List UInt8 := [29, 16, 43, 159, 0, 27, 29, 16, 45, 159, 0, 21, 29, 16, 42, 159, 0, 15, 29, 16, 103, 159, 0, 9]
abbrev dktX4_join_0 : List UInt8 := dkwX4_join_0 ++ dktX4_join_1
theorem dksX4_join_0 : cX4_join.data.toList.drop 0 = dktX4_join_0 := by decide +kernel
theorem dksX4_join_1 : cX4_join.data.toList.drop 24 = dktX4_join_1 := dk_seg dksX4_join_0 24 rfl rfl
theorem dksX4_join_2 : cX4_join.data.toList.drop 46 = dktX4_join_2 := dk_seg dksX4_join_1 22 rfl rfl
theorem dksX4_join_3 : cX4_join.data.toList.drop 68 = dktX4_join_3 := dk_seg dksX4_join_2 22 rfl rfl
theorem dksX4_join_4 : cX4_join.data.toList.drop 92 = dktX4_join_4 := dk_seg dksX4_join_3 24 rfl rfl
theorem dksX4_join_5 : cX4_join.data.toList.drop 94 = dktX4_join_5 := dk_seg dksX4_join_4 2 rfl rfl
theorem dksX4_join_6 : cX4_join.data.toList.drop 136 = dktX4_join_6 := dk_seg dksX4_join_5 42 rfl rfl
theorem dksX4_join_7 : cX4_join.data.toList.drop 159 = dktX4_join_7 := dk_seg dksX4_join_6 23 rfl rfl
theorem dksX4_join_8 : cX4_join.data.toList.drop 181 = dktX4_join_8 := dk_seg dksX4_join_7 22 rfl rfl
theorem dksX4_join_9 : cX4_join.data.toList.drop 205 = dktX4_join_9 := dk_seg dksX4_join_8 24 rfl rfl
theorem dksX4_join_10 : cX4_join.data.toList.drop 227 = dktX4_join_10 := dk_seg dksX4_join_9 22 rfl rfl
theorem dksX4_join_11 : cX4_join.data.toList.drop 251 = dktX4_join_11 := dk_seg dksX4_join_10 24 rfl rfl
theorem dX4_join_0 : decode cX4_join 0 = .ok (.iload_n 3, 1) := dk_29 (dk_at dksX4_join_0 0 rfl rfl)
theorem dX4_join_1 : decode cX4_join 1 = .ok (.bipush 43, 2) := dk_16 43 (dk_at dksX4_join_0 1 rfl rfl)
theorem dX4_join_3 : decode cX4_join 3 = .ok (.if_icmp .eq 27, 3) := dk_159 0 27 (dk_at dksX4_join_0 3 rfl rfl)
theorem dX4_join_6 : decode cX4_join 6 = .ok (.iload_n 3, 1) := dk_29 (dk_at dksX4_join_0 6 rfl rfl)
theorem dX4_join_7 : decode cX4_join 7 = .ok (.bipush 45, 2) := dk_16 45 (dk_at dksX4_join_0 7 rfl rfl)
theorem dX4_join_9 : decode cX4_join 9 = .ok (.if_icmp .eq 21, 3) := dk_159 0 21 (dk_at dksX4_join_0 9 rfl rfl)
theorem dX4_join_12 : decode cX4_join 12 = .ok (.iload_n 3, 1) := dk_29 (dk_at dksX4_join_0 12 rfl rfl)
theorem dX4_join_13 : decode cX4_join 13 = .ok (.bipush 42, 2) := dk_16 42 (dk_at dksX4_join_0 13 rfl rfl)
theorem dX4_join_15 : decode cX4_join 15 = .ok (.if_icmp .eq 15, 3) := dk_159 0 15 (dk_at dksX4_join_0 15 rfl rfl)
theorem dX4_join_18 : decode cX4_join 18 = .ok (.iload_n 3, 1) := dk_29 (dk_at dksX4_join_0 18 rfl rfl)
theorem dX4_join_19 : decode cX4_join 19 = .ok (.bipush 103, 2) := dk_16 103 (dk_at dksX4_join_0 19 rfl rfl)
theorem dX4_join_21 : decode cX4_join 21 = .ok (.if_icmp .eq 9, 3) := dk_159 0 9 (dk_at dksX4_join_0 21 rfl rfl)
theorem dX4_join_24 : decode cX4_join 24 = .ok (.iload_n 3, 1) := dk_29 (dk_at dksX4_join_1 0 rfl rfl)
theorem dX4_join_25 : decode cX4_join 25 = .ok (.bipush 108, 2) := dk_16 108 (dk_at dksX4_join_1 1 rfl rfl)
theorem dX4_join_27 : decode cX4_join 27 = .ok (.if_icmp .ne 7, 3) := dk_160 0 7 (dk_at dksX4_join_1 3 rfl rfl)
theorem dX4_join_30 : decode cX4_join 30 = .ok (.iconst 1, 1) := dk_4 (dk_at dksX4_join_1 6 rfl rfl)
theorem dX4_join_31 : decode cX4_join 31 = .ok (.goto 4, 3) := dk_167 0 4 (dk_at dksX4_join_1 7 rfl rfl)
theorem dX4_join_34 : decode cX4_join 34 = .ok (.iconst 0, 1) := dk_3 (dk_at dksX4_join_1 10 rfl rfl)
theorem dX4_join_35 : decode cX4_join 35 = .ok (.istore 5, 2) := dk_54 5 (dk_at dksX4_join_1 11 rfl rfl)
theorem dX4_join_37 : decode cX4_join 37 = .ok (.aload_n 0, 1) := dk_42 (dk_at dksX4_join_1 13 rfl rfl)
theorem dX4_join_38 : decode cX4_join 38 = .ok (.aload_n 0, 1) := dk_42 (dk_at dksX4_join_1 14 rfl rfl)
theorem dX4_join_39 : decode cX4_join 39 = .ok (.iload_n 1, 1) := dk_27 (dk_at dksX4_join_1 15 rfl rfl)
theorem dX4_join_40 : decode cX4_join 40 = .ok (.iload_n 2, 1) := dk_28 (dk_at dksX4_join_1 16 rfl rfl)
theorem dX4_join_41 : decode cX4_join 41 = .ok (.iload 4, 2) := dk_21 4 (dk_at dksX4_join_1 17 rfl rfl)
theorem dX4_join_43 : decode cX4_join 43 = .ok (.invokevirtual 244, 3) := dk_182 0 244 (dk_at dksX4_join_1 19 rfl rfl)
theorem dX4_join_46 : decode cX4_join 46 = .ok (.ifCond .le 7, 3) := dk_158 0 7 (dk_at dksX4_join_2 0 rfl rfl)
theorem dX4_join_49 : decode cX4_join 49 = .ok (.iconst 1, 1) := dk_4 (dk_at dksX4_join_2 3 rfl rfl)
theorem dX4_join_50 : decode cX4_join 50 = .ok (.goto 35, 3) := dk_167 0 35 (dk_at dksX4_join_2 4 rfl rfl)
theorem dX4_join_53 : decode cX4_join 53 = .ok (.iload 5, 2) := dk_21 5 (dk_at dksX4_join_2 7 rfl rfl)
theorem dX4_join_55 : decode cX4_join 55 = .ok (.ifCond .ne 7, 3) := dk_154 0 7 (dk_at dksX4_join_2 9 rfl rfl)
theorem dX4_join_58 : decode cX4_join 58 = .ok (.iconst 2, 1) := dk_5 (dk_at dksX4_join_2 12 rfl rfl)
theorem dX4_join_59 : decode cX4_join 59 = .ok (.goto 26, 3) := dk_167 0 26 (dk_at dksX4_join_2 13 rfl rfl)
theorem dX4_join_62 : decode cX4_join 62 = .ok (.aload_n 0, 1) := dk_42 (dk_at dksX4_join_2 16 rfl rfl)
theorem dX4_join_63 : decode cX4_join 63 = .ok (.getfield 63, 3) := dk_180 0 63 (dk_at dksX4_join_2 17 rfl rfl)
theorem dX4_join_66 : decode cX4_join 66 = .ok (.iload_n 1, 1) := dk_27 (dk_at dksX4_join_2 20 rfl rfl)
theorem dX4_join_67 : decode cX4_join 67 = .ok (.baload, 1) := dk_51 (dk_at dksX4_join_2 21 rfl rfl)
theorem dX4_join_68 : decode cX4_join 68 = .ok (.ifCond .eq 12, 3) := dk_153 0 12 (dk_at dksX4_join_3 0 rfl rfl)
theorem dX4_join_71 : decode cX4_join 71 = .ok (.aload_n 0, 1) := dk_42 (dk_at dksX4_join_3 3 rfl rfl)
theorem dX4_join_72 : decode cX4_join 72 = .ok (.getfield 63, 3) := dk_180 0 63 (dk_at dksX4_join_3 4 rfl rfl)
theorem dX4_join_75 : decode cX4_join 75 = .ok (.iload_n 2, 1) := dk_28 (dk_at dksX4_join_3 7 rfl rfl)
theorem dX4_join_76 : decode cX4_join 76 = .ok (.baload, 1) := dk_51 (dk_at dksX4_join_3 8 rfl rfl)
theorem dX4_join_77 : decode cX4_join 77 = .ok (.ifCond .ne 7, 3) := dk_154 0 7 (dk_at dksX4_join_3 9 rfl rfl)
theorem dX4_join_80 : decode cX4_join 80 = .ok (.iconst 3, 1) := dk_6 (dk_at dksX4_join_3 12 rfl rfl)
theorem dX4_join_81 : decode cX4_join 81 = .ok (.goto 4, 3) := dk_167 0 4 (dk_at dksX4_join_3 13 rfl rfl)
theorem dX4_join_84 : decode cX4_join 84 = .ok (.iconst 0, 1) := dk_3 (dk_at dksX4_join_3 16 rfl rfl)
theorem dX4_join_85 : decode cX4_join 85 = .ok (.invokevirtual 205, 3) := dk_182 0 205 (dk_at dksX4_join_3 17 rfl rfl)
theorem dX4_join_88 : decode cX4_join 88 = .ok (.ifCond .eq 5, 3) := dk_153 0 5 (dk_at dksX4_join_3 20 rfl rfl)
theorem dX4_join_91 : decode cX4_join 91 = .ok (.iconst 0, 1) := dk_3 (dk_at dksX4_join_3 23 rfl rfl)
theorem dX4_join_92 : decode cX4_join 92 = .ok (.ireturn, 1) := dk_172 (dk_at dksX4_join_4 0 rfl rfl)
theorem dX4_join_93 : decode cX4_join 93 = .ok (.iload_n 3, 1) := dk_29 (dk_at dksX4_join_4 1 rfl rfl)
theorem dX4_join_94 : decode cX4_join 94 = .ok (.lookupswitch 108 #[(42, 70), (43, 42), (45, 56), (103, 83)], 42) := by decide +kernel
theorem dX4_join_136 : decode cX4_join 136 = .ok (.aload_n 0, 1) := dk_42 (dk_at dksX4_join_6 0 rfl rfl)
theorem dX4_join_137 : decode cX4_join 137 = .ok (.iload_n 1, 1) := dk_27 (dk_at dksX4_join_6 1 rfl rfl)
theorem dX4_join_138 : decode cX4_join 138 = .ok (.iload_n 2, 1) := dk_28 (dk_at dksX4_join_6 2 rfl rfl)
theorem dX4_join_139 : decode cX4_join 139 = .ok (.iconst 0, 1) := dk_3 (dk_at dksX4_join_6 3 rfl rfl)
theorem dX4_join_140 : decode cX4_join 140 = .ok (.iload 4, 2) := dk_21 4 (dk_at dksX4_join_6 4 rfl rfl)
theorem dX4_join_142 : decode cX4_join 142 = .ok (.invokevirtual 248, 3) := dk_182 0 248 (dk_at dksX4_join_6 6 rfl rfl)
theorem dX4_join_145 : decode cX4_join 145 = .ok (.istore 6, 2) := dk_54 6 (dk_at dksX4_join_6 9 rfl rfl)
theorem dX4_join_147 : decode cX4_join 147 = .ok (.goto 77, 3) := dk_167 0 77 (dk_at dksX4_join_6 11 rfl rfl)
theorem dX4_join_150 : decode cX4_join 150 = .ok (.aload_n 0, 1) := dk_42 (dk_at dksX4_join_6 14 rfl rfl)
theorem dX4_join_151 : decode cX4_join 151 = .ok (.iload_n 1, 1) := dk_27 (dk_at dksX4_join_6 15 rfl rfl)
theorem dX4_join_152 : decode cX4_join 152 = .ok (.iload_n 2, 1) := dk_28 (dk_at dksX4_join_6 16 rfl rfl)
theorem dX4_join_153 : decode cX4_join 153 = .ok (.iconst 1, 1) := dk_4 (dk_at dksX4_join_6 17 rfl rfl)
theorem dX4_join_154 : decode cX4_join 154 = .ok (.iload 4, 2) := dk_21 4 (dk_at dksX4_join_6 18 rfl rfl)
theorem dX4_join_156 : decode cX4_join 156 = .ok (.invokevirtual 248, 3) := dk_182 0 248 (dk_at dksX4_join_6 20 rfl rfl)
theorem dX4_join_159 : decode cX4_join 159 = .ok (.istore 6, 2) := dk_54 6 (dk_at dksX4_join_7 0 rfl rfl)
theorem dX4_join_161 : decode cX4_join 161 = .ok (.goto 63, 3) := dk_167 0 63 (dk_at dksX4_join_7 2 rfl rfl)
theorem dX4_join_164 : decode cX4_join 164 = .ok (.aload_n 0, 1) := dk_42 (dk_at dksX4_join_7 5 rfl rfl)
theorem dX4_join_165 : decode cX4_join 165 = .ok (.iload_n 1, 1) := dk_27 (dk_at dksX4_join_7 6 rfl rfl)
theorem dX4_join_166 : decode cX4_join 166 = .ok (.iload_n 2, 1) := dk_28 (dk_at dksX4_join_7 7 rfl rfl)
theorem dX4_join_167 : decode cX4_join 167 = .ok (.iload 4, 2) := dk_21 4 (dk_at dksX4_join_7 8 rfl rfl)
theorem dX4_join_169 : decode cX4_join 169 = .ok (.invokevirtual 251, 3) := dk_182 0 251 (dk_at dksX4_join_7 10 rfl rfl)
theorem dX4_join_172 : decode cX4_join 172 = .ok (.istore 6, 2) := dk_54 6 (dk_at dksX4_join_7 13 rfl rfl)
theorem dX4_join_174 : decode cX4_join 174 = .ok (.goto 50, 3) := dk_167 0 50 (dk_at dksX4_join_7 15 rfl rfl)
theorem dX4_join_177 : decode cX4_join 177 = .ok (.aload_n 0, 1) := dk_42 (dk_at dksX4_join_7 18 rfl rfl)
theorem dX4_join_178 : decode cX4_join 178 = .ok (.aload_n 0, 1) := dk_42 (dk_at dksX4_join_7 19 rfl rfl)
theorem dX4_join_179 : decode cX4_join 179 = .ok (.iload_n 1, 1) := dk_27 (dk_at dksX4_join_7 20 rfl rfl)
theorem dX4_join_180 : decode cX4_join 180 = .ok (.iload_n 2, 1) := dk_28 (dk_at dksX4_join_7 21 rfl rfl)
theorem dX4_join_181 : decode cX4_join 181 = .ok (.invokevirtual 255, 3) := dk_182 0 255 (dk_at dksX4_join_8 0 rfl rfl)
theorem dX4_join_184 : decode cX4_join 184 = .ok (.ifCond .lt 7, 3) := dk_155 0 7 (dk_at dksX4_join_8 3 rfl rfl)
theorem dX4_join_187 : decode cX4_join 187 = .ok (.iload_n 1, 1) := dk_27 (dk_at dksX4_join_8 6 rfl rfl)
theorem dX4_join_188 : decode cX4_join 188 = .ok (.goto 4, 3) := dk_167 0 4 (dk_at dksX4_join_8 7 rfl rfl)
theorem dX4_join_191 : decode cX4_join 191 = .ok (.iload_n 2, 1) := dk_28 (dk_at dksX4_join_8 10 rfl rfl)
theorem dX4_join_192 : decode cX4_join 192 = .ok (.iload 4, 2) := dk_21 4 (dk_at dksX4_join_8 11 rfl rfl)
theorem dX4_join_194 : decode cX4_join 194 = .ok (.invokevirtual 258, 3) := dk_182 1 2 (dk_at dksX4_join_8 13 rfl rfl)
theorem dX4_join_197 : decode cX4_join 197 = .ok (.istore 6, 2) := dk_54 6 (dk_at dksX4_join_8 16 rfl rfl)
theorem dX4_join_199 : decode cX4_join 199 = .ok (.goto 25, 3) := dk_167 0 25 (dk_at dksX4_join_8 18 rfl rfl)
theorem dX4_join_202 : decode cX4_join 202 = .ok (.aload_n 0, 1) := dk_42 (dk_at dksX4_join_8 21 rfl rfl)
theorem dX4_join_203 : decode cX4_join 203 = .ok (.aload_n 0, 1) := dk_42 (dk_at dksX4_join_8 22 rfl rfl)
theorem dX4_join_204 : decode cX4_join 204 = .ok (.iload_n 1, 1) := dk_27 (dk_at dksX4_join_8 23 rfl rfl)
theorem dX4_join_205 : decode cX4_join 205 = .ok (.iload_n 2, 1) := dk_28 (dk_at dksX4_join_9 0 rfl rfl)
theorem dX4_join_206 : decode cX4_join 206 = .ok (.invokevirtual 255, 3) := dk_182 0 255 (dk_at dksX4_join_9 1 rfl rfl)
theorem dX4_join_209 : decode cX4_join 209 = .ok (.ifCond .gt 7, 3) := dk_157 0 7 (dk_at dksX4_join_9 4 rfl rfl)
theorem dX4_join_212 : decode cX4_join 212 = .ok (.iload_n 1, 1) := dk_27 (dk_at dksX4_join_9 7 rfl rfl)
theorem dX4_join_213 : decode cX4_join 213 = .ok (.goto 4, 3) := dk_167 0 4 (dk_at dksX4_join_9 8 rfl rfl)
theorem dX4_join_216 : decode cX4_join 216 = .ok (.iload_n 2, 1) := dk_28 (dk_at dksX4_join_9 11 rfl rfl)
theorem dX4_join_217 : decode cX4_join 217 = .ok (.iload 4, 2) := dk_21 4 (dk_at dksX4_join_9 12 rfl rfl)
theorem dX4_join_219 : decode cX4_join 219 = .ok (.invokevirtual 258, 3) := dk_182 1 2 (dk_at dksX4_join_9 14 rfl rfl)
theorem dX4_join_222 : decode cX4_join 222 = .ok (.istore 6, 2) := dk_54 6 (dk_at dksX4_join_9 17 rfl rfl)
theorem dX4_join_224 : decode cX4_join 224 = .ok (.aload_n 0, 1) := dk_42 (dk_at dksX4_join_9 19 rfl rfl)
theorem dX4_join_225 : decode cX4_join 225 = .ok (.iload 6, 2) := dk_21 6 (dk_at dksX4_join_9 20 rfl rfl)
theorem dX4_join_227 : decode cX4_join 227 = .ok (.ifCond .eq 7, 3) := dk_153 0 7 (dk_at dksX4_join_10 0 rfl rfl)
theorem dX4_join_230 : decode cX4_join 230 = .ok (.iconst 0, 1) := dk_3 (dk_at dksX4_join_10 3 rfl rfl)
theorem dX4_join_231 : decode cX4_join 231 = .ok (.goto 4, 3) := dk_167 0 4 (dk_at dksX4_join_10 4 rfl rfl)
theorem dX4_join_234 : decode cX4_join 234 = .ok (.iconst 4, 1) := dk_7 (dk_at dksX4_join_10 7 rfl rfl)
theorem dX4_join_235 : decode cX4_join 235 = .ok (.invokevirtual 205, 3) := dk_182 0 205 (dk_at dksX4_join_10 8 rfl rfl)
theorem dX4_join_238 : decode cX4_join 238 = .ok (.ifCond .eq 7, 3) := dk_153 0 7 (dk_at dksX4_join_10 11 rfl rfl)
theorem dX4_join_241 : decode cX4_join 241 = .ok (.iconst 0, 1) := dk_3 (dk_at dksX4_join_10 14 rfl rfl)
theorem dX4_join_242 : decode cX4_join 242 = .ok (.goto 10, 3) := dk_167 0 10 (dk_at dksX4_join_10 15 rfl rfl)
theorem dX4_join_245 : decode cX4_join 245 = .ok (.aload_n 0, 1) := dk_42 (dk_at dksX4_join_10 18 rfl rfl)
theorem dX4_join_246 : decode cX4_join 246 = .ok (.getfield 60, 3) := dk_180 0 60 (dk_at dksX4_join_10 19 rfl rfl)
theorem dX4_join_249 : decode cX4_join 249 = .ok (.iload 4, 2) := dk_21 4 (dk_at dksX4_join_10 22 rfl rfl)
theorem dX4_join_251 : decode cX4_join 251 = .ok (.iaload, 1) := dk_46 (dk_at dksX4_join_11 0 rfl rfl)
theorem dX4_join_252 : decode cX4_join 252 = .ok (.ireturn, 1) := dk_172 (dk_at dksX4_join_11 1 rfl rfl)
def dkwX4_noPair_1 : List UInt8 := [167, 0, 4, 3, 172]
abbrev dktX4_noPair_1 : List UInt8 := dkwX4_noPair_1 ++ []
def dkwX4_noPair_0 : List UInt8 := [27, 184, 0, 198, 153, 0, 17, 28, 184, 0, 198, 153, 0, 10, 29, 184, 0, 198, 154, 0, 7, 4]
abbrev dktX4_noPair_0 : List UInt8 := dkwX4_noPair_0 ++ dktX4_noPair_1
theorem dksX4_noPair_0 : cX4_noPair.data.toList.drop 0 = dktX4_noPair_0 := by decide +kernel
theorem dksX4_noPair_1 : cX4_noPair.data.toList.drop 22 = dktX4_noPair_1 := dk_seg dksX4_noPair_0 22 rfl rfl
theorem dX4_noPair_0 : decode cX4_noPair 0 = .ok (.iload_n 1, 1) := dk_27 (dk_at dksX4_noPair_0 0 rfl rfl)
theorem dX4_noPair_1 : decode cX4_noPair 1 = .ok (.invokestatic 198, 3) := dk_184 0 198 (dk_at dksX4_noPair_0 1 rfl rfl)
theorem dX4_noPair_4 : decode cX4_noPair 4 = .ok (.ifCond .eq 17, 3) := dk_153 0 17 (dk_at dksX4_noPair_0 4 rfl rfl)
theorem dX4_noPair_7 : decode cX4_noPair 7 = .ok (.iload_n 2, 1) := dk_28 (dk_at dksX4_noPair_0 7 rfl rfl)
theorem dX4_noPair_8 : decode cX4_noPair 8 = .ok (.invokestatic 198, 3) := dk_184 0 198 (dk_at dksX4_noPair_0 8 rfl rfl)
theorem dX4_noPair_11 : decode cX4_noPair 11 = .ok (.ifCond .eq 10, 3) := dk_153 0 10 (dk_at dksX4_noPair_0 11 rfl rfl)
theorem dX4_noPair_14 : decode cX4_noPair 14 = .ok (.iload_n 3, 1) := dk_29 (dk_at dksX4_noPair_0 14 rfl rfl)
theorem dX4_noPair_15 : decode cX4_noPair 15 = .ok (.invokestatic 198, 3) := dk_184 0 198 (dk_at dksX4_noPair_0 15 rfl rfl)
theorem dX4_noPair_18 : decode cX4_noPair 18 = .ok (.ifCond .ne 7, 3) := dk_154 0 7 (dk_at dksX4_noPair_0 18 rfl rfl)
theorem dX4_noPair_21 : decode cX4_noPair 21 = .ok (.iconst 1, 1) := dk_4 (dk_at dksX4_noPair_0 21 rfl rfl)
theorem dX4_noPair_22 : decode cX4_noPair 22 = .ok (.goto 4, 3) := dk_167 0 4 (dk_at dksX4_noPair_1 0 rfl rfl)
theorem dX4_noPair_25 : decode cX4_noPair 25 = .ok (.iconst 0, 1) := dk_3 (dk_at dksX4_noPair_1 3 rfl rfl)
theorem dX4_noPair_26 : decode cX4_noPair 26 = .ok (.ireturn, 1) := dk_172 (dk_at dksX4_noPair_1 4 rfl rfl)
def dkwX4_sums_6 : List UInt8 := [8, 21, 7, 21, 5, 182, 0, 223, 172]
abbrev dktX4_sums_6 : List UInt8 := dkwX4_sums_6 ++ []
def dkwX4_sums_5 : List UInt8 := [182, 0, 40, 42, 21, 4, 7, 21, 6, 21, 5, 182, 0, 223, 172, 42, 8, 7, 182, 0, 40, 42, 21, 4]
abbrev dktX4_sums_5 : List UInt8 := dkwX4_sums_5 ++ dktX4_sums_6
def dkwX4_sums_4 : List UInt8 := [21, 4, 7, 21, 6, 21, 5, 182, 0, 223, 172, 42, 7, 8, 182, 0, 37, 155, 0, 21, 42, 7, 8]
abbrev dktX4_sums_4 : List UInt8 := dkwX4_sums_4 ++ dktX4_sums_5
def dkwX4_sums_3 : List UInt8 := [159, 0, 7, 4, 167, 0, 4, 3, 54, 7, 21, 6, 21, 7, 160, 0, 21, 42, 7, 8, 182, 0, 27, 42]
abbrev dktX4_sums_3 : List UInt8 := dkwX4_sums_3 ++ dktX4_sums_4
def dkwX4_sums_2 : List UInt8 := [167, 0, 4, 3, 54, 6, 42, 180, 0, 56, 28, 47, 9, 148, 156, 0, 7, 4, 167, 0, 4, 3, 29]
abbrev dktX4_sums_2 : List UInt8 := dkwX4_sums_2 ++ dktX4_sums_3
def dkwX4_sums_1 : List UInt8 := [182, 0, 237, 42, 8, 28, 21, 5, 182, 0, 237, 42, 180, 0, 56, 27, 47, 9, 148, 156, 0, 7, 4]
abbrev dktX4_sums_1 : List UInt8 := dkwX4_sums_1 ++ dktX4_sums_2
def dkwX4_sums_0 : List UInt8 := [42, 180, 0, 60, 27, 46, 42, 180, 0, 60, 28, 46, 184, 0, 231, 54, 5, 42, 7, 27, 21, 5]
abbrev dktX4_sums_0 : List UInt8 := dkwX4_sums_0 ++ dktX4_sums_1
theorem dksX4_sums_0 : cX4_sums.data.toList.drop 0 = dktX4_sums_0 := by decide +kernel
theorem dksX4_sums_1 : cX4_sums.data.toList.drop 22 = dktX4_sums_1 := dk_seg dksX4_sums_0 22 rfl rfl
theorem dksX4_sums_2 : cX4_sums.data.toList.drop 45 = dktX4_sums_2 := dk_seg dksX4_sums_1 23 rfl rfl
theorem dksX4_sums_3 : cX4_sums.data.toList.drop 68 = dktX4_sums_3 := dk_seg dksX4_sums_2 23 rfl rfl
theorem dksX4_sums_4 : cX4_sums.data.toList.drop 92 = dktX4_sums_4 := dk_seg dksX4_sums_3 24 rfl rfl
theorem dksX4_sums_5 : cX4_sums.data.toList.drop 115 = dktX4_sums_5 := dk_seg dksX4_sums_4 23 rfl rfl
theorem dksX4_sums_6 : cX4_sums.data.toList.drop 139 = dktX4_sums_6 := dk_seg dksX4_sums_5 24 rfl rfl
theorem dX4_sums_0 : decode cX4_sums 0 = .ok (.aload_n 0, 1) := dk_42 (dk_at dksX4_sums_0 0 rfl rfl)
theorem dX4_sums_1 : decode cX4_sums 1 = .ok (.getfield 60, 3) := dk_180 0 60 (dk_at dksX4_sums_0 1 rfl rfl)
theorem dX4_sums_4 : decode cX4_sums 4 = .ok (.iload_n 1, 1) := dk_27 (dk_at dksX4_sums_0 4 rfl rfl)
theorem dX4_sums_5 : decode cX4_sums 5 = .ok (.iaload, 1) := dk_46 (dk_at dksX4_sums_0 5 rfl rfl)
theorem dX4_sums_6 : decode cX4_sums 6 = .ok (.aload_n 0, 1) := dk_42 (dk_at dksX4_sums_0 6 rfl rfl)
theorem dX4_sums_7 : decode cX4_sums 7 = .ok (.getfield 60, 3) := dk_180 0 60 (dk_at dksX4_sums_0 7 rfl rfl)
theorem dX4_sums_10 : decode cX4_sums 10 = .ok (.iload_n 2, 1) := dk_28 (dk_at dksX4_sums_0 10 rfl rfl)
theorem dX4_sums_11 : decode cX4_sums 11 = .ok (.iaload, 1) := dk_46 (dk_at dksX4_sums_0 11 rfl rfl)
theorem dX4_sums_12 : decode cX4_sums 12 = .ok (.invokestatic 231, 3) := dk_184 0 231 (dk_at dksX4_sums_0 12 rfl rfl)
theorem dX4_sums_15 : decode cX4_sums 15 = .ok (.istore 5, 2) := dk_54 5 (dk_at dksX4_sums_0 15 rfl rfl)
theorem dX4_sums_17 : decode cX4_sums 17 = .ok (.aload_n 0, 1) := dk_42 (dk_at dksX4_sums_0 17 rfl rfl)
theorem dX4_sums_18 : decode cX4_sums 18 = .ok (.iconst 4, 1) := dk_7 (dk_at dksX4_sums_0 18 rfl rfl)
theorem dX4_sums_19 : decode cX4_sums 19 = .ok (.iload_n 1, 1) := dk_27 (dk_at dksX4_sums_0 19 rfl rfl)
theorem dX4_sums_20 : decode cX4_sums 20 = .ok (.iload 5, 2) := dk_21 5 (dk_at dksX4_sums_0 20 rfl rfl)
theorem dX4_sums_22 : decode cX4_sums 22 = .ok (.invokevirtual 237, 3) := dk_182 0 237 (dk_at dksX4_sums_1 0 rfl rfl)
theorem dX4_sums_25 : decode cX4_sums 25 = .ok (.aload_n 0, 1) := dk_42 (dk_at dksX4_sums_1 3 rfl rfl)
theorem dX4_sums_26 : decode cX4_sums 26 = .ok (.iconst 5, 1) := dk_8 (dk_at dksX4_sums_1 4 rfl rfl)
theorem dX4_sums_27 : decode cX4_sums 27 = .ok (.iload_n 2, 1) := dk_28 (dk_at dksX4_sums_1 5 rfl rfl)
theorem dX4_sums_28 : decode cX4_sums 28 = .ok (.iload 5, 2) := dk_21 5 (dk_at dksX4_sums_1 6 rfl rfl)
theorem dX4_sums_30 : decode cX4_sums 30 = .ok (.invokevirtual 237, 3) := dk_182 0 237 (dk_at dksX4_sums_1 8 rfl rfl)
theorem dX4_sums_33 : decode cX4_sums 33 = .ok (.aload_n 0, 1) := dk_42 (dk_at dksX4_sums_1 11 rfl rfl)
theorem dX4_sums_34 : decode cX4_sums 34 = .ok (.getfield 56, 3) := dk_180 0 56 (dk_at dksX4_sums_1 12 rfl rfl)
theorem dX4_sums_37 : decode cX4_sums 37 = .ok (.iload_n 1, 1) := dk_27 (dk_at dksX4_sums_1 15 rfl rfl)
theorem dX4_sums_38 : decode cX4_sums 38 = .ok (.laload, 1) := dk_47 (dk_at dksX4_sums_1 16 rfl rfl)
theorem dX4_sums_39 : decode cX4_sums 39 = .ok (.lconst 0, 1) := dk_9 (dk_at dksX4_sums_1 17 rfl rfl)
theorem dX4_sums_40 : decode cX4_sums 40 = .ok (.lcmp, 1) := dk_148 (dk_at dksX4_sums_1 18 rfl rfl)
theorem dX4_sums_41 : decode cX4_sums 41 = .ok (.ifCond .ge 7, 3) := dk_156 0 7 (dk_at dksX4_sums_1 19 rfl rfl)
theorem dX4_sums_44 : decode cX4_sums 44 = .ok (.iconst 1, 1) := dk_4 (dk_at dksX4_sums_1 22 rfl rfl)
theorem dX4_sums_45 : decode cX4_sums 45 = .ok (.goto 4, 3) := dk_167 0 4 (dk_at dksX4_sums_2 0 rfl rfl)
theorem dX4_sums_48 : decode cX4_sums 48 = .ok (.iconst 0, 1) := dk_3 (dk_at dksX4_sums_2 3 rfl rfl)
theorem dX4_sums_49 : decode cX4_sums 49 = .ok (.istore 6, 2) := dk_54 6 (dk_at dksX4_sums_2 4 rfl rfl)
theorem dX4_sums_51 : decode cX4_sums 51 = .ok (.aload_n 0, 1) := dk_42 (dk_at dksX4_sums_2 6 rfl rfl)
theorem dX4_sums_52 : decode cX4_sums 52 = .ok (.getfield 56, 3) := dk_180 0 56 (dk_at dksX4_sums_2 7 rfl rfl)
theorem dX4_sums_55 : decode cX4_sums 55 = .ok (.iload_n 2, 1) := dk_28 (dk_at dksX4_sums_2 10 rfl rfl)
theorem dX4_sums_56 : decode cX4_sums 56 = .ok (.laload, 1) := dk_47 (dk_at dksX4_sums_2 11 rfl rfl)
theorem dX4_sums_57 : decode cX4_sums 57 = .ok (.lconst 0, 1) := dk_9 (dk_at dksX4_sums_2 12 rfl rfl)
theorem dX4_sums_58 : decode cX4_sums 58 = .ok (.lcmp, 1) := dk_148 (dk_at dksX4_sums_2 13 rfl rfl)
theorem dX4_sums_59 : decode cX4_sums 59 = .ok (.ifCond .ge 7, 3) := dk_156 0 7 (dk_at dksX4_sums_2 14 rfl rfl)
theorem dX4_sums_62 : decode cX4_sums 62 = .ok (.iconst 1, 1) := dk_4 (dk_at dksX4_sums_2 17 rfl rfl)
theorem dX4_sums_63 : decode cX4_sums 63 = .ok (.goto 4, 3) := dk_167 0 4 (dk_at dksX4_sums_2 18 rfl rfl)
theorem dX4_sums_66 : decode cX4_sums 66 = .ok (.iconst 0, 1) := dk_3 (dk_at dksX4_sums_2 21 rfl rfl)
theorem dX4_sums_67 : decode cX4_sums 67 = .ok (.iload_n 3, 1) := dk_29 (dk_at dksX4_sums_2 22 rfl rfl)
theorem dX4_sums_68 : decode cX4_sums 68 = .ok (.if_icmp .eq 7, 3) := dk_159 0 7 (dk_at dksX4_sums_3 0 rfl rfl)
theorem dX4_sums_71 : decode cX4_sums 71 = .ok (.iconst 1, 1) := dk_4 (dk_at dksX4_sums_3 3 rfl rfl)
theorem dX4_sums_72 : decode cX4_sums 72 = .ok (.goto 4, 3) := dk_167 0 4 (dk_at dksX4_sums_3 4 rfl rfl)
theorem dX4_sums_75 : decode cX4_sums 75 = .ok (.iconst 0, 1) := dk_3 (dk_at dksX4_sums_3 7 rfl rfl)
theorem dX4_sums_76 : decode cX4_sums 76 = .ok (.istore 7, 2) := dk_54 7 (dk_at dksX4_sums_3 8 rfl rfl)
theorem dX4_sums_78 : decode cX4_sums 78 = .ok (.iload 6, 2) := dk_21 6 (dk_at dksX4_sums_3 10 rfl rfl)
theorem dX4_sums_80 : decode cX4_sums 80 = .ok (.iload 7, 2) := dk_21 7 (dk_at dksX4_sums_3 12 rfl rfl)
theorem dX4_sums_82 : decode cX4_sums 82 = .ok (.if_icmp .ne 21, 3) := dk_160 0 21 (dk_at dksX4_sums_3 14 rfl rfl)
theorem dX4_sums_85 : decode cX4_sums 85 = .ok (.aload_n 0, 1) := dk_42 (dk_at dksX4_sums_3 17 rfl rfl)
theorem dX4_sums_86 : decode cX4_sums 86 = .ok (.iconst 4, 1) := dk_7 (dk_at dksX4_sums_3 18 rfl rfl)
theorem dX4_sums_87 : decode cX4_sums 87 = .ok (.iconst 5, 1) := dk_8 (dk_at dksX4_sums_3 19 rfl rfl)
theorem dX4_sums_88 : decode cX4_sums 88 = .ok (.invokevirtual 27, 3) := dk_182 0 27 (dk_at dksX4_sums_3 20 rfl rfl)
theorem dX4_sums_91 : decode cX4_sums 91 = .ok (.aload_n 0, 1) := dk_42 (dk_at dksX4_sums_3 23 rfl rfl)
theorem dX4_sums_92 : decode cX4_sums 92 = .ok (.iload 4, 2) := dk_21 4 (dk_at dksX4_sums_4 0 rfl rfl)
theorem dX4_sums_94 : decode cX4_sums 94 = .ok (.iconst 4, 1) := dk_7 (dk_at dksX4_sums_4 2 rfl rfl)
theorem dX4_sums_95 : decode cX4_sums 95 = .ok (.iload 6, 2) := dk_21 6 (dk_at dksX4_sums_4 3 rfl rfl)
theorem dX4_sums_97 : decode cX4_sums 97 = .ok (.iload 5, 2) := dk_21 5 (dk_at dksX4_sums_4 5 rfl rfl)
theorem dX4_sums_99 : decode cX4_sums 99 = .ok (.invokevirtual 223, 3) := dk_182 0 223 (dk_at dksX4_sums_4 7 rfl rfl)
theorem dX4_sums_102 : decode cX4_sums 102 = .ok (.ireturn, 1) := dk_172 (dk_at dksX4_sums_4 10 rfl rfl)
theorem dX4_sums_103 : decode cX4_sums 103 = .ok (.aload_n 0, 1) := dk_42 (dk_at dksX4_sums_4 11 rfl rfl)
theorem dX4_sums_104 : decode cX4_sums 104 = .ok (.iconst 4, 1) := dk_7 (dk_at dksX4_sums_4 12 rfl rfl)
theorem dX4_sums_105 : decode cX4_sums 105 = .ok (.iconst 5, 1) := dk_8 (dk_at dksX4_sums_4 13 rfl rfl)
theorem dX4_sums_106 : decode cX4_sums 106 = .ok (.invokevirtual 37, 3) := dk_182 0 37 (dk_at dksX4_sums_4 14 rfl rfl)
theorem dX4_sums_109 : decode cX4_sums 109 = .ok (.ifCond .lt 21, 3) := dk_155 0 21 (dk_at dksX4_sums_4 17 rfl rfl)
theorem dX4_sums_112 : decode cX4_sums 112 = .ok (.aload_n 0, 1) := dk_42 (dk_at dksX4_sums_4 20 rfl rfl)
theorem dX4_sums_113 : decode cX4_sums 113 = .ok (.iconst 4, 1) := dk_7 (dk_at dksX4_sums_4 21 rfl rfl)
theorem dX4_sums_114 : decode cX4_sums 114 = .ok (.iconst 5, 1) := dk_8 (dk_at dksX4_sums_4 22 rfl rfl)
theorem dX4_sums_115 : decode cX4_sums 115 = .ok (.invokevirtual 40, 3) := dk_182 0 40 (dk_at dksX4_sums_5 0 rfl rfl)
theorem dX4_sums_118 : decode cX4_sums 118 = .ok (.aload_n 0, 1) := dk_42 (dk_at dksX4_sums_5 3 rfl rfl)
theorem dX4_sums_119 : decode cX4_sums 119 = .ok (.iload 4, 2) := dk_21 4 (dk_at dksX4_sums_5 4 rfl rfl)
theorem dX4_sums_121 : decode cX4_sums 121 = .ok (.iconst 4, 1) := dk_7 (dk_at dksX4_sums_5 6 rfl rfl)
theorem dX4_sums_122 : decode cX4_sums 122 = .ok (.iload 6, 2) := dk_21 6 (dk_at dksX4_sums_5 7 rfl rfl)
theorem dX4_sums_124 : decode cX4_sums 124 = .ok (.iload 5, 2) := dk_21 5 (dk_at dksX4_sums_5 9 rfl rfl)
theorem dX4_sums_126 : decode cX4_sums 126 = .ok (.invokevirtual 223, 3) := dk_182 0 223 (dk_at dksX4_sums_5 11 rfl rfl)
theorem dX4_sums_129 : decode cX4_sums 129 = .ok (.ireturn, 1) := dk_172 (dk_at dksX4_sums_5 14 rfl rfl)
theorem dX4_sums_130 : decode cX4_sums 130 = .ok (.aload_n 0, 1) := dk_42 (dk_at dksX4_sums_5 15 rfl rfl)
theorem dX4_sums_131 : decode cX4_sums 131 = .ok (.iconst 5, 1) := dk_8 (dk_at dksX4_sums_5 16 rfl rfl)
theorem dX4_sums_132 : decode cX4_sums 132 = .ok (.iconst 4, 1) := dk_7 (dk_at dksX4_sums_5 17 rfl rfl)
theorem dX4_sums_133 : decode cX4_sums 133 = .ok (.invokevirtual 40, 3) := dk_182 0 40 (dk_at dksX4_sums_5 18 rfl rfl)
theorem dX4_sums_136 : decode cX4_sums 136 = .ok (.aload_n 0, 1) := dk_42 (dk_at dksX4_sums_5 21 rfl rfl)
theorem dX4_sums_137 : decode cX4_sums 137 = .ok (.iload 4, 2) := dk_21 4 (dk_at dksX4_sums_5 22 rfl rfl)
theorem dX4_sums_139 : decode cX4_sums 139 = .ok (.iconst 5, 1) := dk_8 (dk_at dksX4_sums_6 0 rfl rfl)
theorem dX4_sums_140 : decode cX4_sums 140 = .ok (.iload 7, 2) := dk_21 7 (dk_at dksX4_sums_6 1 rfl rfl)
theorem dX4_sums_142 : decode cX4_sums 142 = .ok (.iload 5, 2) := dk_21 5 (dk_at dksX4_sums_6 3 rfl rfl)
theorem dX4_sums_144 : decode cX4_sums 144 = .ok (.invokevirtual 223, 3) := dk_182 0 223 (dk_at dksX4_sums_6 5 rfl rfl)
theorem dX4_sums_147 : decode cX4_sums 147 = .ok (.ireturn, 1) := dk_172 (dk_at dksX4_sums_6 8 rfl rfl)
def dkwX4_greater_0 : List UInt8 := [26, 27, 164, 0, 7, 26, 167, 0, 4, 27, 172]
abbrev dktX4_greater_0 : List UInt8 := dkwX4_greater_0 ++ []
theorem dksX4_greater_0 : cX4_greater.data.toList.drop 0 = dktX4_greater_0 := by decide +kernel
theorem dX4_greater_0 : decode cX4_greater 0 = .ok (.iload_n 0, 1) := dk_26 (dk_at dksX4_greater_0 0 rfl rfl)
theorem dX4_greater_1 : decode cX4_greater 1 = .ok (.iload_n 1, 1) := dk_27 (dk_at dksX4_greater_0 1 rfl rfl)
theorem dX4_greater_2 : decode cX4_greater 2 = .ok (.if_icmp .le 7, 3) := dk_164 0 7 (dk_at dksX4_greater_0 2 rfl rfl)
theorem dX4_greater_5 : decode cX4_greater 5 = .ok (.iload_n 0, 1) := dk_26 (dk_at dksX4_greater_0 5 rfl rfl)
theorem dX4_greater_6 : decode cX4_greater 6 = .ok (.goto 4, 3) := dk_167 0 4 (dk_at dksX4_greater_0 6 rfl rfl)
theorem dX4_greater_9 : decode cX4_greater 9 = .ok (.iload_n 1, 1) := dk_27 (dk_at dksX4_greater_0 9 rfl rfl)
theorem dX4_greater_10 : decode cX4_greater 10 = .ok (.ireturn, 1) := dk_172 (dk_at dksX4_greater_0 10 rfl rfl)
def dkwX4_as_1 : List UInt8 := [177]
abbrev dktX4_as_1 : List UInt8 := dkwX4_as_1 ++ []
def dkwX4_as_0 : List UInt8 := [42, 27, 42, 180, 0, 56, 28, 47, 182, 0, 33, 42, 27, 29, 42, 180, 0, 60, 28, 46, 100, 182, 0, 24]
abbrev dktX4_as_0 : List UInt8 := dkwX4_as_0 ++ dktX4_as_1
theorem dksX4_as_0 : cX4_as.data.toList.drop 0 = dktX4_as_0 := by decide +kernel
theorem dksX4_as_1 : cX4_as.data.toList.drop 24 = dktX4_as_1 := dk_seg dksX4_as_0 24 rfl rfl
theorem dX4_as_0 : decode cX4_as 0 = .ok (.aload_n 0, 1) := dk_42 (dk_at dksX4_as_0 0 rfl rfl)
theorem dX4_as_1 : decode cX4_as 1 = .ok (.iload_n 1, 1) := dk_27 (dk_at dksX4_as_0 1 rfl rfl)
theorem dX4_as_2 : decode cX4_as 2 = .ok (.aload_n 0, 1) := dk_42 (dk_at dksX4_as_0 2 rfl rfl)
theorem dX4_as_3 : decode cX4_as 3 = .ok (.getfield 56, 3) := dk_180 0 56 (dk_at dksX4_as_0 3 rfl rfl)
theorem dX4_as_6 : decode cX4_as 6 = .ok (.iload_n 2, 1) := dk_28 (dk_at dksX4_as_0 6 rfl rfl)
theorem dX4_as_7 : decode cX4_as 7 = .ok (.laload, 1) := dk_47 (dk_at dksX4_as_0 7 rfl rfl)
theorem dX4_as_8 : decode cX4_as 8 = .ok (.invokevirtual 33, 3) := dk_182 0 33 (dk_at dksX4_as_0 8 rfl rfl)
theorem dX4_as_11 : decode cX4_as 11 = .ok (.aload_n 0, 1) := dk_42 (dk_at dksX4_as_0 11 rfl rfl)
theorem dX4_as_12 : decode cX4_as 12 = .ok (.iload_n 1, 1) := dk_27 (dk_at dksX4_as_0 12 rfl rfl)
theorem dX4_as_13 : decode cX4_as 13 = .ok (.iload_n 3, 1) := dk_29 (dk_at dksX4_as_0 13 rfl rfl)
theorem dX4_as_14 : decode cX4_as 14 = .ok (.aload_n 0, 1) := dk_42 (dk_at dksX4_as_0 14 rfl rfl)
theorem dX4_as_15 : decode cX4_as 15 = .ok (.getfield 60, 3) := dk_180 0 60 (dk_at dksX4_as_0 15 rfl rfl)
theorem dX4_as_18 : decode cX4_as 18 = .ok (.iload_n 2, 1) := dk_28 (dk_at dksX4_as_0 18 rfl rfl)
theorem dX4_as_19 : decode cX4_as 19 = .ok (.iaload, 1) := dk_46 (dk_at dksX4_as_0 19 rfl rfl)
theorem dX4_as_20 : decode cX4_as 20 = .ok (.isub, 1) := dk_100 (dk_at dksX4_as_0 20 rfl rfl)
theorem dX4_as_21 : decode cX4_as 21 = .ok (.invokevirtual 24, 3) := dk_182 0 24 (dk_at dksX4_as_0 21 rfl rfl)
theorem dX4_as_24 : decode cX4_as 24 = .ok (.return_, 1) := dk_177 (dk_at dksX4_as_1 0 rfl rfl)
def dkwX4_compares_3 : List UInt8 := [42, 28, 29, 182, 0, 10, 162, 0, 7, 2, 167, 0, 4, 4, 172, 132, 3, 255, 167, 255, 213, 3, 172]
abbrev dktX4_compares_3 : List UInt8 := dkwX4_compares_3 ++ []
def dkwX4_compares_2 : List UInt8 := [155, 0, 45, 42, 27, 29, 182, 0, 10, 42, 28, 29, 182, 0, 10, 159, 0, 24, 42, 27, 29, 182, 0, 10]
abbrev dktX4_compares_2 : List UInt8 := dkwX4_compares_2 ++ dktX4_compares_3
def dkwX4_compares_1 : List UInt8 := [180, 0, 1, 28, 46, 162, 0, 7, 2, 167, 0, 4, 4, 172, 42, 180, 0, 1, 27, 46, 4, 100, 62, 29]
abbrev dktX4_compares_1 : List UInt8 := dkwX4_compares_1 ++ dktX4_compares_2
def dkwX4_compares_0 : List UInt8 := [42, 180, 0, 1, 27, 46, 42, 180, 0, 1, 28, 46, 159, 0, 24, 42, 180, 0, 1, 27, 46, 42]
abbrev dktX4_compares_0 : List UInt8 := dkwX4_compares_0 ++ dktX4_compares_1
theorem dksX4_compares_0 : cX4_compares.data.toList.drop 0 = dktX4_compares_0 := by decide +kernel
theorem dksX4_compares_1 : cX4_compares.data.toList.drop 22 = dktX4_compares_1 := dk_seg dksX4_compares_0 22 rfl rfl
theorem dksX4_compares_2 : cX4_compares.data.toList.drop 46 = dktX4_compares_2 := dk_seg dksX4_compares_1 24 rfl rfl
theorem dksX4_compares_3 : cX4_compares.data.toList.drop 70 = dktX4_compares_3 := dk_seg dksX4_compares_2 24 rfl rfl
theorem dX4_compares_0 : decode cX4_compares 0 = .ok (.aload_n 0, 1) := dk_42 (dk_at dksX4_compares_0 0 rfl rfl)
theorem dX4_compares_1 : decode cX4_compares 1 = .ok (.getfield 1, 3) := dk_180 0 1 (dk_at dksX4_compares_0 1 rfl rfl)
theorem dX4_compares_4 : decode cX4_compares 4 = .ok (.iload_n 1, 1) := dk_27 (dk_at dksX4_compares_0 4 rfl rfl)
theorem dX4_compares_5 : decode cX4_compares 5 = .ok (.iaload, 1) := dk_46 (dk_at dksX4_compares_0 5 rfl rfl)
theorem dX4_compares_6 : decode cX4_compares 6 = .ok (.aload_n 0, 1) := dk_42 (dk_at dksX4_compares_0 6 rfl rfl)
theorem dX4_compares_7 : decode cX4_compares 7 = .ok (.getfield 1, 3) := dk_180 0 1 (dk_at dksX4_compares_0 7 rfl rfl)
theorem dX4_compares_10 : decode cX4_compares 10 = .ok (.iload_n 2, 1) := dk_28 (dk_at dksX4_compares_0 10 rfl rfl)
theorem dX4_compares_11 : decode cX4_compares 11 = .ok (.iaload, 1) := dk_46 (dk_at dksX4_compares_0 11 rfl rfl)
theorem dX4_compares_12 : decode cX4_compares 12 = .ok (.if_icmp .eq 24, 3) := dk_159 0 24 (dk_at dksX4_compares_0 12 rfl rfl)
theorem dX4_compares_15 : decode cX4_compares 15 = .ok (.aload_n 0, 1) := dk_42 (dk_at dksX4_compares_0 15 rfl rfl)
theorem dX4_compares_16 : decode cX4_compares 16 = .ok (.getfield 1, 3) := dk_180 0 1 (dk_at dksX4_compares_0 16 rfl rfl)
theorem dX4_compares_19 : decode cX4_compares 19 = .ok (.iload_n 1, 1) := dk_27 (dk_at dksX4_compares_0 19 rfl rfl)
theorem dX4_compares_20 : decode cX4_compares 20 = .ok (.iaload, 1) := dk_46 (dk_at dksX4_compares_0 20 rfl rfl)
theorem dX4_compares_21 : decode cX4_compares 21 = .ok (.aload_n 0, 1) := dk_42 (dk_at dksX4_compares_0 21 rfl rfl)
theorem dX4_compares_22 : decode cX4_compares 22 = .ok (.getfield 1, 3) := dk_180 0 1 (dk_at dksX4_compares_1 0 rfl rfl)
theorem dX4_compares_25 : decode cX4_compares 25 = .ok (.iload_n 2, 1) := dk_28 (dk_at dksX4_compares_1 3 rfl rfl)
theorem dX4_compares_26 : decode cX4_compares 26 = .ok (.iaload, 1) := dk_46 (dk_at dksX4_compares_1 4 rfl rfl)
theorem dX4_compares_27 : decode cX4_compares 27 = .ok (.if_icmp .ge 7, 3) := dk_162 0 7 (dk_at dksX4_compares_1 5 rfl rfl)
theorem dX4_compares_30 : decode cX4_compares 30 = .ok (.iconst (-1), 1) := dk_2 (dk_at dksX4_compares_1 8 rfl rfl)
theorem dX4_compares_31 : decode cX4_compares 31 = .ok (.goto 4, 3) := dk_167 0 4 (dk_at dksX4_compares_1 9 rfl rfl)
theorem dX4_compares_34 : decode cX4_compares 34 = .ok (.iconst 1, 1) := dk_4 (dk_at dksX4_compares_1 12 rfl rfl)
theorem dX4_compares_35 : decode cX4_compares 35 = .ok (.ireturn, 1) := dk_172 (dk_at dksX4_compares_1 13 rfl rfl)
theorem dX4_compares_36 : decode cX4_compares 36 = .ok (.aload_n 0, 1) := dk_42 (dk_at dksX4_compares_1 14 rfl rfl)
theorem dX4_compares_37 : decode cX4_compares 37 = .ok (.getfield 1, 3) := dk_180 0 1 (dk_at dksX4_compares_1 15 rfl rfl)
theorem dX4_compares_40 : decode cX4_compares 40 = .ok (.iload_n 1, 1) := dk_27 (dk_at dksX4_compares_1 18 rfl rfl)
theorem dX4_compares_41 : decode cX4_compares 41 = .ok (.iaload, 1) := dk_46 (dk_at dksX4_compares_1 19 rfl rfl)
theorem dX4_compares_42 : decode cX4_compares 42 = .ok (.iconst 1, 1) := dk_4 (dk_at dksX4_compares_1 20 rfl rfl)
theorem dX4_compares_43 : decode cX4_compares 43 = .ok (.isub, 1) := dk_100 (dk_at dksX4_compares_1 21 rfl rfl)
theorem dX4_compares_44 : decode cX4_compares 44 = .ok (.istore_n 3, 1) := dk_62 (dk_at dksX4_compares_1 22 rfl rfl)
theorem dX4_compares_45 : decode cX4_compares 45 = .ok (.iload_n 3, 1) := dk_29 (dk_at dksX4_compares_1 23 rfl rfl)
theorem dX4_compares_46 : decode cX4_compares 46 = .ok (.ifCond .lt 45, 3) := dk_155 0 45 (dk_at dksX4_compares_2 0 rfl rfl)
theorem dX4_compares_49 : decode cX4_compares 49 = .ok (.aload_n 0, 1) := dk_42 (dk_at dksX4_compares_2 3 rfl rfl)
theorem dX4_compares_50 : decode cX4_compares 50 = .ok (.iload_n 1, 1) := dk_27 (dk_at dksX4_compares_2 4 rfl rfl)
theorem dX4_compares_51 : decode cX4_compares 51 = .ok (.iload_n 3, 1) := dk_29 (dk_at dksX4_compares_2 5 rfl rfl)
theorem dX4_compares_52 : decode cX4_compares 52 = .ok (.invokevirtual 10, 3) := dk_182 0 10 (dk_at dksX4_compares_2 6 rfl rfl)
theorem dX4_compares_55 : decode cX4_compares 55 = .ok (.aload_n 0, 1) := dk_42 (dk_at dksX4_compares_2 9 rfl rfl)
theorem dX4_compares_56 : decode cX4_compares 56 = .ok (.iload_n 2, 1) := dk_28 (dk_at dksX4_compares_2 10 rfl rfl)
theorem dX4_compares_57 : decode cX4_compares 57 = .ok (.iload_n 3, 1) := dk_29 (dk_at dksX4_compares_2 11 rfl rfl)
theorem dX4_compares_58 : decode cX4_compares 58 = .ok (.invokevirtual 10, 3) := dk_182 0 10 (dk_at dksX4_compares_2 12 rfl rfl)
theorem dX4_compares_61 : decode cX4_compares 61 = .ok (.if_icmp .eq 24, 3) := dk_159 0 24 (dk_at dksX4_compares_2 15 rfl rfl)
theorem dX4_compares_64 : decode cX4_compares 64 = .ok (.aload_n 0, 1) := dk_42 (dk_at dksX4_compares_2 18 rfl rfl)
theorem dX4_compares_65 : decode cX4_compares 65 = .ok (.iload_n 1, 1) := dk_27 (dk_at dksX4_compares_2 19 rfl rfl)
theorem dX4_compares_66 : decode cX4_compares 66 = .ok (.iload_n 3, 1) := dk_29 (dk_at dksX4_compares_2 20 rfl rfl)
theorem dX4_compares_67 : decode cX4_compares 67 = .ok (.invokevirtual 10, 3) := dk_182 0 10 (dk_at dksX4_compares_2 21 rfl rfl)
theorem dX4_compares_70 : decode cX4_compares 70 = .ok (.aload_n 0, 1) := dk_42 (dk_at dksX4_compares_3 0 rfl rfl)
theorem dX4_compares_71 : decode cX4_compares 71 = .ok (.iload_n 2, 1) := dk_28 (dk_at dksX4_compares_3 1 rfl rfl)
theorem dX4_compares_72 : decode cX4_compares 72 = .ok (.iload_n 3, 1) := dk_29 (dk_at dksX4_compares_3 2 rfl rfl)
theorem dX4_compares_73 : decode cX4_compares 73 = .ok (.invokevirtual 10, 3) := dk_182 0 10 (dk_at dksX4_compares_3 3 rfl rfl)
theorem dX4_compares_76 : decode cX4_compares 76 = .ok (.if_icmp .ge 7, 3) := dk_162 0 7 (dk_at dksX4_compares_3 6 rfl rfl)
theorem dX4_compares_79 : decode cX4_compares 79 = .ok (.iconst (-1), 1) := dk_2 (dk_at dksX4_compares_3 9 rfl rfl)
theorem dX4_compares_80 : decode cX4_compares 80 = .ok (.goto 4, 3) := dk_167 0 4 (dk_at dksX4_compares_3 10 rfl rfl)
theorem dX4_compares_83 : decode cX4_compares 83 = .ok (.iconst 1, 1) := dk_4 (dk_at dksX4_compares_3 13 rfl rfl)
theorem dX4_compares_84 : decode cX4_compares 84 = .ok (.ireturn, 1) := dk_172 (dk_at dksX4_compares_3 14 rfl rfl)
theorem dX4_compares_85 : decode cX4_compares 85 = .ok (.iinc 3 (-1), 3) := dk_132 3 255 (dk_at dksX4_compares_3 15 rfl rfl)
theorem dX4_compares_88 : decode cX4_compares 88 = .ok (.goto (-43), 3) := dk_167 255 213 (dk_at dksX4_compares_3 18 rfl rfl)
theorem dX4_compares_91 : decode cX4_compares 91 = .ok (.iconst 0, 1) := dk_3 (dk_at dksX4_compares_3 21 rfl rfl)
theorem dX4_compares_92 : decode cX4_compares 92 = .ok (.ireturn, 1) := dk_172 (dk_at dksX4_compares_3 22 rfl rfl)
def dkwX4_less_3 : List UInt8 := [21, 5, 79, 132, 4, 1, 167, 255, 184, 42, 27, 182, 0, 20, 177]
abbrev dktX4_less_3 : List UInt8 := dkwX4_less_3 ++ []
def dkwX4_less_2 : List UInt8 := [180, 0, 7, 17, 0, 240, 27, 104, 21, 4, 96, 21, 5, 156, 0, 11, 21, 5, 16, 10, 96, 167, 0, 5]
abbrev dktX4_less_2 : List UInt8 := dkwX4_less_2 ++ dktX4_less_3
def dkwX4_less_1 : List UInt8 := [100, 42, 28, 21, 4, 182, 0, 10, 100, 54, 5, 21, 5, 156, 0, 7, 4, 167, 0, 4, 3, 62, 42]
abbrev dktX4_less_1 : List UInt8 := dkwX4_less_1 ++ dktX4_less_2
def dkwX4_less_0 : List UInt8 := [3, 62, 3, 54, 4, 21, 4, 42, 180, 0, 1, 27, 46, 162, 0, 67, 42, 27, 21, 4, 182, 0, 10, 29]
abbrev dktX4_less_0 : List UInt8 := dkwX4_less_0 ++ dktX4_less_1
theorem dksX4_less_0 : cX4_less.data.toList.drop 0 = dktX4_less_0 := by decide +kernel
theorem dksX4_less_1 : cX4_less.data.toList.drop 24 = dktX4_less_1 := dk_seg dksX4_less_0 24 rfl rfl
theorem dksX4_less_2 : cX4_less.data.toList.drop 47 = dktX4_less_2 := dk_seg dksX4_less_1 23 rfl rfl
theorem dksX4_less_3 : cX4_less.data.toList.drop 71 = dktX4_less_3 := dk_seg dksX4_less_2 24 rfl rfl
theorem dX4_less_0 : decode cX4_less 0 = .ok (.iconst 0, 1) := dk_3 (dk_at dksX4_less_0 0 rfl rfl)
theorem dX4_less_1 : decode cX4_less 1 = .ok (.istore_n 3, 1) := dk_62 (dk_at dksX4_less_0 1 rfl rfl)
theorem dX4_less_2 : decode cX4_less 2 = .ok (.iconst 0, 1) := dk_3 (dk_at dksX4_less_0 2 rfl rfl)
theorem dX4_less_3 : decode cX4_less 3 = .ok (.istore 4, 2) := dk_54 4 (dk_at dksX4_less_0 3 rfl rfl)
theorem dX4_less_5 : decode cX4_less 5 = .ok (.iload 4, 2) := dk_21 4 (dk_at dksX4_less_0 5 rfl rfl)
theorem dX4_less_7 : decode cX4_less 7 = .ok (.aload_n 0, 1) := dk_42 (dk_at dksX4_less_0 7 rfl rfl)
theorem dX4_less_8 : decode cX4_less 8 = .ok (.getfield 1, 3) := dk_180 0 1 (dk_at dksX4_less_0 8 rfl rfl)
theorem dX4_less_11 : decode cX4_less 11 = .ok (.iload_n 1, 1) := dk_27 (dk_at dksX4_less_0 11 rfl rfl)
theorem dX4_less_12 : decode cX4_less 12 = .ok (.iaload, 1) := dk_46 (dk_at dksX4_less_0 12 rfl rfl)
theorem dX4_less_13 : decode cX4_less 13 = .ok (.if_icmp .ge 67, 3) := dk_162 0 67 (dk_at dksX4_less_0 13 rfl rfl)
theorem dX4_less_16 : decode cX4_less 16 = .ok (.aload_n 0, 1) := dk_42 (dk_at dksX4_less_0 16 rfl rfl)
theorem dX4_less_17 : decode cX4_less 17 = .ok (.iload_n 1, 1) := dk_27 (dk_at dksX4_less_0 17 rfl rfl)
theorem dX4_less_18 : decode cX4_less 18 = .ok (.iload 4, 2) := dk_21 4 (dk_at dksX4_less_0 18 rfl rfl)
theorem dX4_less_20 : decode cX4_less 20 = .ok (.invokevirtual 10, 3) := dk_182 0 10 (dk_at dksX4_less_0 20 rfl rfl)
theorem dX4_less_23 : decode cX4_less 23 = .ok (.iload_n 3, 1) := dk_29 (dk_at dksX4_less_0 23 rfl rfl)
theorem dX4_less_24 : decode cX4_less 24 = .ok (.isub, 1) := dk_100 (dk_at dksX4_less_1 0 rfl rfl)
theorem dX4_less_25 : decode cX4_less 25 = .ok (.aload_n 0, 1) := dk_42 (dk_at dksX4_less_1 1 rfl rfl)
theorem dX4_less_26 : decode cX4_less 26 = .ok (.iload_n 2, 1) := dk_28 (dk_at dksX4_less_1 2 rfl rfl)
theorem dX4_less_27 : decode cX4_less 27 = .ok (.iload 4, 2) := dk_21 4 (dk_at dksX4_less_1 3 rfl rfl)
theorem dX4_less_29 : decode cX4_less 29 = .ok (.invokevirtual 10, 3) := dk_182 0 10 (dk_at dksX4_less_1 5 rfl rfl)
theorem dX4_less_32 : decode cX4_less 32 = .ok (.isub, 1) := dk_100 (dk_at dksX4_less_1 8 rfl rfl)
theorem dX4_less_33 : decode cX4_less 33 = .ok (.istore 5, 2) := dk_54 5 (dk_at dksX4_less_1 9 rfl rfl)
theorem dX4_less_35 : decode cX4_less 35 = .ok (.iload 5, 2) := dk_21 5 (dk_at dksX4_less_1 11 rfl rfl)
theorem dX4_less_37 : decode cX4_less 37 = .ok (.ifCond .ge 7, 3) := dk_156 0 7 (dk_at dksX4_less_1 13 rfl rfl)
theorem dX4_less_40 : decode cX4_less 40 = .ok (.iconst 1, 1) := dk_4 (dk_at dksX4_less_1 16 rfl rfl)
theorem dX4_less_41 : decode cX4_less 41 = .ok (.goto 4, 3) := dk_167 0 4 (dk_at dksX4_less_1 17 rfl rfl)
theorem dX4_less_44 : decode cX4_less 44 = .ok (.iconst 0, 1) := dk_3 (dk_at dksX4_less_1 20 rfl rfl)
theorem dX4_less_45 : decode cX4_less 45 = .ok (.istore_n 3, 1) := dk_62 (dk_at dksX4_less_1 21 rfl rfl)
theorem dX4_less_46 : decode cX4_less 46 = .ok (.aload_n 0, 1) := dk_42 (dk_at dksX4_less_1 22 rfl rfl)
theorem dX4_less_47 : decode cX4_less 47 = .ok (.getfield 7, 3) := dk_180 0 7 (dk_at dksX4_less_2 0 rfl rfl)
theorem dX4_less_50 : decode cX4_less 50 = .ok (.sipush 240, 3) := dk_17 0 240 (dk_at dksX4_less_2 3 rfl rfl)
theorem dX4_less_53 : decode cX4_less 53 = .ok (.iload_n 1, 1) := dk_27 (dk_at dksX4_less_2 6 rfl rfl)
theorem dX4_less_54 : decode cX4_less 54 = .ok (.imul, 1) := dk_104 (dk_at dksX4_less_2 7 rfl rfl)
theorem dX4_less_55 : decode cX4_less 55 = .ok (.iload 4, 2) := dk_21 4 (dk_at dksX4_less_2 8 rfl rfl)
theorem dX4_less_57 : decode cX4_less 57 = .ok (.iadd, 1) := dk_96 (dk_at dksX4_less_2 10 rfl rfl)
theorem dX4_less_58 : decode cX4_less 58 = .ok (.iload 5, 2) := dk_21 5 (dk_at dksX4_less_2 11 rfl rfl)
theorem dX4_less_60 : decode cX4_less 60 = .ok (.ifCond .ge 11, 3) := dk_156 0 11 (dk_at dksX4_less_2 13 rfl rfl)
theorem dX4_less_63 : decode cX4_less 63 = .ok (.iload 5, 2) := dk_21 5 (dk_at dksX4_less_2 16 rfl rfl)
theorem dX4_less_65 : decode cX4_less 65 = .ok (.bipush 10, 2) := dk_16 10 (dk_at dksX4_less_2 18 rfl rfl)
theorem dX4_less_67 : decode cX4_less 67 = .ok (.iadd, 1) := dk_96 (dk_at dksX4_less_2 20 rfl rfl)
theorem dX4_less_68 : decode cX4_less 68 = .ok (.goto 5, 3) := dk_167 0 5 (dk_at dksX4_less_2 21 rfl rfl)
theorem dX4_less_71 : decode cX4_less 71 = .ok (.iload 5, 2) := dk_21 5 (dk_at dksX4_less_3 0 rfl rfl)
theorem dX4_less_73 : decode cX4_less 73 = .ok (.iastore, 1) := dk_79 (dk_at dksX4_less_3 2 rfl rfl)
theorem dX4_less_74 : decode cX4_less 74 = .ok (.iinc 4 1, 3) := dk_132 4 1 (dk_at dksX4_less_3 3 rfl rfl)
theorem dX4_less_77 : decode cX4_less 77 = .ok (.goto (-72), 3) := dk_167 255 184 (dk_at dksX4_less_3 6 rfl rfl)
theorem dX4_less_80 : decode cX4_less 80 = .ok (.aload_n 0, 1) := dk_42 (dk_at dksX4_less_3 9 rfl rfl)
theorem dX4_less_81 : decode cX4_less 81 = .ok (.iload_n 1, 1) := dk_27 (dk_at dksX4_less_3 10 rfl rfl)
theorem dX4_less_82 : decode cX4_less 82 = .ok (.invokevirtual 20, 3) := dk_182 0 20 (dk_at dksX4_less_3 11 rfl rfl)
theorem dX4_less_85 : decode cX4_less 85 = .ok (.return_, 1) := dk_177 (dk_at dksX4_less_3 14 rfl rfl)
def dkwX4_trims_1 : List UInt8 := [154, 0, 16, 42, 180, 0, 1, 27, 92, 46, 4, 100, 79, 167, 255, 221, 177]
abbrev dktX4_trims_1 : List UInt8 := dkwX4_trims_1 ++ []
def dkwX4_trims_0 : List UInt8 := [42, 180, 0, 1, 27, 46, 158, 0, 32, 42, 27, 42, 180, 0, 1, 27, 46, 4, 100, 182, 0, 10]
abbrev dktX4_trims_0 : List UInt8 := dkwX4_trims_0 ++ dktX4_trims_1
theorem dksX4_trims_0 : cX4_trims.data.toList.drop 0 = dktX4_trims_0 := by decide +kernel
theorem dksX4_trims_1 : cX4_trims.data.toList.drop 22 = dktX4_trims_1 := dk_seg dksX4_trims_0 22 rfl rfl
theorem dX4_trims_0 : decode cX4_trims 0 = .ok (.aload_n 0, 1) := dk_42 (dk_at dksX4_trims_0 0 rfl rfl)
theorem dX4_trims_1 : decode cX4_trims 1 = .ok (.getfield 1, 3) := dk_180 0 1 (dk_at dksX4_trims_0 1 rfl rfl)
theorem dX4_trims_4 : decode cX4_trims 4 = .ok (.iload_n 1, 1) := dk_27 (dk_at dksX4_trims_0 4 rfl rfl)
theorem dX4_trims_5 : decode cX4_trims 5 = .ok (.iaload, 1) := dk_46 (dk_at dksX4_trims_0 5 rfl rfl)
theorem dX4_trims_6 : decode cX4_trims 6 = .ok (.ifCond .le 32, 3) := dk_158 0 32 (dk_at dksX4_trims_0 6 rfl rfl)
theorem dX4_trims_9 : decode cX4_trims 9 = .ok (.aload_n 0, 1) := dk_42 (dk_at dksX4_trims_0 9 rfl rfl)
theorem dX4_trims_10 : decode cX4_trims 10 = .ok (.iload_n 1, 1) := dk_27 (dk_at dksX4_trims_0 10 rfl rfl)
theorem dX4_trims_11 : decode cX4_trims 11 = .ok (.aload_n 0, 1) := dk_42 (dk_at dksX4_trims_0 11 rfl rfl)
theorem dX4_trims_12 : decode cX4_trims 12 = .ok (.getfield 1, 3) := dk_180 0 1 (dk_at dksX4_trims_0 12 rfl rfl)
theorem dX4_trims_15 : decode cX4_trims 15 = .ok (.iload_n 1, 1) := dk_27 (dk_at dksX4_trims_0 15 rfl rfl)
theorem dX4_trims_16 : decode cX4_trims 16 = .ok (.iaload, 1) := dk_46 (dk_at dksX4_trims_0 16 rfl rfl)
theorem dX4_trims_17 : decode cX4_trims 17 = .ok (.iconst 1, 1) := dk_4 (dk_at dksX4_trims_0 17 rfl rfl)
theorem dX4_trims_18 : decode cX4_trims 18 = .ok (.isub, 1) := dk_100 (dk_at dksX4_trims_0 18 rfl rfl)
theorem dX4_trims_19 : decode cX4_trims 19 = .ok (.invokevirtual 10, 3) := dk_182 0 10 (dk_at dksX4_trims_0 19 rfl rfl)
theorem dX4_trims_22 : decode cX4_trims 22 = .ok (.ifCond .ne 16, 3) := dk_154 0 16 (dk_at dksX4_trims_1 0 rfl rfl)
theorem dX4_trims_25 : decode cX4_trims 25 = .ok (.aload_n 0, 1) := dk_42 (dk_at dksX4_trims_1 3 rfl rfl)
theorem dX4_trims_26 : decode cX4_trims 26 = .ok (.getfield 1, 3) := dk_180 0 1 (dk_at dksX4_trims_1 4 rfl rfl)
theorem dX4_trims_29 : decode cX4_trims 29 = .ok (.iload_n 1, 1) := dk_27 (dk_at dksX4_trims_1 7 rfl rfl)
theorem dX4_trims_30 : decode cX4_trims 30 = .ok (.dup2, 1) := dk_92 (dk_at dksX4_trims_1 8 rfl rfl)
theorem dX4_trims_31 : decode cX4_trims 31 = .ok (.iaload, 1) := dk_46 (dk_at dksX4_trims_1 9 rfl rfl)
theorem dX4_trims_32 : decode cX4_trims 32 = .ok (.iconst 1, 1) := dk_4 (dk_at dksX4_trims_1 10 rfl rfl)
theorem dX4_trims_33 : decode cX4_trims 33 = .ok (.isub, 1) := dk_100 (dk_at dksX4_trims_1 11 rfl rfl)
theorem dX4_trims_34 : decode cX4_trims 34 = .ok (.iastore, 1) := dk_79 (dk_at dksX4_trims_1 12 rfl rfl)
theorem dX4_trims_35 : decode cX4_trims 35 = .ok (.goto (-35), 3) := dk_167 255 221 (dk_at dksX4_trims_1 13 rfl rfl)
theorem dX4_trims_38 : decode cX4_trims 38 = .ok (.return_, 1) := dk_177 (dk_at dksX4_trims_1 16 rfl rfl)
def dkwX4_multiplies_3 : List UInt8 := [180, 0, 60, 27, 46, 42, 180, 0, 60, 28, 46, 96, 182, 0, 223, 172]
abbrev dktX4_multiplies_3 : List UInt8 := dkwX4_multiplies_3 ++ []
def dkwX4_multiplies_2 : List UInt8 := [180, 0, 56, 28, 47, 9, 148, 156, 0, 7, 4, 167, 0, 4, 3, 159, 0, 7, 4, 167, 0, 4, 3, 42]
abbrev dktX4_multiplies_2 : List UInt8 := dkwX4_multiplies_2 ++ dktX4_multiplies_3
def dkwX4_multiplies_1 : List UInt8 := [8, 182, 0, 241, 42, 29, 7, 42, 180, 0, 56, 27, 47, 9, 148, 156, 0, 7, 4, 167, 0, 4, 3, 42]
abbrev dktX4_multiplies_1 : List UInt8 := dkwX4_multiplies_1 ++ dktX4_multiplies_2
def dkwX4_multiplies_0 : List UInt8 := [42, 7, 42, 180, 0, 56, 27, 47, 182, 0, 33, 42, 8, 42, 180, 0, 56, 28, 47, 182, 0, 33, 42, 7]
abbrev dktX4_multiplies_0 : List UInt8 := dkwX4_multiplies_0 ++ dktX4_multiplies_1
theorem dksX4_multiplies_0 : cX4_multiplies.data.toList.drop 0 = dktX4_multiplies_0 := by decide +kernel
theorem dksX4_multiplies_1 : cX4_multiplies.data.toList.drop 24 = dktX4_multiplies_1 := dk_seg dksX4_multiplies_0 24 rfl rfl
theorem dksX4_multiplies_2 : cX4_multiplies.data.toList.drop 48 = dktX4_multiplies_2 := dk_seg dksX4_multiplies_1 24 rfl rfl
theorem dksX4_multiplies_3 : cX4_multiplies.data.toList.drop 72 = dktX4_multiplies_3 := dk_seg dksX4_multiplies_2 24 rfl rfl
theorem dX4_multiplies_0 : decode cX4_multiplies 0 = .ok (.aload_n 0, 1) := dk_42 (dk_at dksX4_multiplies_0 0 rfl rfl)
theorem dX4_multiplies_1 : decode cX4_multiplies 1 = .ok (.iconst 4, 1) := dk_7 (dk_at dksX4_multiplies_0 1 rfl rfl)
theorem dX4_multiplies_2 : decode cX4_multiplies 2 = .ok (.aload_n 0, 1) := dk_42 (dk_at dksX4_multiplies_0 2 rfl rfl)
theorem dX4_multiplies_3 : decode cX4_multiplies 3 = .ok (.getfield 56, 3) := dk_180 0 56 (dk_at dksX4_multiplies_0 3 rfl rfl)
theorem dX4_multiplies_6 : decode cX4_multiplies 6 = .ok (.iload_n 1, 1) := dk_27 (dk_at dksX4_multiplies_0 6 rfl rfl)
theorem dX4_multiplies_7 : decode cX4_multiplies 7 = .ok (.laload, 1) := dk_47 (dk_at dksX4_multiplies_0 7 rfl rfl)
theorem dX4_multiplies_8 : decode cX4_multiplies 8 = .ok (.invokevirtual 33, 3) := dk_182 0 33 (dk_at dksX4_multiplies_0 8 rfl rfl)
theorem dX4_multiplies_11 : decode cX4_multiplies 11 = .ok (.aload_n 0, 1) := dk_42 (dk_at dksX4_multiplies_0 11 rfl rfl)
theorem dX4_multiplies_12 : decode cX4_multiplies 12 = .ok (.iconst 5, 1) := dk_8 (dk_at dksX4_multiplies_0 12 rfl rfl)
theorem dX4_multiplies_13 : decode cX4_multiplies 13 = .ok (.aload_n 0, 1) := dk_42 (dk_at dksX4_multiplies_0 13 rfl rfl)
theorem dX4_multiplies_14 : decode cX4_multiplies 14 = .ok (.getfield 56, 3) := dk_180 0 56 (dk_at dksX4_multiplies_0 14 rfl rfl)
theorem dX4_multiplies_17 : decode cX4_multiplies 17 = .ok (.iload_n 2, 1) := dk_28 (dk_at dksX4_multiplies_0 17 rfl rfl)
theorem dX4_multiplies_18 : decode cX4_multiplies 18 = .ok (.laload, 1) := dk_47 (dk_at dksX4_multiplies_0 18 rfl rfl)
theorem dX4_multiplies_19 : decode cX4_multiplies 19 = .ok (.invokevirtual 33, 3) := dk_182 0 33 (dk_at dksX4_multiplies_0 19 rfl rfl)
theorem dX4_multiplies_22 : decode cX4_multiplies 22 = .ok (.aload_n 0, 1) := dk_42 (dk_at dksX4_multiplies_0 22 rfl rfl)
theorem dX4_multiplies_23 : decode cX4_multiplies 23 = .ok (.iconst 4, 1) := dk_7 (dk_at dksX4_multiplies_0 23 rfl rfl)
theorem dX4_multiplies_24 : decode cX4_multiplies 24 = .ok (.iconst 5, 1) := dk_8 (dk_at dksX4_multiplies_1 0 rfl rfl)
theorem dX4_multiplies_25 : decode cX4_multiplies 25 = .ok (.invokevirtual 241, 3) := dk_182 0 241 (dk_at dksX4_multiplies_1 1 rfl rfl)
theorem dX4_multiplies_28 : decode cX4_multiplies 28 = .ok (.aload_n 0, 1) := dk_42 (dk_at dksX4_multiplies_1 4 rfl rfl)
theorem dX4_multiplies_29 : decode cX4_multiplies 29 = .ok (.iload_n 3, 1) := dk_29 (dk_at dksX4_multiplies_1 5 rfl rfl)
theorem dX4_multiplies_30 : decode cX4_multiplies 30 = .ok (.iconst 4, 1) := dk_7 (dk_at dksX4_multiplies_1 6 rfl rfl)
theorem dX4_multiplies_31 : decode cX4_multiplies 31 = .ok (.aload_n 0, 1) := dk_42 (dk_at dksX4_multiplies_1 7 rfl rfl)
theorem dX4_multiplies_32 : decode cX4_multiplies 32 = .ok (.getfield 56, 3) := dk_180 0 56 (dk_at dksX4_multiplies_1 8 rfl rfl)
theorem dX4_multiplies_35 : decode cX4_multiplies 35 = .ok (.iload_n 1, 1) := dk_27 (dk_at dksX4_multiplies_1 11 rfl rfl)
theorem dX4_multiplies_36 : decode cX4_multiplies 36 = .ok (.laload, 1) := dk_47 (dk_at dksX4_multiplies_1 12 rfl rfl)
theorem dX4_multiplies_37 : decode cX4_multiplies 37 = .ok (.lconst 0, 1) := dk_9 (dk_at dksX4_multiplies_1 13 rfl rfl)
theorem dX4_multiplies_38 : decode cX4_multiplies 38 = .ok (.lcmp, 1) := dk_148 (dk_at dksX4_multiplies_1 14 rfl rfl)
theorem dX4_multiplies_39 : decode cX4_multiplies 39 = .ok (.ifCond .ge 7, 3) := dk_156 0 7 (dk_at dksX4_multiplies_1 15 rfl rfl)
theorem dX4_multiplies_42 : decode cX4_multiplies 42 = .ok (.iconst 1, 1) := dk_4 (dk_at dksX4_multiplies_1 18 rfl rfl)
theorem dX4_multiplies_43 : decode cX4_multiplies 43 = .ok (.goto 4, 3) := dk_167 0 4 (dk_at dksX4_multiplies_1 19 rfl rfl)
theorem dX4_multiplies_46 : decode cX4_multiplies 46 = .ok (.iconst 0, 1) := dk_3 (dk_at dksX4_multiplies_1 22 rfl rfl)
theorem dX4_multiplies_47 : decode cX4_multiplies 47 = .ok (.aload_n 0, 1) := dk_42 (dk_at dksX4_multiplies_1 23 rfl rfl)
theorem dX4_multiplies_48 : decode cX4_multiplies 48 = .ok (.getfield 56, 3) := dk_180 0 56 (dk_at dksX4_multiplies_2 0 rfl rfl)
theorem dX4_multiplies_51 : decode cX4_multiplies 51 = .ok (.iload_n 2, 1) := dk_28 (dk_at dksX4_multiplies_2 3 rfl rfl)
theorem dX4_multiplies_52 : decode cX4_multiplies 52 = .ok (.laload, 1) := dk_47 (dk_at dksX4_multiplies_2 4 rfl rfl)
theorem dX4_multiplies_53 : decode cX4_multiplies 53 = .ok (.lconst 0, 1) := dk_9 (dk_at dksX4_multiplies_2 5 rfl rfl)
theorem dX4_multiplies_54 : decode cX4_multiplies 54 = .ok (.lcmp, 1) := dk_148 (dk_at dksX4_multiplies_2 6 rfl rfl)
theorem dX4_multiplies_55 : decode cX4_multiplies 55 = .ok (.ifCond .ge 7, 3) := dk_156 0 7 (dk_at dksX4_multiplies_2 7 rfl rfl)
theorem dX4_multiplies_58 : decode cX4_multiplies 58 = .ok (.iconst 1, 1) := dk_4 (dk_at dksX4_multiplies_2 10 rfl rfl)
theorem dX4_multiplies_59 : decode cX4_multiplies 59 = .ok (.goto 4, 3) := dk_167 0 4 (dk_at dksX4_multiplies_2 11 rfl rfl)
theorem dX4_multiplies_62 : decode cX4_multiplies 62 = .ok (.iconst 0, 1) := dk_3 (dk_at dksX4_multiplies_2 14 rfl rfl)
theorem dX4_multiplies_63 : decode cX4_multiplies 63 = .ok (.if_icmp .eq 7, 3) := dk_159 0 7 (dk_at dksX4_multiplies_2 15 rfl rfl)
theorem dX4_multiplies_66 : decode cX4_multiplies 66 = .ok (.iconst 1, 1) := dk_4 (dk_at dksX4_multiplies_2 18 rfl rfl)
theorem dX4_multiplies_67 : decode cX4_multiplies 67 = .ok (.goto 4, 3) := dk_167 0 4 (dk_at dksX4_multiplies_2 19 rfl rfl)
theorem dX4_multiplies_70 : decode cX4_multiplies 70 = .ok (.iconst 0, 1) := dk_3 (dk_at dksX4_multiplies_2 22 rfl rfl)
theorem dX4_multiplies_71 : decode cX4_multiplies 71 = .ok (.aload_n 0, 1) := dk_42 (dk_at dksX4_multiplies_2 23 rfl rfl)
theorem dX4_multiplies_72 : decode cX4_multiplies 72 = .ok (.getfield 60, 3) := dk_180 0 60 (dk_at dksX4_multiplies_3 0 rfl rfl)
theorem dX4_multiplies_75 : decode cX4_multiplies 75 = .ok (.iload_n 1, 1) := dk_27 (dk_at dksX4_multiplies_3 3 rfl rfl)
theorem dX4_multiplies_76 : decode cX4_multiplies 76 = .ok (.iaload, 1) := dk_46 (dk_at dksX4_multiplies_3 4 rfl rfl)
theorem dX4_multiplies_77 : decode cX4_multiplies 77 = .ok (.aload_n 0, 1) := dk_42 (dk_at dksX4_multiplies_3 5 rfl rfl)
theorem dX4_multiplies_78 : decode cX4_multiplies 78 = .ok (.getfield 60, 3) := dk_180 0 60 (dk_at dksX4_multiplies_3 6 rfl rfl)
theorem dX4_multiplies_81 : decode cX4_multiplies 81 = .ok (.iload_n 2, 1) := dk_28 (dk_at dksX4_multiplies_3 9 rfl rfl)
theorem dX4_multiplies_82 : decode cX4_multiplies 82 = .ok (.iaload, 1) := dk_46 (dk_at dksX4_multiplies_3 10 rfl rfl)
theorem dX4_multiplies_83 : decode cX4_multiplies 83 = .ok (.iadd, 1) := dk_96 (dk_at dksX4_multiplies_3 11 rfl rfl)
theorem dX4_multiplies_84 : decode cX4_multiplies 84 = .ok (.invokevirtual 223, 3) := dk_182 0 223 (dk_at dksX4_multiplies_3 12 rfl rfl)
theorem dX4_multiplies_87 : decode cX4_multiplies 87 = .ok (.ireturn, 1) := dk_172 (dk_at dksX4_multiplies_3 15 rfl rfl)
def dkwX4_times_5 : List UInt8 := [167, 255, 149, 42, 16, 7, 27, 182, 0, 30, 177]
abbrev dktX4_times_5 : List UInt8 := dkwX4_times_5 ++ []
def dkwX4_times_4 : List UInt8 := [16, 6, 182, 0, 20, 42, 16, 6, 29, 182, 0, 24, 42, 16, 7, 16, 6, 182, 0, 27, 132, 3, 1]
abbrev dktX4_times_4 : List UInt8 := dkwX4_times_4 ++ dktX4_times_5
def dkwX4_times_3 : List UInt8 := [16, 6, 21, 6, 16, 10, 112, 182, 0, 16, 21, 6, 16, 10, 108, 54, 4, 132, 5, 1, 167, 255, 200, 42]
abbrev dktX4_times_3 : List UInt8 := dkwX4_times_3 ++ dktX4_times_4
def dkwX4_times_2 : List UInt8 := [158, 0, 46, 21, 4, 42, 27, 29, 182, 0, 10, 42, 28, 21, 5, 182, 0, 10, 104, 96, 54, 6, 42]
abbrev dktX4_times_2 : List UInt8 := dkwX4_times_2 ++ dktX4_times_3
def dkwX4_times_1 : List UInt8 := [16, 6, 3, 79, 3, 54, 4, 3, 54, 5, 21, 5, 42, 180, 0, 1, 28, 46, 161, 0, 8, 21, 4]
abbrev dktX4_times_1 : List UInt8 := dkwX4_times_1 ++ dktX4_times_2
def dkwX4_times_0 : List UInt8 := [42, 180, 0, 1, 16, 7, 3, 79, 3, 62, 29, 42, 180, 0, 1, 27, 46, 162, 0, 103, 42, 180, 0, 1]
abbrev dktX4_times_0 : List UInt8 := dkwX4_times_0 ++ dktX4_times_1
theorem dksX4_times_0 : cX4_times.data.toList.drop 0 = dktX4_times_0 := by decide +kernel
theorem dksX4_times_1 : cX4_times.data.toList.drop 24 = dktX4_times_1 := dk_seg dksX4_times_0 24 rfl rfl
theorem dksX4_times_2 : cX4_times.data.toList.drop 47 = dktX4_times_2 := dk_seg dksX4_times_1 23 rfl rfl
theorem dksX4_times_3 : cX4_times.data.toList.drop 70 = dktX4_times_3 := dk_seg dksX4_times_2 23 rfl rfl
theorem dksX4_times_4 : cX4_times.data.toList.drop 94 = dktX4_times_4 := dk_seg dksX4_times_3 24 rfl rfl
theorem dksX4_times_5 : cX4_times.data.toList.drop 117 = dktX4_times_5 := dk_seg dksX4_times_4 23 rfl rfl
theorem dX4_times_0 : decode cX4_times 0 = .ok (.aload_n 0, 1) := dk_42 (dk_at dksX4_times_0 0 rfl rfl)
theorem dX4_times_1 : decode cX4_times 1 = .ok (.getfield 1, 3) := dk_180 0 1 (dk_at dksX4_times_0 1 rfl rfl)
theorem dX4_times_4 : decode cX4_times 4 = .ok (.bipush 7, 2) := dk_16 7 (dk_at dksX4_times_0 4 rfl rfl)
theorem dX4_times_6 : decode cX4_times 6 = .ok (.iconst 0, 1) := dk_3 (dk_at dksX4_times_0 6 rfl rfl)
theorem dX4_times_7 : decode cX4_times 7 = .ok (.iastore, 1) := dk_79 (dk_at dksX4_times_0 7 rfl rfl)
theorem dX4_times_8 : decode cX4_times 8 = .ok (.iconst 0, 1) := dk_3 (dk_at dksX4_times_0 8 rfl rfl)
theorem dX4_times_9 : decode cX4_times 9 = .ok (.istore_n 3, 1) := dk_62 (dk_at dksX4_times_0 9 rfl rfl)
theorem dX4_times_10 : decode cX4_times 10 = .ok (.iload_n 3, 1) := dk_29 (dk_at dksX4_times_0 10 rfl rfl)
theorem dX4_times_11 : decode cX4_times 11 = .ok (.aload_n 0, 1) := dk_42 (dk_at dksX4_times_0 11 rfl rfl)
theorem dX4_times_12 : decode cX4_times 12 = .ok (.getfield 1, 3) := dk_180 0 1 (dk_at dksX4_times_0 12 rfl rfl)
theorem dX4_times_15 : decode cX4_times 15 = .ok (.iload_n 1, 1) := dk_27 (dk_at dksX4_times_0 15 rfl rfl)
theorem dX4_times_16 : decode cX4_times 16 = .ok (.iaload, 1) := dk_46 (dk_at dksX4_times_0 16 rfl rfl)
theorem dX4_times_17 : decode cX4_times 17 = .ok (.if_icmp .ge 103, 3) := dk_162 0 103 (dk_at dksX4_times_0 17 rfl rfl)
theorem dX4_times_20 : decode cX4_times 20 = .ok (.aload_n 0, 1) := dk_42 (dk_at dksX4_times_0 20 rfl rfl)
theorem dX4_times_21 : decode cX4_times 21 = .ok (.getfield 1, 3) := dk_180 0 1 (dk_at dksX4_times_0 21 rfl rfl)
theorem dX4_times_24 : decode cX4_times 24 = .ok (.bipush 6, 2) := dk_16 6 (dk_at dksX4_times_1 0 rfl rfl)
theorem dX4_times_26 : decode cX4_times 26 = .ok (.iconst 0, 1) := dk_3 (dk_at dksX4_times_1 2 rfl rfl)
theorem dX4_times_27 : decode cX4_times 27 = .ok (.iastore, 1) := dk_79 (dk_at dksX4_times_1 3 rfl rfl)
theorem dX4_times_28 : decode cX4_times 28 = .ok (.iconst 0, 1) := dk_3 (dk_at dksX4_times_1 4 rfl rfl)
theorem dX4_times_29 : decode cX4_times 29 = .ok (.istore 4, 2) := dk_54 4 (dk_at dksX4_times_1 5 rfl rfl)
theorem dX4_times_31 : decode cX4_times 31 = .ok (.iconst 0, 1) := dk_3 (dk_at dksX4_times_1 7 rfl rfl)
theorem dX4_times_32 : decode cX4_times 32 = .ok (.istore 5, 2) := dk_54 5 (dk_at dksX4_times_1 8 rfl rfl)
theorem dX4_times_34 : decode cX4_times 34 = .ok (.iload 5, 2) := dk_21 5 (dk_at dksX4_times_1 10 rfl rfl)
theorem dX4_times_36 : decode cX4_times 36 = .ok (.aload_n 0, 1) := dk_42 (dk_at dksX4_times_1 12 rfl rfl)
theorem dX4_times_37 : decode cX4_times 37 = .ok (.getfield 1, 3) := dk_180 0 1 (dk_at dksX4_times_1 13 rfl rfl)
theorem dX4_times_40 : decode cX4_times 40 = .ok (.iload_n 2, 1) := dk_28 (dk_at dksX4_times_1 16 rfl rfl)
theorem dX4_times_41 : decode cX4_times 41 = .ok (.iaload, 1) := dk_46 (dk_at dksX4_times_1 17 rfl rfl)
theorem dX4_times_42 : decode cX4_times 42 = .ok (.if_icmp .lt 8, 3) := dk_161 0 8 (dk_at dksX4_times_1 18 rfl rfl)
theorem dX4_times_45 : decode cX4_times 45 = .ok (.iload 4, 2) := dk_21 4 (dk_at dksX4_times_1 21 rfl rfl)
theorem dX4_times_47 : decode cX4_times 47 = .ok (.ifCond .le 46, 3) := dk_158 0 46 (dk_at dksX4_times_2 0 rfl rfl)
theorem dX4_times_50 : decode cX4_times 50 = .ok (.iload 4, 2) := dk_21 4 (dk_at dksX4_times_2 3 rfl rfl)
theorem dX4_times_52 : decode cX4_times 52 = .ok (.aload_n 0, 1) := dk_42 (dk_at dksX4_times_2 5 rfl rfl)
theorem dX4_times_53 : decode cX4_times 53 = .ok (.iload_n 1, 1) := dk_27 (dk_at dksX4_times_2 6 rfl rfl)
theorem dX4_times_54 : decode cX4_times 54 = .ok (.iload_n 3, 1) := dk_29 (dk_at dksX4_times_2 7 rfl rfl)
theorem dX4_times_55 : decode cX4_times 55 = .ok (.invokevirtual 10, 3) := dk_182 0 10 (dk_at dksX4_times_2 8 rfl rfl)
theorem dX4_times_58 : decode cX4_times 58 = .ok (.aload_n 0, 1) := dk_42 (dk_at dksX4_times_2 11 rfl rfl)
theorem dX4_times_59 : decode cX4_times 59 = .ok (.iload_n 2, 1) := dk_28 (dk_at dksX4_times_2 12 rfl rfl)
theorem dX4_times_60 : decode cX4_times 60 = .ok (.iload 5, 2) := dk_21 5 (dk_at dksX4_times_2 13 rfl rfl)
theorem dX4_times_62 : decode cX4_times 62 = .ok (.invokevirtual 10, 3) := dk_182 0 10 (dk_at dksX4_times_2 15 rfl rfl)
theorem dX4_times_65 : decode cX4_times 65 = .ok (.imul, 1) := dk_104 (dk_at dksX4_times_2 18 rfl rfl)
theorem dX4_times_66 : decode cX4_times 66 = .ok (.iadd, 1) := dk_96 (dk_at dksX4_times_2 19 rfl rfl)
theorem dX4_times_67 : decode cX4_times 67 = .ok (.istore 6, 2) := dk_54 6 (dk_at dksX4_times_2 20 rfl rfl)
theorem dX4_times_69 : decode cX4_times 69 = .ok (.aload_n 0, 1) := dk_42 (dk_at dksX4_times_2 22 rfl rfl)
theorem dX4_times_70 : decode cX4_times 70 = .ok (.bipush 6, 2) := dk_16 6 (dk_at dksX4_times_3 0 rfl rfl)
theorem dX4_times_72 : decode cX4_times 72 = .ok (.iload 6, 2) := dk_21 6 (dk_at dksX4_times_3 2 rfl rfl)
theorem dX4_times_74 : decode cX4_times 74 = .ok (.bipush 10, 2) := dk_16 10 (dk_at dksX4_times_3 4 rfl rfl)
theorem dX4_times_76 : decode cX4_times 76 = .ok (.irem, 1) := dk_112 (dk_at dksX4_times_3 6 rfl rfl)
theorem dX4_times_77 : decode cX4_times 77 = .ok (.invokevirtual 16, 3) := dk_182 0 16 (dk_at dksX4_times_3 7 rfl rfl)
theorem dX4_times_80 : decode cX4_times 80 = .ok (.iload 6, 2) := dk_21 6 (dk_at dksX4_times_3 10 rfl rfl)
theorem dX4_times_82 : decode cX4_times 82 = .ok (.bipush 10, 2) := dk_16 10 (dk_at dksX4_times_3 12 rfl rfl)
theorem dX4_times_84 : decode cX4_times 84 = .ok (.idiv, 1) := dk_108 (dk_at dksX4_times_3 14 rfl rfl)
theorem dX4_times_85 : decode cX4_times 85 = .ok (.istore 4, 2) := dk_54 4 (dk_at dksX4_times_3 15 rfl rfl)
theorem dX4_times_87 : decode cX4_times 87 = .ok (.iinc 5 1, 3) := dk_132 5 1 (dk_at dksX4_times_3 17 rfl rfl)
theorem dX4_times_90 : decode cX4_times 90 = .ok (.goto (-56), 3) := dk_167 255 200 (dk_at dksX4_times_3 20 rfl rfl)
theorem dX4_times_93 : decode cX4_times 93 = .ok (.aload_n 0, 1) := dk_42 (dk_at dksX4_times_3 23 rfl rfl)
theorem dX4_times_94 : decode cX4_times 94 = .ok (.bipush 6, 2) := dk_16 6 (dk_at dksX4_times_4 0 rfl rfl)
theorem dX4_times_96 : decode cX4_times 96 = .ok (.invokevirtual 20, 3) := dk_182 0 20 (dk_at dksX4_times_4 2 rfl rfl)
theorem dX4_times_99 : decode cX4_times 99 = .ok (.aload_n 0, 1) := dk_42 (dk_at dksX4_times_4 5 rfl rfl)
theorem dX4_times_100 : decode cX4_times 100 = .ok (.bipush 6, 2) := dk_16 6 (dk_at dksX4_times_4 6 rfl rfl)
theorem dX4_times_102 : decode cX4_times 102 = .ok (.iload_n 3, 1) := dk_29 (dk_at dksX4_times_4 8 rfl rfl)
theorem dX4_times_103 : decode cX4_times 103 = .ok (.invokevirtual 24, 3) := dk_182 0 24 (dk_at dksX4_times_4 9 rfl rfl)
theorem dX4_times_106 : decode cX4_times 106 = .ok (.aload_n 0, 1) := dk_42 (dk_at dksX4_times_4 12 rfl rfl)
theorem dX4_times_107 : decode cX4_times 107 = .ok (.bipush 7, 2) := dk_16 7 (dk_at dksX4_times_4 13 rfl rfl)
theorem dX4_times_109 : decode cX4_times 109 = .ok (.bipush 6, 2) := dk_16 6 (dk_at dksX4_times_4 15 rfl rfl)
theorem dX4_times_111 : decode cX4_times 111 = .ok (.invokevirtual 27, 3) := dk_182 0 27 (dk_at dksX4_times_4 17 rfl rfl)
theorem dX4_times_114 : decode cX4_times 114 = .ok (.iinc 3 1, 3) := dk_132 3 1 (dk_at dksX4_times_4 20 rfl rfl)
theorem dX4_times_117 : decode cX4_times 117 = .ok (.goto (-107), 3) := dk_167 255 149 (dk_at dksX4_times_5 0 rfl rfl)
theorem dX4_times_120 : decode cX4_times 120 = .ok (.aload_n 0, 1) := dk_42 (dk_at dksX4_times_5 3 rfl rfl)
theorem dX4_times_121 : decode cX4_times 121 = .ok (.bipush 7, 2) := dk_16 7 (dk_at dksX4_times_5 4 rfl rfl)
theorem dX4_times_123 : decode cX4_times 123 = .ok (.iload_n 1, 1) := dk_27 (dk_at dksX4_times_5 6 rfl rfl)
theorem dX4_times_124 : decode cX4_times 124 = .ok (.invokevirtual 30, 3) := dk_182 0 30 (dk_at dksX4_times_5 7 rfl rfl)
theorem dX4_times_127 : decode cX4_times 127 = .ok (.return_, 1) := dk_177 (dk_at dksX4_times_5 10 rfl rfl)
def dkwX4_copies_1 : List UInt8 := [182, 0, 10, 182, 0, 16, 132, 3, 1, 167, 255, 232, 177]
abbrev dktX4_copies_1 : List UInt8 := dkwX4_copies_1 ++ []
def dkwX4_copies_0 : List UInt8 := [42, 180, 0, 1, 28, 3, 79, 3, 62, 29, 42, 180, 0, 1, 27, 46, 162, 0, 20, 42, 28, 42, 27, 29]
abbrev dktX4_copies_0 : List UInt8 := dkwX4_copies_0 ++ dktX4_copies_1
theorem dksX4_copies_0 : cX4_copies.data.toList.drop 0 = dktX4_copies_0 := by decide +kernel
theorem dksX4_copies_1 : cX4_copies.data.toList.drop 24 = dktX4_copies_1 := dk_seg dksX4_copies_0 24 rfl rfl
theorem dX4_copies_0 : decode cX4_copies 0 = .ok (.aload_n 0, 1) := dk_42 (dk_at dksX4_copies_0 0 rfl rfl)
theorem dX4_copies_1 : decode cX4_copies 1 = .ok (.getfield 1, 3) := dk_180 0 1 (dk_at dksX4_copies_0 1 rfl rfl)
theorem dX4_copies_4 : decode cX4_copies 4 = .ok (.iload_n 2, 1) := dk_28 (dk_at dksX4_copies_0 4 rfl rfl)
theorem dX4_copies_5 : decode cX4_copies 5 = .ok (.iconst 0, 1) := dk_3 (dk_at dksX4_copies_0 5 rfl rfl)
theorem dX4_copies_6 : decode cX4_copies 6 = .ok (.iastore, 1) := dk_79 (dk_at dksX4_copies_0 6 rfl rfl)
theorem dX4_copies_7 : decode cX4_copies 7 = .ok (.iconst 0, 1) := dk_3 (dk_at dksX4_copies_0 7 rfl rfl)
theorem dX4_copies_8 : decode cX4_copies 8 = .ok (.istore_n 3, 1) := dk_62 (dk_at dksX4_copies_0 8 rfl rfl)
theorem dX4_copies_9 : decode cX4_copies 9 = .ok (.iload_n 3, 1) := dk_29 (dk_at dksX4_copies_0 9 rfl rfl)
theorem dX4_copies_10 : decode cX4_copies 10 = .ok (.aload_n 0, 1) := dk_42 (dk_at dksX4_copies_0 10 rfl rfl)
theorem dX4_copies_11 : decode cX4_copies 11 = .ok (.getfield 1, 3) := dk_180 0 1 (dk_at dksX4_copies_0 11 rfl rfl)
theorem dX4_copies_14 : decode cX4_copies 14 = .ok (.iload_n 1, 1) := dk_27 (dk_at dksX4_copies_0 14 rfl rfl)
theorem dX4_copies_15 : decode cX4_copies 15 = .ok (.iaload, 1) := dk_46 (dk_at dksX4_copies_0 15 rfl rfl)
theorem dX4_copies_16 : decode cX4_copies 16 = .ok (.if_icmp .ge 20, 3) := dk_162 0 20 (dk_at dksX4_copies_0 16 rfl rfl)
theorem dX4_copies_19 : decode cX4_copies 19 = .ok (.aload_n 0, 1) := dk_42 (dk_at dksX4_copies_0 19 rfl rfl)
theorem dX4_copies_20 : decode cX4_copies 20 = .ok (.iload_n 2, 1) := dk_28 (dk_at dksX4_copies_0 20 rfl rfl)
theorem dX4_copies_21 : decode cX4_copies 21 = .ok (.aload_n 0, 1) := dk_42 (dk_at dksX4_copies_0 21 rfl rfl)
theorem dX4_copies_22 : decode cX4_copies 22 = .ok (.iload_n 1, 1) := dk_27 (dk_at dksX4_copies_0 22 rfl rfl)
theorem dX4_copies_23 : decode cX4_copies 23 = .ok (.iload_n 3, 1) := dk_29 (dk_at dksX4_copies_0 23 rfl rfl)
theorem dX4_copies_24 : decode cX4_copies 24 = .ok (.invokevirtual 10, 3) := dk_182 0 10 (dk_at dksX4_copies_1 0 rfl rfl)
theorem dX4_copies_27 : decode cX4_copies 27 = .ok (.invokevirtual 16, 3) := dk_182 0 16 (dk_at dksX4_copies_1 3 rfl rfl)
theorem dX4_copies_30 : decode cX4_copies 30 = .ok (.iinc 3 1, 3) := dk_132 3 1 (dk_at dksX4_copies_1 6 rfl rfl)
theorem dX4_copies_33 : decode cX4_copies 33 = .ok (.goto (-24), 3) := dk_167 255 232 (dk_at dksX4_copies_1 9 rfl rfl)
theorem dX4_copies_36 : decode cX4_copies 36 = .ok (.return_, 1) := dk_177 (dk_at dksX4_copies_1 12 rfl rfl)
def dkwX4_order_3 : List UInt8 := [182, 0, 237, 21, 4, 42, 7, 8, 182, 0, 37, 104, 172]
abbrev dktX4_order_3 : List UInt8 := dkwX4_order_3 ++ []
def dkwX4_order_2 : List UInt8 := [21, 4, 21, 5, 162, 0, 7, 2, 167, 0, 4, 4, 172, 42, 7, 27, 29, 182, 0, 237, 42, 8, 28, 29]
abbrev dktX4_order_2 : List UInt8 := dkwX4_order_2 ++ dktX4_order_3
def dkwX4_order_1 : List UInt8 := [184, 0, 234, 54, 4, 42, 180, 0, 56, 28, 47, 184, 0, 234, 54, 5, 21, 4, 21, 5, 159, 0, 16]
abbrev dktX4_order_1 : List UInt8 := dkwX4_order_1 ++ dktX4_order_2
def dkwX4_order_0 : List UInt8 := [42, 180, 0, 60, 27, 46, 42, 180, 0, 60, 28, 46, 184, 0, 231, 62, 42, 180, 0, 56, 27, 47]
abbrev dktX4_order_0 : List UInt8 := dkwX4_order_0 ++ dktX4_order_1
theorem dksX4_order_0 : cX4_order.data.toList.drop 0 = dktX4_order_0 := by decide +kernel
theorem dksX4_order_1 : cX4_order.data.toList.drop 22 = dktX4_order_1 := dk_seg dksX4_order_0 22 rfl rfl
theorem dksX4_order_2 : cX4_order.data.toList.drop 45 = dktX4_order_2 := dk_seg dksX4_order_1 23 rfl rfl
theorem dksX4_order_3 : cX4_order.data.toList.drop 69 = dktX4_order_3 := dk_seg dksX4_order_2 24 rfl rfl
theorem dX4_order_0 : decode cX4_order 0 = .ok (.aload_n 0, 1) := dk_42 (dk_at dksX4_order_0 0 rfl rfl)
theorem dX4_order_1 : decode cX4_order 1 = .ok (.getfield 60, 3) := dk_180 0 60 (dk_at dksX4_order_0 1 rfl rfl)
theorem dX4_order_4 : decode cX4_order 4 = .ok (.iload_n 1, 1) := dk_27 (dk_at dksX4_order_0 4 rfl rfl)
theorem dX4_order_5 : decode cX4_order 5 = .ok (.iaload, 1) := dk_46 (dk_at dksX4_order_0 5 rfl rfl)
theorem dX4_order_6 : decode cX4_order 6 = .ok (.aload_n 0, 1) := dk_42 (dk_at dksX4_order_0 6 rfl rfl)
theorem dX4_order_7 : decode cX4_order 7 = .ok (.getfield 60, 3) := dk_180 0 60 (dk_at dksX4_order_0 7 rfl rfl)
theorem dX4_order_10 : decode cX4_order 10 = .ok (.iload_n 2, 1) := dk_28 (dk_at dksX4_order_0 10 rfl rfl)
theorem dX4_order_11 : decode cX4_order 11 = .ok (.iaload, 1) := dk_46 (dk_at dksX4_order_0 11 rfl rfl)
theorem dX4_order_12 : decode cX4_order 12 = .ok (.invokestatic 231, 3) := dk_184 0 231 (dk_at dksX4_order_0 12 rfl rfl)
theorem dX4_order_15 : decode cX4_order 15 = .ok (.istore_n 3, 1) := dk_62 (dk_at dksX4_order_0 15 rfl rfl)
theorem dX4_order_16 : decode cX4_order 16 = .ok (.aload_n 0, 1) := dk_42 (dk_at dksX4_order_0 16 rfl rfl)
theorem dX4_order_17 : decode cX4_order 17 = .ok (.getfield 56, 3) := dk_180 0 56 (dk_at dksX4_order_0 17 rfl rfl)
theorem dX4_order_20 : decode cX4_order 20 = .ok (.iload_n 1, 1) := dk_27 (dk_at dksX4_order_0 20 rfl rfl)
theorem dX4_order_21 : decode cX4_order 21 = .ok (.laload, 1) := dk_47 (dk_at dksX4_order_0 21 rfl rfl)
theorem dX4_order_22 : decode cX4_order 22 = .ok (.invokestatic 234, 3) := dk_184 0 234 (dk_at dksX4_order_1 0 rfl rfl)
theorem dX4_order_25 : decode cX4_order 25 = .ok (.istore 4, 2) := dk_54 4 (dk_at dksX4_order_1 3 rfl rfl)
theorem dX4_order_27 : decode cX4_order 27 = .ok (.aload_n 0, 1) := dk_42 (dk_at dksX4_order_1 5 rfl rfl)
theorem dX4_order_28 : decode cX4_order 28 = .ok (.getfield 56, 3) := dk_180 0 56 (dk_at dksX4_order_1 6 rfl rfl)
theorem dX4_order_31 : decode cX4_order 31 = .ok (.iload_n 2, 1) := dk_28 (dk_at dksX4_order_1 9 rfl rfl)
theorem dX4_order_32 : decode cX4_order 32 = .ok (.laload, 1) := dk_47 (dk_at dksX4_order_1 10 rfl rfl)
theorem dX4_order_33 : decode cX4_order 33 = .ok (.invokestatic 234, 3) := dk_184 0 234 (dk_at dksX4_order_1 11 rfl rfl)
theorem dX4_order_36 : decode cX4_order 36 = .ok (.istore 5, 2) := dk_54 5 (dk_at dksX4_order_1 14 rfl rfl)
theorem dX4_order_38 : decode cX4_order 38 = .ok (.iload 4, 2) := dk_21 4 (dk_at dksX4_order_1 16 rfl rfl)
theorem dX4_order_40 : decode cX4_order 40 = .ok (.iload 5, 2) := dk_21 5 (dk_at dksX4_order_1 18 rfl rfl)
theorem dX4_order_42 : decode cX4_order 42 = .ok (.if_icmp .eq 16, 3) := dk_159 0 16 (dk_at dksX4_order_1 20 rfl rfl)
theorem dX4_order_45 : decode cX4_order 45 = .ok (.iload 4, 2) := dk_21 4 (dk_at dksX4_order_2 0 rfl rfl)
theorem dX4_order_47 : decode cX4_order 47 = .ok (.iload 5, 2) := dk_21 5 (dk_at dksX4_order_2 2 rfl rfl)
theorem dX4_order_49 : decode cX4_order 49 = .ok (.if_icmp .ge 7, 3) := dk_162 0 7 (dk_at dksX4_order_2 4 rfl rfl)
theorem dX4_order_52 : decode cX4_order 52 = .ok (.iconst (-1), 1) := dk_2 (dk_at dksX4_order_2 7 rfl rfl)
theorem dX4_order_53 : decode cX4_order 53 = .ok (.goto 4, 3) := dk_167 0 4 (dk_at dksX4_order_2 8 rfl rfl)
theorem dX4_order_56 : decode cX4_order 56 = .ok (.iconst 1, 1) := dk_4 (dk_at dksX4_order_2 11 rfl rfl)
theorem dX4_order_57 : decode cX4_order 57 = .ok (.ireturn, 1) := dk_172 (dk_at dksX4_order_2 12 rfl rfl)
theorem dX4_order_58 : decode cX4_order 58 = .ok (.aload_n 0, 1) := dk_42 (dk_at dksX4_order_2 13 rfl rfl)
theorem dX4_order_59 : decode cX4_order 59 = .ok (.iconst 4, 1) := dk_7 (dk_at dksX4_order_2 14 rfl rfl)
theorem dX4_order_60 : decode cX4_order 60 = .ok (.iload_n 1, 1) := dk_27 (dk_at dksX4_order_2 15 rfl rfl)
theorem dX4_order_61 : decode cX4_order 61 = .ok (.iload_n 3, 1) := dk_29 (dk_at dksX4_order_2 16 rfl rfl)
theorem dX4_order_62 : decode cX4_order 62 = .ok (.invokevirtual 237, 3) := dk_182 0 237 (dk_at dksX4_order_2 17 rfl rfl)
theorem dX4_order_65 : decode cX4_order 65 = .ok (.aload_n 0, 1) := dk_42 (dk_at dksX4_order_2 20 rfl rfl)
theorem dX4_order_66 : decode cX4_order 66 = .ok (.iconst 5, 1) := dk_8 (dk_at dksX4_order_2 21 rfl rfl)
theorem dX4_order_67 : decode cX4_order 67 = .ok (.iload_n 2, 1) := dk_28 (dk_at dksX4_order_2 22 rfl rfl)
theorem dX4_order_68 : decode cX4_order 68 = .ok (.iload_n 3, 1) := dk_29 (dk_at dksX4_order_2 23 rfl rfl)
theorem dX4_order_69 : decode cX4_order 69 = .ok (.invokevirtual 237, 3) := dk_182 0 237 (dk_at dksX4_order_3 0 rfl rfl)
theorem dX4_order_72 : decode cX4_order 72 = .ok (.iload 4, 2) := dk_21 4 (dk_at dksX4_order_3 3 rfl rfl)
theorem dX4_order_74 : decode cX4_order 74 = .ok (.aload_n 0, 1) := dk_42 (dk_at dksX4_order_3 5 rfl rfl)
theorem dX4_order_75 : decode cX4_order 75 = .ok (.iconst 4, 1) := dk_7 (dk_at dksX4_order_3 6 rfl rfl)
theorem dX4_order_76 : decode cX4_order 76 = .ok (.iconst 5, 1) := dk_8 (dk_at dksX4_order_3 7 rfl rfl)
theorem dX4_order_77 : decode cX4_order 77 = .ok (.invokevirtual 37, 3) := dk_182 0 37 (dk_at dksX4_order_3 8 rfl rfl)
theorem dX4_order_80 : decode cX4_order 80 = .ok (.imul, 1) := dk_104 (dk_at dksX4_order_3 11 rfl rfl)
theorem dX4_order_81 : decode cX4_order 81 = .ok (.ireturn, 1) := dk_172 (dk_at dksX4_order_3 12 rfl rfl)
def dkwX4_signOf_0 : List UInt8 := [30, 9, 148, 156, 0, 7, 2, 167, 0, 14, 30, 9, 148, 158, 0, 7, 4, 167, 0, 4, 3, 172]
abbrev dktX4_signOf_0 : List UInt8 := dkwX4_signOf_0 ++ []
theorem dksX4_signOf_0 : cX4_signOf.data.toList.drop 0 = dktX4_signOf_0 := by decide +kernel
theorem dX4_signOf_0 : decode cX4_signOf 0 = .ok (.lload_n 0, 1) := dk_30 (dk_at dksX4_signOf_0 0 rfl rfl)
theorem dX4_signOf_1 : decode cX4_signOf 1 = .ok (.lconst 0, 1) := dk_9 (dk_at dksX4_signOf_0 1 rfl rfl)
theorem dX4_signOf_2 : decode cX4_signOf 2 = .ok (.lcmp, 1) := dk_148 (dk_at dksX4_signOf_0 2 rfl rfl)
theorem dX4_signOf_3 : decode cX4_signOf 3 = .ok (.ifCond .ge 7, 3) := dk_156 0 7 (dk_at dksX4_signOf_0 3 rfl rfl)
theorem dX4_signOf_6 : decode cX4_signOf 6 = .ok (.iconst (-1), 1) := dk_2 (dk_at dksX4_signOf_0 6 rfl rfl)
theorem dX4_signOf_7 : decode cX4_signOf 7 = .ok (.goto 14, 3) := dk_167 0 14 (dk_at dksX4_signOf_0 7 rfl rfl)
theorem dX4_signOf_10 : decode cX4_signOf 10 = .ok (.lload_n 0, 1) := dk_30 (dk_at dksX4_signOf_0 10 rfl rfl)
theorem dX4_signOf_11 : decode cX4_signOf 11 = .ok (.lconst 0, 1) := dk_9 (dk_at dksX4_signOf_0 11 rfl rfl)
theorem dX4_signOf_12 : decode cX4_signOf 12 = .ok (.lcmp, 1) := dk_148 (dk_at dksX4_signOf_0 12 rfl rfl)
theorem dX4_signOf_13 : decode cX4_signOf 13 = .ok (.ifCond .le 7, 3) := dk_158 0 7 (dk_at dksX4_signOf_0 13 rfl rfl)
theorem dX4_signOf_16 : decode cX4_signOf 16 = .ok (.iconst 1, 1) := dk_4 (dk_at dksX4_signOf_0 16 rfl rfl)
theorem dX4_signOf_17 : decode cX4_signOf 17 = .ok (.goto 4, 3) := dk_167 0 4 (dk_at dksX4_signOf_0 17 rfl rfl)
theorem dX4_signOf_20 : decode cX4_signOf 20 = .ok (.iconst 0, 1) := dk_3 (dk_at dksX4_signOf_0 20 rfl rfl)
theorem dX4_signOf_21 : decode cX4_signOf 21 = .ok (.ireturn, 1) := dk_172 (dk_at dksX4_signOf_0 21 rfl rfl)
def dkwX4_takes_1 : List UInt8 := [156, 0, 7, 4, 167, 0, 4, 3, 42, 180, 0, 60, 27, 46, 182, 0, 223, 172]
abbrev dktX4_takes_1 : List UInt8 := dkwX4_takes_1 ++ []
def dkwX4_takes_0 : List UInt8 := [42, 7, 42, 180, 0, 56, 27, 47, 182, 0, 33, 42, 28, 7, 42, 180, 0, 56, 27, 47, 9, 148]
abbrev dktX4_takes_0 : List UInt8 := dkwX4_takes_0 ++ dktX4_takes_1
theorem dksX4_takes_0 : cX4_takes.data.toList.drop 0 = dktX4_takes_0 := by decide +kernel
theorem dksX4_takes_1 : cX4_takes.data.toList.drop 22 = dktX4_takes_1 := dk_seg dksX4_takes_0 22 rfl rfl
theorem dX4_takes_0 : decode cX4_takes 0 = .ok (.aload_n 0, 1) := dk_42 (dk_at dksX4_takes_0 0 rfl rfl)
theorem dX4_takes_1 : decode cX4_takes 1 = .ok (.iconst 4, 1) := dk_7 (dk_at dksX4_takes_0 1 rfl rfl)
theorem dX4_takes_2 : decode cX4_takes 2 = .ok (.aload_n 0, 1) := dk_42 (dk_at dksX4_takes_0 2 rfl rfl)
theorem dX4_takes_3 : decode cX4_takes 3 = .ok (.getfield 56, 3) := dk_180 0 56 (dk_at dksX4_takes_0 3 rfl rfl)
theorem dX4_takes_6 : decode cX4_takes 6 = .ok (.iload_n 1, 1) := dk_27 (dk_at dksX4_takes_0 6 rfl rfl)
theorem dX4_takes_7 : decode cX4_takes 7 = .ok (.laload, 1) := dk_47 (dk_at dksX4_takes_0 7 rfl rfl)
theorem dX4_takes_8 : decode cX4_takes 8 = .ok (.invokevirtual 33, 3) := dk_182 0 33 (dk_at dksX4_takes_0 8 rfl rfl)
theorem dX4_takes_11 : decode cX4_takes 11 = .ok (.aload_n 0, 1) := dk_42 (dk_at dksX4_takes_0 11 rfl rfl)
theorem dX4_takes_12 : decode cX4_takes 12 = .ok (.iload_n 2, 1) := dk_28 (dk_at dksX4_takes_0 12 rfl rfl)
theorem dX4_takes_13 : decode cX4_takes 13 = .ok (.iconst 4, 1) := dk_7 (dk_at dksX4_takes_0 13 rfl rfl)
theorem dX4_takes_14 : decode cX4_takes 14 = .ok (.aload_n 0, 1) := dk_42 (dk_at dksX4_takes_0 14 rfl rfl)
theorem dX4_takes_15 : decode cX4_takes 15 = .ok (.getfield 56, 3) := dk_180 0 56 (dk_at dksX4_takes_0 15 rfl rfl)
theorem dX4_takes_18 : decode cX4_takes 18 = .ok (.iload_n 1, 1) := dk_27 (dk_at dksX4_takes_0 18 rfl rfl)
theorem dX4_takes_19 : decode cX4_takes 19 = .ok (.laload, 1) := dk_47 (dk_at dksX4_takes_0 19 rfl rfl)
theorem dX4_takes_20 : decode cX4_takes 20 = .ok (.lconst 0, 1) := dk_9 (dk_at dksX4_takes_0 20 rfl rfl)
theorem dX4_takes_21 : decode cX4_takes 21 = .ok (.lcmp, 1) := dk_148 (dk_at dksX4_takes_0 21 rfl rfl)
theorem dX4_takes_22 : decode cX4_takes 22 = .ok (.ifCond .ge 7, 3) := dk_156 0 7 (dk_at dksX4_takes_1 0 rfl rfl)
theorem dX4_takes_25 : decode cX4_takes 25 = .ok (.iconst 1, 1) := dk_4 (dk_at dksX4_takes_1 3 rfl rfl)
theorem dX4_takes_26 : decode cX4_takes 26 = .ok (.goto 4, 3) := dk_167 0 4 (dk_at dksX4_takes_1 4 rfl rfl)
theorem dX4_takes_29 : decode cX4_takes 29 = .ok (.iconst 0, 1) := dk_3 (dk_at dksX4_takes_1 7 rfl rfl)
theorem dX4_takes_30 : decode cX4_takes 30 = .ok (.aload_n 0, 1) := dk_42 (dk_at dksX4_takes_1 8 rfl rfl)
theorem dX4_takes_31 : decode cX4_takes 31 = .ok (.getfield 60, 3) := dk_180 0 60 (dk_at dksX4_takes_1 9 rfl rfl)
theorem dX4_takes_34 : decode cX4_takes 34 = .ok (.iload_n 1, 1) := dk_27 (dk_at dksX4_takes_1 12 rfl rfl)
theorem dX4_takes_35 : decode cX4_takes 35 = .ok (.iaload, 1) := dk_46 (dk_at dksX4_takes_1 13 rfl rfl)
theorem dX4_takes_36 : decode cX4_takes 36 = .ok (.invokevirtual 223, 3) := dk_182 0 223 (dk_at dksX4_takes_1 14 rfl rfl)
theorem dX4_takes_39 : decode cX4_takes 39 = .ok (.ireturn, 1) := dk_172 (dk_at dksX4_takes_1 17 rfl rfl)
def dkwX4_turn_9 : List UInt8 := [153, 0, 7, 3, 167, 0, 9, 42, 180, 0, 60, 29, 46, 172]
abbrev dktX4_turn_9 : List UInt8 := dkwX4_turn_9 ++ []
def dkwX4_turn_8 : List UInt8 := [42, 42, 29, 7, 21, 8, 21, 7, 182, 0, 223, 153, 0, 7, 3, 167, 0, 4, 7, 182, 0, 205]
abbrev dktX4_turn_8 : List UInt8 := dkwX4_turn_8 ++ dktX4_turn_9
def dkwX4_turn_7 : List UInt8 := [160, 0, 14, 22, 5, 9, 148, 156, 0, 7, 4, 167, 0, 4, 3, 54, 8, 42, 7, 22, 5, 182, 0, 33]
abbrev dktX4_turn_7 : List UInt8 := dkwX4_turn_7 ++ dktX4_turn_8
def dkwX4_turn_6 : List UInt8 := [16, 45, 160, 0, 18, 22, 5, 9, 148, 158, 0, 7, 4, 167, 0, 25, 3, 167, 0, 21, 28, 16, 115]
abbrev dktX4_turn_6 : List UInt8 := dkwX4_turn_6 ++ dktX4_turn_7
def dkwX4_turn_5 : List UInt8 := [20, 0, 14, 109, 55, 5, 132, 7, 255, 167, 255, 227, 22, 5, 9, 148, 154, 0, 6, 3, 54, 7, 28]
abbrev dktX4_turn_5 : List UInt8 := dkwX4_turn_5 ++ dktX4_turn_6
def dkwX4_turn_4 : List UInt8 := [160, 0, 45, 22, 5, 9, 148, 153, 0, 28, 22, 5, 20, 0, 14, 113, 9, 148, 154, 0, 17, 22, 5]
abbrev dktX4_turn_4 : List UInt8 := dkwX4_turn_4 ++ dktX4_turn_5
def dkwX4_turn_3 : List UInt8 := [153, 0, 5, 3, 172, 42, 180, 0, 56, 27, 47, 55, 5, 42, 180, 0, 60, 27, 46, 54, 7, 28, 16, 115]
abbrev dktX4_turn_3 : List UInt8 := dkwX4_turn_3 ++ dktX4_turn_4
def dkwX4_turn_2 : List UInt8 := [154, 0, 7, 5, 167, 0, 17, 42, 180, 0, 63, 27, 51, 154, 0, 7, 6, 167, 0, 4, 3, 182, 0, 205]
abbrev dktX4_turn_2 : List UInt8 := dkwX4_turn_2 ++ dktX4_turn_3
def dkwX4_turn_1 : List UInt8 := [54, 4, 42, 27, 184, 0, 198, 153, 0, 10, 29, 184, 0, 198, 154, 0, 7, 4, 167, 0, 26, 21, 4]
abbrev dktX4_turn_1 : List UInt8 := dkwX4_turn_1 ++ dktX4_turn_2
def dkwX4_turn_0 : List UInt8 := [28, 16, 45, 159, 0, 15, 28, 16, 97, 159, 0, 9, 28, 16, 115, 160, 0, 7, 4, 167, 0, 4, 3]
abbrev dktX4_turn_0 : List UInt8 := dkwX4_turn_0 ++ dktX4_turn_1
theorem dksX4_turn_0 : cX4_turn.data.toList.drop 0 = dktX4_turn_0 := by decide +kernel
theorem dksX4_turn_1 : cX4_turn.data.toList.drop 23 = dktX4_turn_1 := dk_seg dksX4_turn_0 23 rfl rfl
theorem dksX4_turn_2 : cX4_turn.data.toList.drop 46 = dktX4_turn_2 := dk_seg dksX4_turn_1 23 rfl rfl
theorem dksX4_turn_3 : cX4_turn.data.toList.drop 70 = dktX4_turn_3 := dk_seg dksX4_turn_2 24 rfl rfl
theorem dksX4_turn_4 : cX4_turn.data.toList.drop 94 = dktX4_turn_4 := dk_seg dksX4_turn_3 24 rfl rfl
theorem dksX4_turn_5 : cX4_turn.data.toList.drop 117 = dktX4_turn_5 := dk_seg dksX4_turn_4 23 rfl rfl
theorem dksX4_turn_6 : cX4_turn.data.toList.drop 140 = dktX4_turn_6 := dk_seg dksX4_turn_5 23 rfl rfl
theorem dksX4_turn_7 : cX4_turn.data.toList.drop 163 = dktX4_turn_7 := dk_seg dksX4_turn_6 23 rfl rfl
theorem dksX4_turn_8 : cX4_turn.data.toList.drop 187 = dktX4_turn_8 := dk_seg dksX4_turn_7 24 rfl rfl
theorem dksX4_turn_9 : cX4_turn.data.toList.drop 209 = dktX4_turn_9 := dk_seg dksX4_turn_8 22 rfl rfl
theorem dX4_turn_0 : decode cX4_turn 0 = .ok (.iload_n 2, 1) := dk_28 (dk_at dksX4_turn_0 0 rfl rfl)
theorem dX4_turn_1 : decode cX4_turn 1 = .ok (.bipush 45, 2) := dk_16 45 (dk_at dksX4_turn_0 1 rfl rfl)
theorem dX4_turn_3 : decode cX4_turn 3 = .ok (.if_icmp .eq 15, 3) := dk_159 0 15 (dk_at dksX4_turn_0 3 rfl rfl)
theorem dX4_turn_6 : decode cX4_turn 6 = .ok (.iload_n 2, 1) := dk_28 (dk_at dksX4_turn_0 6 rfl rfl)
theorem dX4_turn_7 : decode cX4_turn 7 = .ok (.bipush 97, 2) := dk_16 97 (dk_at dksX4_turn_0 7 rfl rfl)
theorem dX4_turn_9 : decode cX4_turn 9 = .ok (.if_icmp .eq 9, 3) := dk_159 0 9 (dk_at dksX4_turn_0 9 rfl rfl)
theorem dX4_turn_12 : decode cX4_turn 12 = .ok (.iload_n 2, 1) := dk_28 (dk_at dksX4_turn_0 12 rfl rfl)
theorem dX4_turn_13 : decode cX4_turn 13 = .ok (.bipush 115, 2) := dk_16 115 (dk_at dksX4_turn_0 13 rfl rfl)
theorem dX4_turn_15 : decode cX4_turn 15 = .ok (.if_icmp .ne 7, 3) := dk_160 0 7 (dk_at dksX4_turn_0 15 rfl rfl)
theorem dX4_turn_18 : decode cX4_turn 18 = .ok (.iconst 1, 1) := dk_4 (dk_at dksX4_turn_0 18 rfl rfl)
theorem dX4_turn_19 : decode cX4_turn 19 = .ok (.goto 4, 3) := dk_167 0 4 (dk_at dksX4_turn_0 19 rfl rfl)
theorem dX4_turn_22 : decode cX4_turn 22 = .ok (.iconst 0, 1) := dk_3 (dk_at dksX4_turn_0 22 rfl rfl)
theorem dX4_turn_23 : decode cX4_turn 23 = .ok (.istore 4, 2) := dk_54 4 (dk_at dksX4_turn_1 0 rfl rfl)
theorem dX4_turn_25 : decode cX4_turn 25 = .ok (.aload_n 0, 1) := dk_42 (dk_at dksX4_turn_1 2 rfl rfl)
theorem dX4_turn_26 : decode cX4_turn 26 = .ok (.iload_n 1, 1) := dk_27 (dk_at dksX4_turn_1 3 rfl rfl)
theorem dX4_turn_27 : decode cX4_turn 27 = .ok (.invokestatic 198, 3) := dk_184 0 198 (dk_at dksX4_turn_1 4 rfl rfl)
theorem dX4_turn_30 : decode cX4_turn 30 = .ok (.ifCond .eq 10, 3) := dk_153 0 10 (dk_at dksX4_turn_1 7 rfl rfl)
theorem dX4_turn_33 : decode cX4_turn 33 = .ok (.iload_n 3, 1) := dk_29 (dk_at dksX4_turn_1 10 rfl rfl)
theorem dX4_turn_34 : decode cX4_turn 34 = .ok (.invokestatic 198, 3) := dk_184 0 198 (dk_at dksX4_turn_1 11 rfl rfl)
theorem dX4_turn_37 : decode cX4_turn 37 = .ok (.ifCond .ne 7, 3) := dk_154 0 7 (dk_at dksX4_turn_1 14 rfl rfl)
theorem dX4_turn_40 : decode cX4_turn 40 = .ok (.iconst 1, 1) := dk_4 (dk_at dksX4_turn_1 17 rfl rfl)
theorem dX4_turn_41 : decode cX4_turn 41 = .ok (.goto 26, 3) := dk_167 0 26 (dk_at dksX4_turn_1 18 rfl rfl)
theorem dX4_turn_44 : decode cX4_turn 44 = .ok (.iload 4, 2) := dk_21 4 (dk_at dksX4_turn_1 21 rfl rfl)
theorem dX4_turn_46 : decode cX4_turn 46 = .ok (.ifCond .ne 7, 3) := dk_154 0 7 (dk_at dksX4_turn_2 0 rfl rfl)
theorem dX4_turn_49 : decode cX4_turn 49 = .ok (.iconst 2, 1) := dk_5 (dk_at dksX4_turn_2 3 rfl rfl)
theorem dX4_turn_50 : decode cX4_turn 50 = .ok (.goto 17, 3) := dk_167 0 17 (dk_at dksX4_turn_2 4 rfl rfl)
theorem dX4_turn_53 : decode cX4_turn 53 = .ok (.aload_n 0, 1) := dk_42 (dk_at dksX4_turn_2 7 rfl rfl)
theorem dX4_turn_54 : decode cX4_turn 54 = .ok (.getfield 63, 3) := dk_180 0 63 (dk_at dksX4_turn_2 8 rfl rfl)
theorem dX4_turn_57 : decode cX4_turn 57 = .ok (.iload_n 1, 1) := dk_27 (dk_at dksX4_turn_2 11 rfl rfl)
theorem dX4_turn_58 : decode cX4_turn 58 = .ok (.baload, 1) := dk_51 (dk_at dksX4_turn_2 12 rfl rfl)
theorem dX4_turn_59 : decode cX4_turn 59 = .ok (.ifCond .ne 7, 3) := dk_154 0 7 (dk_at dksX4_turn_2 13 rfl rfl)
theorem dX4_turn_62 : decode cX4_turn 62 = .ok (.iconst 3, 1) := dk_6 (dk_at dksX4_turn_2 16 rfl rfl)
theorem dX4_turn_63 : decode cX4_turn 63 = .ok (.goto 4, 3) := dk_167 0 4 (dk_at dksX4_turn_2 17 rfl rfl)
theorem dX4_turn_66 : decode cX4_turn 66 = .ok (.iconst 0, 1) := dk_3 (dk_at dksX4_turn_2 20 rfl rfl)
theorem dX4_turn_67 : decode cX4_turn 67 = .ok (.invokevirtual 205, 3) := dk_182 0 205 (dk_at dksX4_turn_2 21 rfl rfl)
theorem dX4_turn_70 : decode cX4_turn 70 = .ok (.ifCond .eq 5, 3) := dk_153 0 5 (dk_at dksX4_turn_3 0 rfl rfl)
theorem dX4_turn_73 : decode cX4_turn 73 = .ok (.iconst 0, 1) := dk_3 (dk_at dksX4_turn_3 3 rfl rfl)
theorem dX4_turn_74 : decode cX4_turn 74 = .ok (.ireturn, 1) := dk_172 (dk_at dksX4_turn_3 4 rfl rfl)
theorem dX4_turn_75 : decode cX4_turn 75 = .ok (.aload_n 0, 1) := dk_42 (dk_at dksX4_turn_3 5 rfl rfl)
theorem dX4_turn_76 : decode cX4_turn 76 = .ok (.getfield 56, 3) := dk_180 0 56 (dk_at dksX4_turn_3 6 rfl rfl)
theorem dX4_turn_79 : decode cX4_turn 79 = .ok (.iload_n 1, 1) := dk_27 (dk_at dksX4_turn_3 9 rfl rfl)
theorem dX4_turn_80 : decode cX4_turn 80 = .ok (.laload, 1) := dk_47 (dk_at dksX4_turn_3 10 rfl rfl)
theorem dX4_turn_81 : decode cX4_turn 81 = .ok (.lstore 5, 2) := dk_55 5 (dk_at dksX4_turn_3 11 rfl rfl)
theorem dX4_turn_83 : decode cX4_turn 83 = .ok (.aload_n 0, 1) := dk_42 (dk_at dksX4_turn_3 13 rfl rfl)
theorem dX4_turn_84 : decode cX4_turn 84 = .ok (.getfield 60, 3) := dk_180 0 60 (dk_at dksX4_turn_3 14 rfl rfl)
theorem dX4_turn_87 : decode cX4_turn 87 = .ok (.iload_n 1, 1) := dk_27 (dk_at dksX4_turn_3 17 rfl rfl)
theorem dX4_turn_88 : decode cX4_turn 88 = .ok (.iaload, 1) := dk_46 (dk_at dksX4_turn_3 18 rfl rfl)
theorem dX4_turn_89 : decode cX4_turn 89 = .ok (.istore 7, 2) := dk_54 7 (dk_at dksX4_turn_3 19 rfl rfl)
theorem dX4_turn_91 : decode cX4_turn 91 = .ok (.iload_n 2, 1) := dk_28 (dk_at dksX4_turn_3 21 rfl rfl)
theorem dX4_turn_92 : decode cX4_turn 92 = .ok (.bipush 115, 2) := dk_16 115 (dk_at dksX4_turn_3 22 rfl rfl)
theorem dX4_turn_94 : decode cX4_turn 94 = .ok (.if_icmp .ne 45, 3) := dk_160 0 45 (dk_at dksX4_turn_4 0 rfl rfl)
theorem dX4_turn_97 : decode cX4_turn 97 = .ok (.lload 5, 2) := dk_22 5 (dk_at dksX4_turn_4 3 rfl rfl)
theorem dX4_turn_99 : decode cX4_turn 99 = .ok (.lconst 0, 1) := dk_9 (dk_at dksX4_turn_4 5 rfl rfl)
theorem dX4_turn_100 : decode cX4_turn 100 = .ok (.lcmp, 1) := dk_148 (dk_at dksX4_turn_4 6 rfl rfl)
theorem dX4_turn_101 : decode cX4_turn 101 = .ok (.ifCond .eq 28, 3) := dk_153 0 28 (dk_at dksX4_turn_4 7 rfl rfl)
theorem dX4_turn_104 : decode cX4_turn 104 = .ok (.lload 5, 2) := dk_22 5 (dk_at dksX4_turn_4 10 rfl rfl)
theorem dX4_turn_106 : decode cX4_turn 106 = .ok (.ldc2_w 14, 3) := dk_20 0 14 (dk_at dksX4_turn_4 12 rfl rfl)
theorem dX4_turn_109 : decode cX4_turn 109 = .ok (.lrem, 1) := dk_113 (dk_at dksX4_turn_4 15 rfl rfl)
theorem dX4_turn_110 : decode cX4_turn 110 = .ok (.lconst 0, 1) := dk_9 (dk_at dksX4_turn_4 16 rfl rfl)
theorem dX4_turn_111 : decode cX4_turn 111 = .ok (.lcmp, 1) := dk_148 (dk_at dksX4_turn_4 17 rfl rfl)
theorem dX4_turn_112 : decode cX4_turn 112 = .ok (.ifCond .ne 17, 3) := dk_154 0 17 (dk_at dksX4_turn_4 18 rfl rfl)
theorem dX4_turn_115 : decode cX4_turn 115 = .ok (.lload 5, 2) := dk_22 5 (dk_at dksX4_turn_4 21 rfl rfl)
theorem dX4_turn_117 : decode cX4_turn 117 = .ok (.ldc2_w 14, 3) := dk_20 0 14 (dk_at dksX4_turn_5 0 rfl rfl)
theorem dX4_turn_120 : decode cX4_turn 120 = .ok (.ldiv, 1) := dk_109 (dk_at dksX4_turn_5 3 rfl rfl)
theorem dX4_turn_121 : decode cX4_turn 121 = .ok (.lstore 5, 2) := dk_55 5 (dk_at dksX4_turn_5 4 rfl rfl)
theorem dX4_turn_123 : decode cX4_turn 123 = .ok (.iinc 7 (-1), 3) := dk_132 7 255 (dk_at dksX4_turn_5 6 rfl rfl)
theorem dX4_turn_126 : decode cX4_turn 126 = .ok (.goto (-29), 3) := dk_167 255 227 (dk_at dksX4_turn_5 9 rfl rfl)
theorem dX4_turn_129 : decode cX4_turn 129 = .ok (.lload 5, 2) := dk_22 5 (dk_at dksX4_turn_5 12 rfl rfl)
theorem dX4_turn_131 : decode cX4_turn 131 = .ok (.lconst 0, 1) := dk_9 (dk_at dksX4_turn_5 14 rfl rfl)
theorem dX4_turn_132 : decode cX4_turn 132 = .ok (.lcmp, 1) := dk_148 (dk_at dksX4_turn_5 15 rfl rfl)
theorem dX4_turn_133 : decode cX4_turn 133 = .ok (.ifCond .ne 6, 3) := dk_154 0 6 (dk_at dksX4_turn_5 16 rfl rfl)
theorem dX4_turn_136 : decode cX4_turn 136 = .ok (.iconst 0, 1) := dk_3 (dk_at dksX4_turn_5 19 rfl rfl)
theorem dX4_turn_137 : decode cX4_turn 137 = .ok (.istore 7, 2) := dk_54 7 (dk_at dksX4_turn_5 20 rfl rfl)
theorem dX4_turn_139 : decode cX4_turn 139 = .ok (.iload_n 2, 1) := dk_28 (dk_at dksX4_turn_5 22 rfl rfl)
theorem dX4_turn_140 : decode cX4_turn 140 = .ok (.bipush 45, 2) := dk_16 45 (dk_at dksX4_turn_6 0 rfl rfl)
theorem dX4_turn_142 : decode cX4_turn 142 = .ok (.if_icmp .ne 18, 3) := dk_160 0 18 (dk_at dksX4_turn_6 2 rfl rfl)
theorem dX4_turn_145 : decode cX4_turn 145 = .ok (.lload 5, 2) := dk_22 5 (dk_at dksX4_turn_6 5 rfl rfl)
theorem dX4_turn_147 : decode cX4_turn 147 = .ok (.lconst 0, 1) := dk_9 (dk_at dksX4_turn_6 7 rfl rfl)
theorem dX4_turn_148 : decode cX4_turn 148 = .ok (.lcmp, 1) := dk_148 (dk_at dksX4_turn_6 8 rfl rfl)
theorem dX4_turn_149 : decode cX4_turn 149 = .ok (.ifCond .le 7, 3) := dk_158 0 7 (dk_at dksX4_turn_6 9 rfl rfl)
theorem dX4_turn_152 : decode cX4_turn 152 = .ok (.iconst 1, 1) := dk_4 (dk_at dksX4_turn_6 12 rfl rfl)
theorem dX4_turn_153 : decode cX4_turn 153 = .ok (.goto 25, 3) := dk_167 0 25 (dk_at dksX4_turn_6 13 rfl rfl)
theorem dX4_turn_156 : decode cX4_turn 156 = .ok (.iconst 0, 1) := dk_3 (dk_at dksX4_turn_6 16 rfl rfl)
theorem dX4_turn_157 : decode cX4_turn 157 = .ok (.goto 21, 3) := dk_167 0 21 (dk_at dksX4_turn_6 17 rfl rfl)
theorem dX4_turn_160 : decode cX4_turn 160 = .ok (.iload_n 2, 1) := dk_28 (dk_at dksX4_turn_6 20 rfl rfl)
theorem dX4_turn_161 : decode cX4_turn 161 = .ok (.bipush 115, 2) := dk_16 115 (dk_at dksX4_turn_6 21 rfl rfl)
theorem dX4_turn_163 : decode cX4_turn 163 = .ok (.if_icmp .ne 14, 3) := dk_160 0 14 (dk_at dksX4_turn_7 0 rfl rfl)
theorem dX4_turn_166 : decode cX4_turn 166 = .ok (.lload 5, 2) := dk_22 5 (dk_at dksX4_turn_7 3 rfl rfl)
theorem dX4_turn_168 : decode cX4_turn 168 = .ok (.lconst 0, 1) := dk_9 (dk_at dksX4_turn_7 5 rfl rfl)
theorem dX4_turn_169 : decode cX4_turn 169 = .ok (.lcmp, 1) := dk_148 (dk_at dksX4_turn_7 6 rfl rfl)
theorem dX4_turn_170 : decode cX4_turn 170 = .ok (.ifCond .ge 7, 3) := dk_156 0 7 (dk_at dksX4_turn_7 7 rfl rfl)
theorem dX4_turn_173 : decode cX4_turn 173 = .ok (.iconst 1, 1) := dk_4 (dk_at dksX4_turn_7 10 rfl rfl)
theorem dX4_turn_174 : decode cX4_turn 174 = .ok (.goto 4, 3) := dk_167 0 4 (dk_at dksX4_turn_7 11 rfl rfl)
theorem dX4_turn_177 : decode cX4_turn 177 = .ok (.iconst 0, 1) := dk_3 (dk_at dksX4_turn_7 14 rfl rfl)
theorem dX4_turn_178 : decode cX4_turn 178 = .ok (.istore 8, 2) := dk_54 8 (dk_at dksX4_turn_7 15 rfl rfl)
theorem dX4_turn_180 : decode cX4_turn 180 = .ok (.aload_n 0, 1) := dk_42 (dk_at dksX4_turn_7 17 rfl rfl)
theorem dX4_turn_181 : decode cX4_turn 181 = .ok (.iconst 4, 1) := dk_7 (dk_at dksX4_turn_7 18 rfl rfl)
theorem dX4_turn_182 : decode cX4_turn 182 = .ok (.lload 5, 2) := dk_22 5 (dk_at dksX4_turn_7 19 rfl rfl)
theorem dX4_turn_184 : decode cX4_turn 184 = .ok (.invokevirtual 33, 3) := dk_182 0 33 (dk_at dksX4_turn_7 21 rfl rfl)
theorem dX4_turn_187 : decode cX4_turn 187 = .ok (.aload_n 0, 1) := dk_42 (dk_at dksX4_turn_8 0 rfl rfl)
theorem dX4_turn_188 : decode cX4_turn 188 = .ok (.aload_n 0, 1) := dk_42 (dk_at dksX4_turn_8 1 rfl rfl)
theorem dX4_turn_189 : decode cX4_turn 189 = .ok (.iload_n 3, 1) := dk_29 (dk_at dksX4_turn_8 2 rfl rfl)
theorem dX4_turn_190 : decode cX4_turn 190 = .ok (.iconst 4, 1) := dk_7 (dk_at dksX4_turn_8 3 rfl rfl)
theorem dX4_turn_191 : decode cX4_turn 191 = .ok (.iload 8, 2) := dk_21 8 (dk_at dksX4_turn_8 4 rfl rfl)
theorem dX4_turn_193 : decode cX4_turn 193 = .ok (.iload 7, 2) := dk_21 7 (dk_at dksX4_turn_8 6 rfl rfl)
theorem dX4_turn_195 : decode cX4_turn 195 = .ok (.invokevirtual 223, 3) := dk_182 0 223 (dk_at dksX4_turn_8 8 rfl rfl)
theorem dX4_turn_198 : decode cX4_turn 198 = .ok (.ifCond .eq 7, 3) := dk_153 0 7 (dk_at dksX4_turn_8 11 rfl rfl)
theorem dX4_turn_201 : decode cX4_turn 201 = .ok (.iconst 0, 1) := dk_3 (dk_at dksX4_turn_8 14 rfl rfl)
theorem dX4_turn_202 : decode cX4_turn 202 = .ok (.goto 4, 3) := dk_167 0 4 (dk_at dksX4_turn_8 15 rfl rfl)
theorem dX4_turn_205 : decode cX4_turn 205 = .ok (.iconst 4, 1) := dk_7 (dk_at dksX4_turn_8 18 rfl rfl)
theorem dX4_turn_206 : decode cX4_turn 206 = .ok (.invokevirtual 205, 3) := dk_182 0 205 (dk_at dksX4_turn_8 19 rfl rfl)
theorem dX4_turn_209 : decode cX4_turn 209 = .ok (.ifCond .eq 7, 3) := dk_153 0 7 (dk_at dksX4_turn_9 0 rfl rfl)
theorem dX4_turn_212 : decode cX4_turn 212 = .ok (.iconst 0, 1) := dk_3 (dk_at dksX4_turn_9 3 rfl rfl)
theorem dX4_turn_213 : decode cX4_turn 213 = .ok (.goto 9, 3) := dk_167 0 9 (dk_at dksX4_turn_9 4 rfl rfl)
theorem dX4_turn_216 : decode cX4_turn 216 = .ok (.aload_n 0, 1) := dk_42 (dk_at dksX4_turn_9 7 rfl rfl)
theorem dX4_turn_217 : decode cX4_turn 217 = .ok (.getfield 60, 3) := dk_180 0 60 (dk_at dksX4_turn_9 8 rfl rfl)
theorem dX4_turn_220 : decode cX4_turn 220 = .ok (.iload_n 3, 1) := dk_29 (dk_at dksX4_turn_9 11 rfl rfl)
theorem dX4_turn_221 : decode cX4_turn 221 = .ok (.iaload, 1) := dk_46 (dk_at dksX4_turn_9 12 rfl rfl)
theorem dX4_turn_222 : decode cX4_turn 222 = .ok (.ireturn, 1) := dk_172 (dk_at dksX4_turn_9 13 rfl rfl)
def dkwX4_move_6 : List UInt8 := [180, 0, 60, 29, 46, 172]
abbrev dktX4_move_6 : List UInt8 := dkwX4_move_6 ++ []
def dkwX4_move_5 : List UInt8 := [182, 0, 223, 153, 0, 7, 3, 167, 0, 4, 7, 182, 0, 205, 153, 0, 7, 3, 167, 0, 9, 42]
abbrev dktX4_move_5 : List UInt8 := dkwX4_move_5 ++ dktX4_move_6
def dkwX4_move_4 : List UInt8 := [7, 42, 180, 0, 56, 27, 47, 9, 148, 156, 0, 7, 4, 167, 0, 4, 3, 3, 21, 4, 184, 0, 231]
abbrev dktX4_move_4 : List UInt8 := dkwX4_move_4 ++ dktX4_move_5
def dkwX4_move_3 : List UInt8 := [54, 4, 42, 7, 42, 180, 0, 56, 27, 47, 182, 0, 33, 42, 7, 21, 4, 116, 182, 0, 24, 42, 42, 29]
abbrev dktX4_move_3 : List UInt8 := dkwX4_move_3 ++ dktX4_move_4
def dkwX4_move_2 : List UInt8 := [154, 0, 7, 6, 167, 0, 4, 3, 182, 0, 205, 153, 0, 5, 3, 172, 42, 180, 0, 60, 27, 46, 28, 96]
abbrev dktX4_move_2 : List UInt8 := dkwX4_move_2 ++ dktX4_move_3
def dkwX4_move_1 : List UInt8 := [133, 20, 1, 6, 20, 1, 8, 184, 0, 182, 154, 0, 7, 5, 167, 0, 17, 42, 180, 0, 63, 27, 51]
abbrev dktX4_move_1 : List UInt8 := dkwX4_move_1 ++ dktX4_move_2
def dkwX4_move_0 : List UInt8 := [42, 27, 184, 0, 198, 153, 0, 10, 29, 184, 0, 198, 154, 0, 7, 4, 167, 0, 39, 28, 153, 0, 17, 28]
abbrev dktX4_move_0 : List UInt8 := dkwX4_move_0 ++ dktX4_move_1
theorem dksX4_move_0 : cX4_move.data.toList.drop 0 = dktX4_move_0 := by decide +kernel
theorem dksX4_move_1 : cX4_move.data.toList.drop 24 = dktX4_move_1 := dk_seg dksX4_move_0 24 rfl rfl
theorem dksX4_move_2 : cX4_move.data.toList.drop 47 = dktX4_move_2 := dk_seg dksX4_move_1 23 rfl rfl
theorem dksX4_move_3 : cX4_move.data.toList.drop 71 = dktX4_move_3 := dk_seg dksX4_move_2 24 rfl rfl
theorem dksX4_move_4 : cX4_move.data.toList.drop 95 = dktX4_move_4 := dk_seg dksX4_move_3 24 rfl rfl
theorem dksX4_move_5 : cX4_move.data.toList.drop 118 = dktX4_move_5 := dk_seg dksX4_move_4 23 rfl rfl
theorem dksX4_move_6 : cX4_move.data.toList.drop 140 = dktX4_move_6 := dk_seg dksX4_move_5 22 rfl rfl
theorem dX4_move_0 : decode cX4_move 0 = .ok (.aload_n 0, 1) := dk_42 (dk_at dksX4_move_0 0 rfl rfl)
theorem dX4_move_1 : decode cX4_move 1 = .ok (.iload_n 1, 1) := dk_27 (dk_at dksX4_move_0 1 rfl rfl)
theorem dX4_move_2 : decode cX4_move 2 = .ok (.invokestatic 198, 3) := dk_184 0 198 (dk_at dksX4_move_0 2 rfl rfl)
theorem dX4_move_5 : decode cX4_move 5 = .ok (.ifCond .eq 10, 3) := dk_153 0 10 (dk_at dksX4_move_0 5 rfl rfl)
theorem dX4_move_8 : decode cX4_move 8 = .ok (.iload_n 3, 1) := dk_29 (dk_at dksX4_move_0 8 rfl rfl)
theorem dX4_move_9 : decode cX4_move 9 = .ok (.invokestatic 198, 3) := dk_184 0 198 (dk_at dksX4_move_0 9 rfl rfl)
theorem dX4_move_12 : decode cX4_move 12 = .ok (.ifCond .ne 7, 3) := dk_154 0 7 (dk_at dksX4_move_0 12 rfl rfl)
theorem dX4_move_15 : decode cX4_move 15 = .ok (.iconst 1, 1) := dk_4 (dk_at dksX4_move_0 15 rfl rfl)
theorem dX4_move_16 : decode cX4_move 16 = .ok (.goto 39, 3) := dk_167 0 39 (dk_at dksX4_move_0 16 rfl rfl)
theorem dX4_move_19 : decode cX4_move 19 = .ok (.iload_n 2, 1) := dk_28 (dk_at dksX4_move_0 19 rfl rfl)
theorem dX4_move_20 : decode cX4_move 20 = .ok (.ifCond .eq 17, 3) := dk_153 0 17 (dk_at dksX4_move_0 20 rfl rfl)
theorem dX4_move_23 : decode cX4_move 23 = .ok (.iload_n 2, 1) := dk_28 (dk_at dksX4_move_0 23 rfl rfl)
theorem dX4_move_24 : decode cX4_move 24 = .ok (.i2l, 1) := dk_133 (dk_at dksX4_move_1 0 rfl rfl)
theorem dX4_move_25 : decode cX4_move 25 = .ok (.ldc2_w 262, 3) := dk_20 1 6 (dk_at dksX4_move_1 1 rfl rfl)
theorem dX4_move_28 : decode cX4_move 28 = .ok (.ldc2_w 264, 3) := dk_20 1 8 (dk_at dksX4_move_1 4 rfl rfl)
theorem dX4_move_31 : decode cX4_move 31 = .ok (.invokestatic 182, 3) := dk_184 0 182 (dk_at dksX4_move_1 7 rfl rfl)
theorem dX4_move_34 : decode cX4_move 34 = .ok (.ifCond .ne 7, 3) := dk_154 0 7 (dk_at dksX4_move_1 10 rfl rfl)
theorem dX4_move_37 : decode cX4_move 37 = .ok (.iconst 2, 1) := dk_5 (dk_at dksX4_move_1 13 rfl rfl)
theorem dX4_move_38 : decode cX4_move 38 = .ok (.goto 17, 3) := dk_167 0 17 (dk_at dksX4_move_1 14 rfl rfl)
theorem dX4_move_41 : decode cX4_move 41 = .ok (.aload_n 0, 1) := dk_42 (dk_at dksX4_move_1 17 rfl rfl)
theorem dX4_move_42 : decode cX4_move 42 = .ok (.getfield 63, 3) := dk_180 0 63 (dk_at dksX4_move_1 18 rfl rfl)
theorem dX4_move_45 : decode cX4_move 45 = .ok (.iload_n 1, 1) := dk_27 (dk_at dksX4_move_1 21 rfl rfl)
theorem dX4_move_46 : decode cX4_move 46 = .ok (.baload, 1) := dk_51 (dk_at dksX4_move_1 22 rfl rfl)
theorem dX4_move_47 : decode cX4_move 47 = .ok (.ifCond .ne 7, 3) := dk_154 0 7 (dk_at dksX4_move_2 0 rfl rfl)
theorem dX4_move_50 : decode cX4_move 50 = .ok (.iconst 3, 1) := dk_6 (dk_at dksX4_move_2 3 rfl rfl)
theorem dX4_move_51 : decode cX4_move 51 = .ok (.goto 4, 3) := dk_167 0 4 (dk_at dksX4_move_2 4 rfl rfl)
theorem dX4_move_54 : decode cX4_move 54 = .ok (.iconst 0, 1) := dk_3 (dk_at dksX4_move_2 7 rfl rfl)
theorem dX4_move_55 : decode cX4_move 55 = .ok (.invokevirtual 205, 3) := dk_182 0 205 (dk_at dksX4_move_2 8 rfl rfl)
theorem dX4_move_58 : decode cX4_move 58 = .ok (.ifCond .eq 5, 3) := dk_153 0 5 (dk_at dksX4_move_2 11 rfl rfl)
theorem dX4_move_61 : decode cX4_move 61 = .ok (.iconst 0, 1) := dk_3 (dk_at dksX4_move_2 14 rfl rfl)
theorem dX4_move_62 : decode cX4_move 62 = .ok (.ireturn, 1) := dk_172 (dk_at dksX4_move_2 15 rfl rfl)
theorem dX4_move_63 : decode cX4_move 63 = .ok (.aload_n 0, 1) := dk_42 (dk_at dksX4_move_2 16 rfl rfl)
theorem dX4_move_64 : decode cX4_move 64 = .ok (.getfield 60, 3) := dk_180 0 60 (dk_at dksX4_move_2 17 rfl rfl)
theorem dX4_move_67 : decode cX4_move 67 = .ok (.iload_n 1, 1) := dk_27 (dk_at dksX4_move_2 20 rfl rfl)
theorem dX4_move_68 : decode cX4_move 68 = .ok (.iaload, 1) := dk_46 (dk_at dksX4_move_2 21 rfl rfl)
theorem dX4_move_69 : decode cX4_move 69 = .ok (.iload_n 2, 1) := dk_28 (dk_at dksX4_move_2 22 rfl rfl)
theorem dX4_move_70 : decode cX4_move 70 = .ok (.iadd, 1) := dk_96 (dk_at dksX4_move_2 23 rfl rfl)
theorem dX4_move_71 : decode cX4_move 71 = .ok (.istore 4, 2) := dk_54 4 (dk_at dksX4_move_3 0 rfl rfl)
theorem dX4_move_73 : decode cX4_move 73 = .ok (.aload_n 0, 1) := dk_42 (dk_at dksX4_move_3 2 rfl rfl)
theorem dX4_move_74 : decode cX4_move 74 = .ok (.iconst 4, 1) := dk_7 (dk_at dksX4_move_3 3 rfl rfl)
theorem dX4_move_75 : decode cX4_move 75 = .ok (.aload_n 0, 1) := dk_42 (dk_at dksX4_move_3 4 rfl rfl)
theorem dX4_move_76 : decode cX4_move 76 = .ok (.getfield 56, 3) := dk_180 0 56 (dk_at dksX4_move_3 5 rfl rfl)
theorem dX4_move_79 : decode cX4_move 79 = .ok (.iload_n 1, 1) := dk_27 (dk_at dksX4_move_3 8 rfl rfl)
theorem dX4_move_80 : decode cX4_move 80 = .ok (.laload, 1) := dk_47 (dk_at dksX4_move_3 9 rfl rfl)
theorem dX4_move_81 : decode cX4_move 81 = .ok (.invokevirtual 33, 3) := dk_182 0 33 (dk_at dksX4_move_3 10 rfl rfl)
theorem dX4_move_84 : decode cX4_move 84 = .ok (.aload_n 0, 1) := dk_42 (dk_at dksX4_move_3 13 rfl rfl)
theorem dX4_move_85 : decode cX4_move 85 = .ok (.iconst 4, 1) := dk_7 (dk_at dksX4_move_3 14 rfl rfl)
theorem dX4_move_86 : decode cX4_move 86 = .ok (.iload 4, 2) := dk_21 4 (dk_at dksX4_move_3 15 rfl rfl)
theorem dX4_move_88 : decode cX4_move 88 = .ok (.ineg, 1) := dk_116 (dk_at dksX4_move_3 17 rfl rfl)
theorem dX4_move_89 : decode cX4_move 89 = .ok (.invokevirtual 24, 3) := dk_182 0 24 (dk_at dksX4_move_3 18 rfl rfl)
theorem dX4_move_92 : decode cX4_move 92 = .ok (.aload_n 0, 1) := dk_42 (dk_at dksX4_move_3 21 rfl rfl)
theorem dX4_move_93 : decode cX4_move 93 = .ok (.aload_n 0, 1) := dk_42 (dk_at dksX4_move_3 22 rfl rfl)
theorem dX4_move_94 : decode cX4_move 94 = .ok (.iload_n 3, 1) := dk_29 (dk_at dksX4_move_3 23 rfl rfl)
theorem dX4_move_95 : decode cX4_move 95 = .ok (.iconst 4, 1) := dk_7 (dk_at dksX4_move_4 0 rfl rfl)
theorem dX4_move_96 : decode cX4_move 96 = .ok (.aload_n 0, 1) := dk_42 (dk_at dksX4_move_4 1 rfl rfl)
theorem dX4_move_97 : decode cX4_move 97 = .ok (.getfield 56, 3) := dk_180 0 56 (dk_at dksX4_move_4 2 rfl rfl)
theorem dX4_move_100 : decode cX4_move 100 = .ok (.iload_n 1, 1) := dk_27 (dk_at dksX4_move_4 5 rfl rfl)
theorem dX4_move_101 : decode cX4_move 101 = .ok (.laload, 1) := dk_47 (dk_at dksX4_move_4 6 rfl rfl)
theorem dX4_move_102 : decode cX4_move 102 = .ok (.lconst 0, 1) := dk_9 (dk_at dksX4_move_4 7 rfl rfl)
theorem dX4_move_103 : decode cX4_move 103 = .ok (.lcmp, 1) := dk_148 (dk_at dksX4_move_4 8 rfl rfl)
theorem dX4_move_104 : decode cX4_move 104 = .ok (.ifCond .ge 7, 3) := dk_156 0 7 (dk_at dksX4_move_4 9 rfl rfl)
theorem dX4_move_107 : decode cX4_move 107 = .ok (.iconst 1, 1) := dk_4 (dk_at dksX4_move_4 12 rfl rfl)
theorem dX4_move_108 : decode cX4_move 108 = .ok (.goto 4, 3) := dk_167 0 4 (dk_at dksX4_move_4 13 rfl rfl)
theorem dX4_move_111 : decode cX4_move 111 = .ok (.iconst 0, 1) := dk_3 (dk_at dksX4_move_4 16 rfl rfl)
theorem dX4_move_112 : decode cX4_move 112 = .ok (.iconst 0, 1) := dk_3 (dk_at dksX4_move_4 17 rfl rfl)
theorem dX4_move_113 : decode cX4_move 113 = .ok (.iload 4, 2) := dk_21 4 (dk_at dksX4_move_4 18 rfl rfl)
theorem dX4_move_115 : decode cX4_move 115 = .ok (.invokestatic 231, 3) := dk_184 0 231 (dk_at dksX4_move_4 20 rfl rfl)
theorem dX4_move_118 : decode cX4_move 118 = .ok (.invokevirtual 223, 3) := dk_182 0 223 (dk_at dksX4_move_5 0 rfl rfl)
theorem dX4_move_121 : decode cX4_move 121 = .ok (.ifCond .eq 7, 3) := dk_153 0 7 (dk_at dksX4_move_5 3 rfl rfl)
theorem dX4_move_124 : decode cX4_move 124 = .ok (.iconst 0, 1) := dk_3 (dk_at dksX4_move_5 6 rfl rfl)
theorem dX4_move_125 : decode cX4_move 125 = .ok (.goto 4, 3) := dk_167 0 4 (dk_at dksX4_move_5 7 rfl rfl)
theorem dX4_move_128 : decode cX4_move 128 = .ok (.iconst 4, 1) := dk_7 (dk_at dksX4_move_5 10 rfl rfl)
theorem dX4_move_129 : decode cX4_move 129 = .ok (.invokevirtual 205, 3) := dk_182 0 205 (dk_at dksX4_move_5 11 rfl rfl)
theorem dX4_move_132 : decode cX4_move 132 = .ok (.ifCond .eq 7, 3) := dk_153 0 7 (dk_at dksX4_move_5 14 rfl rfl)
theorem dX4_move_135 : decode cX4_move 135 = .ok (.iconst 0, 1) := dk_3 (dk_at dksX4_move_5 17 rfl rfl)
theorem dX4_move_136 : decode cX4_move 136 = .ok (.goto 9, 3) := dk_167 0 9 (dk_at dksX4_move_5 18 rfl rfl)
theorem dX4_move_139 : decode cX4_move 139 = .ok (.aload_n 0, 1) := dk_42 (dk_at dksX4_move_5 21 rfl rfl)
theorem dX4_move_140 : decode cX4_move 140 = .ok (.getfield 60, 3) := dk_180 0 60 (dk_at dksX4_move_6 0 rfl rfl)
theorem dX4_move_143 : decode cX4_move 143 = .ok (.iload_n 3, 1) := dk_29 (dk_at dksX4_move_6 3 rfl rfl)
theorem dX4_move_144 : decode cX4_move 144 = .ok (.iaload, 1) := dk_46 (dk_at dksX4_move_6 4 rfl rfl)
theorem dX4_move_145 : decode cX4_move 145 = .ok (.ireturn, 1) := dk_172 (dk_at dksX4_move_6 5 rfl rfl)
def dkwX4_setScale_5 : List UInt8 := [180, 0, 56, 21, 4, 47, 184, 0, 208, 172]
abbrev dktX4_setScale_5 : List UInt8 := dkwX4_setScale_5 ++ []
def dkwX4_setScale_4 : List UInt8 := [182, 0, 223, 153, 0, 7, 3, 167, 0, 4, 7, 182, 0, 205, 153, 0, 7, 3, 167, 0, 13, 42]
abbrev dktX4_setScale_4 : List UInt8 := dkwX4_setScale_4 ++ dktX4_setScale_5
def dkwX4_setScale_3 : List UInt8 := [154, 0, 34, 42, 21, 4, 5, 42, 180, 0, 56, 27, 47, 9, 148, 156, 0, 7, 4, 167, 0, 4, 3, 28]
abbrev dktX4_setScale_3 : List UInt8 := dkwX4_setScale_3 ++ dktX4_setScale_4
def dkwX4_setScale_2 : List UInt8 := [167, 0, 4, 3, 182, 0, 205, 153, 0, 5, 3, 172, 42, 27, 28, 29, 182, 1, 18, 42, 42, 180, 0, 47]
abbrev dktX4_setScale_2 : List UInt8 := dkwX4_setScale_2 ++ dktX4_setScale_3
def dkwX4_setScale_1 : List UInt8 := [153, 0, 10, 29, 184, 1, 14, 154, 0, 7, 5, 167, 0, 17, 42, 180, 0, 63, 27, 51, 154, 0, 7, 6]
abbrev dktX4_setScale_1 : List UInt8 := dkwX4_setScale_1 ++ dktX4_setScale_2
def dkwX4_setScale_0 : List UInt8 := [42, 27, 184, 0, 198, 153, 0, 11, 21, 4, 184, 0, 198, 154, 0, 7, 4, 167, 0, 35, 28, 184, 0, 190]
abbrev dktX4_setScale_0 : List UInt8 := dkwX4_setScale_0 ++ dktX4_setScale_1
theorem dksX4_setScale_0 : cX4_setScale.data.toList.drop 0 = dktX4_setScale_0 := by decide +kernel
theorem dksX4_setScale_1 : cX4_setScale.data.toList.drop 24 = dktX4_setScale_1 := dk_seg dksX4_setScale_0 24 rfl rfl
theorem dksX4_setScale_2 : cX4_setScale.data.toList.drop 48 = dktX4_setScale_2 := dk_seg dksX4_setScale_1 24 rfl rfl
theorem dksX4_setScale_3 : cX4_setScale.data.toList.drop 72 = dktX4_setScale_3 := dk_seg dksX4_setScale_2 24 rfl rfl
theorem dksX4_setScale_4 : cX4_setScale.data.toList.drop 96 = dktX4_setScale_4 := dk_seg dksX4_setScale_3 24 rfl rfl
theorem dksX4_setScale_5 : cX4_setScale.data.toList.drop 118 = dktX4_setScale_5 := dk_seg dksX4_setScale_4 22 rfl rfl
theorem dX4_setScale_0 : decode cX4_setScale 0 = .ok (.aload_n 0, 1) := dk_42 (dk_at dksX4_setScale_0 0 rfl rfl)
theorem dX4_setScale_1 : decode cX4_setScale 1 = .ok (.iload_n 1, 1) := dk_27 (dk_at dksX4_setScale_0 1 rfl rfl)
theorem dX4_setScale_2 : decode cX4_setScale 2 = .ok (.invokestatic 198, 3) := dk_184 0 198 (dk_at dksX4_setScale_0 2 rfl rfl)
theorem dX4_setScale_5 : decode cX4_setScale 5 = .ok (.ifCond .eq 11, 3) := dk_153 0 11 (dk_at dksX4_setScale_0 5 rfl rfl)
theorem dX4_setScale_8 : decode cX4_setScale 8 = .ok (.iload 4, 2) := dk_21 4 (dk_at dksX4_setScale_0 8 rfl rfl)
theorem dX4_setScale_10 : decode cX4_setScale 10 = .ok (.invokestatic 198, 3) := dk_184 0 198 (dk_at dksX4_setScale_0 10 rfl rfl)
theorem dX4_setScale_13 : decode cX4_setScale 13 = .ok (.ifCond .ne 7, 3) := dk_154 0 7 (dk_at dksX4_setScale_0 13 rfl rfl)
theorem dX4_setScale_16 : decode cX4_setScale 16 = .ok (.iconst 1, 1) := dk_4 (dk_at dksX4_setScale_0 16 rfl rfl)
theorem dX4_setScale_17 : decode cX4_setScale 17 = .ok (.goto 35, 3) := dk_167 0 35 (dk_at dksX4_setScale_0 17 rfl rfl)
theorem dX4_setScale_20 : decode cX4_setScale 20 = .ok (.iload_n 2, 1) := dk_28 (dk_at dksX4_setScale_0 20 rfl rfl)
theorem dX4_setScale_21 : decode cX4_setScale 21 = .ok (.invokestatic 190, 3) := dk_184 0 190 (dk_at dksX4_setScale_0 21 rfl rfl)
theorem dX4_setScale_24 : decode cX4_setScale 24 = .ok (.ifCond .eq 10, 3) := dk_153 0 10 (dk_at dksX4_setScale_1 0 rfl rfl)
theorem dX4_setScale_27 : decode cX4_setScale 27 = .ok (.iload_n 3, 1) := dk_29 (dk_at dksX4_setScale_1 3 rfl rfl)
theorem dX4_setScale_28 : decode cX4_setScale 28 = .ok (.invokestatic 270, 3) := dk_184 1 14 (dk_at dksX4_setScale_1 4 rfl rfl)
theorem dX4_setScale_31 : decode cX4_setScale 31 = .ok (.ifCond .ne 7, 3) := dk_154 0 7 (dk_at dksX4_setScale_1 7 rfl rfl)
theorem dX4_setScale_34 : decode cX4_setScale 34 = .ok (.iconst 2, 1) := dk_5 (dk_at dksX4_setScale_1 10 rfl rfl)
theorem dX4_setScale_35 : decode cX4_setScale 35 = .ok (.goto 17, 3) := dk_167 0 17 (dk_at dksX4_setScale_1 11 rfl rfl)
theorem dX4_setScale_38 : decode cX4_setScale 38 = .ok (.aload_n 0, 1) := dk_42 (dk_at dksX4_setScale_1 14 rfl rfl)
theorem dX4_setScale_39 : decode cX4_setScale 39 = .ok (.getfield 63, 3) := dk_180 0 63 (dk_at dksX4_setScale_1 15 rfl rfl)
theorem dX4_setScale_42 : decode cX4_setScale 42 = .ok (.iload_n 1, 1) := dk_27 (dk_at dksX4_setScale_1 18 rfl rfl)
theorem dX4_setScale_43 : decode cX4_setScale 43 = .ok (.baload, 1) := dk_51 (dk_at dksX4_setScale_1 19 rfl rfl)
theorem dX4_setScale_44 : decode cX4_setScale 44 = .ok (.ifCond .ne 7, 3) := dk_154 0 7 (dk_at dksX4_setScale_1 20 rfl rfl)
theorem dX4_setScale_47 : decode cX4_setScale 47 = .ok (.iconst 3, 1) := dk_6 (dk_at dksX4_setScale_1 23 rfl rfl)
theorem dX4_setScale_48 : decode cX4_setScale 48 = .ok (.goto 4, 3) := dk_167 0 4 (dk_at dksX4_setScale_2 0 rfl rfl)
theorem dX4_setScale_51 : decode cX4_setScale 51 = .ok (.iconst 0, 1) := dk_3 (dk_at dksX4_setScale_2 3 rfl rfl)
theorem dX4_setScale_52 : decode cX4_setScale 52 = .ok (.invokevirtual 205, 3) := dk_182 0 205 (dk_at dksX4_setScale_2 4 rfl rfl)
theorem dX4_setScale_55 : decode cX4_setScale 55 = .ok (.ifCond .eq 5, 3) := dk_153 0 5 (dk_at dksX4_setScale_2 7 rfl rfl)
theorem dX4_setScale_58 : decode cX4_setScale 58 = .ok (.iconst 0, 1) := dk_3 (dk_at dksX4_setScale_2 10 rfl rfl)
theorem dX4_setScale_59 : decode cX4_setScale 59 = .ok (.ireturn, 1) := dk_172 (dk_at dksX4_setScale_2 11 rfl rfl)
theorem dX4_setScale_60 : decode cX4_setScale 60 = .ok (.aload_n 0, 1) := dk_42 (dk_at dksX4_setScale_2 12 rfl rfl)
theorem dX4_setScale_61 : decode cX4_setScale 61 = .ok (.iload_n 1, 1) := dk_27 (dk_at dksX4_setScale_2 13 rfl rfl)
theorem dX4_setScale_62 : decode cX4_setScale 62 = .ok (.iload_n 2, 1) := dk_28 (dk_at dksX4_setScale_2 14 rfl rfl)
theorem dX4_setScale_63 : decode cX4_setScale 63 = .ok (.iload_n 3, 1) := dk_29 (dk_at dksX4_setScale_2 15 rfl rfl)
theorem dX4_setScale_64 : decode cX4_setScale 64 = .ok (.invokevirtual 274, 3) := dk_182 1 18 (dk_at dksX4_setScale_2 16 rfl rfl)
theorem dX4_setScale_67 : decode cX4_setScale 67 = .ok (.aload_n 0, 1) := dk_42 (dk_at dksX4_setScale_2 19 rfl rfl)
theorem dX4_setScale_68 : decode cX4_setScale 68 = .ok (.aload_n 0, 1) := dk_42 (dk_at dksX4_setScale_2 20 rfl rfl)
theorem dX4_setScale_69 : decode cX4_setScale 69 = .ok (.getfield 47, 3) := dk_180 0 47 (dk_at dksX4_setScale_2 21 rfl rfl)
theorem dX4_setScale_72 : decode cX4_setScale 72 = .ok (.ifCond .ne 34, 3) := dk_154 0 34 (dk_at dksX4_setScale_3 0 rfl rfl)
theorem dX4_setScale_75 : decode cX4_setScale 75 = .ok (.aload_n 0, 1) := dk_42 (dk_at dksX4_setScale_3 3 rfl rfl)
theorem dX4_setScale_76 : decode cX4_setScale 76 = .ok (.iload 4, 2) := dk_21 4 (dk_at dksX4_setScale_3 4 rfl rfl)
theorem dX4_setScale_78 : decode cX4_setScale 78 = .ok (.iconst 2, 1) := dk_5 (dk_at dksX4_setScale_3 6 rfl rfl)
theorem dX4_setScale_79 : decode cX4_setScale 79 = .ok (.aload_n 0, 1) := dk_42 (dk_at dksX4_setScale_3 7 rfl rfl)
theorem dX4_setScale_80 : decode cX4_setScale 80 = .ok (.getfield 56, 3) := dk_180 0 56 (dk_at dksX4_setScale_3 8 rfl rfl)
theorem dX4_setScale_83 : decode cX4_setScale 83 = .ok (.iload_n 1, 1) := dk_27 (dk_at dksX4_setScale_3 11 rfl rfl)
theorem dX4_setScale_84 : decode cX4_setScale 84 = .ok (.laload, 1) := dk_47 (dk_at dksX4_setScale_3 12 rfl rfl)
theorem dX4_setScale_85 : decode cX4_setScale 85 = .ok (.lconst 0, 1) := dk_9 (dk_at dksX4_setScale_3 13 rfl rfl)
theorem dX4_setScale_86 : decode cX4_setScale 86 = .ok (.lcmp, 1) := dk_148 (dk_at dksX4_setScale_3 14 rfl rfl)
theorem dX4_setScale_87 : decode cX4_setScale 87 = .ok (.ifCond .ge 7, 3) := dk_156 0 7 (dk_at dksX4_setScale_3 15 rfl rfl)
theorem dX4_setScale_90 : decode cX4_setScale 90 = .ok (.iconst 1, 1) := dk_4 (dk_at dksX4_setScale_3 18 rfl rfl)
theorem dX4_setScale_91 : decode cX4_setScale 91 = .ok (.goto 4, 3) := dk_167 0 4 (dk_at dksX4_setScale_3 19 rfl rfl)
theorem dX4_setScale_94 : decode cX4_setScale 94 = .ok (.iconst 0, 1) := dk_3 (dk_at dksX4_setScale_3 22 rfl rfl)
theorem dX4_setScale_95 : decode cX4_setScale 95 = .ok (.iload_n 2, 1) := dk_28 (dk_at dksX4_setScale_3 23 rfl rfl)
theorem dX4_setScale_96 : decode cX4_setScale 96 = .ok (.invokevirtual 223, 3) := dk_182 0 223 (dk_at dksX4_setScale_4 0 rfl rfl)
theorem dX4_setScale_99 : decode cX4_setScale 99 = .ok (.ifCond .eq 7, 3) := dk_153 0 7 (dk_at dksX4_setScale_4 3 rfl rfl)
theorem dX4_setScale_102 : decode cX4_setScale 102 = .ok (.iconst 0, 1) := dk_3 (dk_at dksX4_setScale_4 6 rfl rfl)
theorem dX4_setScale_103 : decode cX4_setScale 103 = .ok (.goto 4, 3) := dk_167 0 4 (dk_at dksX4_setScale_4 7 rfl rfl)
theorem dX4_setScale_106 : decode cX4_setScale 106 = .ok (.iconst 4, 1) := dk_7 (dk_at dksX4_setScale_4 10 rfl rfl)
theorem dX4_setScale_107 : decode cX4_setScale 107 = .ok (.invokevirtual 205, 3) := dk_182 0 205 (dk_at dksX4_setScale_4 11 rfl rfl)
theorem dX4_setScale_110 : decode cX4_setScale 110 = .ok (.ifCond .eq 7, 3) := dk_153 0 7 (dk_at dksX4_setScale_4 14 rfl rfl)
theorem dX4_setScale_113 : decode cX4_setScale 113 = .ok (.iconst 0, 1) := dk_3 (dk_at dksX4_setScale_4 17 rfl rfl)
theorem dX4_setScale_114 : decode cX4_setScale 114 = .ok (.goto 13, 3) := dk_167 0 13 (dk_at dksX4_setScale_4 18 rfl rfl)
theorem dX4_setScale_117 : decode cX4_setScale 117 = .ok (.aload_n 0, 1) := dk_42 (dk_at dksX4_setScale_4 21 rfl rfl)
theorem dX4_setScale_118 : decode cX4_setScale 118 = .ok (.getfield 56, 3) := dk_180 0 56 (dk_at dksX4_setScale_5 0 rfl rfl)
theorem dX4_setScale_121 : decode cX4_setScale 121 = .ok (.iload 4, 2) := dk_21 4 (dk_at dksX4_setScale_5 3 rfl rfl)
theorem dX4_setScale_123 : decode cX4_setScale 123 = .ok (.laload, 1) := dk_47 (dk_at dksX4_setScale_5 5 rfl rfl)
theorem dX4_setScale_124 : decode cX4_setScale 124 = .ok (.invokestatic 208, 3) := dk_184 0 208 (dk_at dksX4_setScale_5 6 rfl rfl)
theorem dX4_setScale_127 : decode cX4_setScale 127 = .ok (.ireturn, 1) := dk_172 (dk_at dksX4_setScale_5 9 rfl rfl)
def dkwX4_isMode_2 : List UInt8 := [4, 172, 3, 172]
abbrev dktX4_isMode_2 : List UInt8 := dkwX4_isMode_2 ++ []
def dkwX4_isMode_1 : List UInt8 := [170, 0, 0, 0, 0, 0, 93, 0, 0, 0, 99, 0, 0, 0, 117, 0, 0, 0, 91, 0, 0, 0, 91, 0, 0, 0, 91, 0, 0, 0, 91, 0, 0, 0, 93, 0, 0, 0, 91, 0, 0, 0, 93, 0, 0, 0, 93, 0, 0, 0, 93, 0, 0, 0, 91, 0, 0, 0, 93, 0, 0, 0, 91, 0, 0, 0, 93, 0, 0, 0, 93, 0, 0, 0, 93, 0, 0, 0, 93, 0, 0, 0, 93, 0, 0, 0, 93, 0, 0, 0, 91]
abbrev dktX4_isMode_1 : List UInt8 := dkwX4_isMode_1 ++ dktX4_isMode_2
def dkwX4_isMode_0 : List UInt8 := [26]
abbrev dktX4_isMode_0 : List UInt8 := dkwX4_isMode_0 ++ dktX4_isMode_1
theorem dksX4_isMode_0 : cX4_isMode.data.toList.drop 0 = dktX4_isMode_0 := by decide +kernel
theorem dksX4_isMode_1 : cX4_isMode.data.toList.drop 1 = dktX4_isMode_1 := dk_seg dksX4_isMode_0 1 rfl rfl
theorem dksX4_isMode_2 : cX4_isMode.data.toList.drop 92 = dktX4_isMode_2 := dk_seg dksX4_isMode_1 91 rfl rfl
theorem dX4_isMode_0 : decode cX4_isMode 0 = .ok (.iload_n 0, 1) := dk_26 (dk_at dksX4_isMode_0 0 rfl rfl)
theorem dX4_isMode_1 : decode cX4_isMode 1 = .ok (.tableswitch 93 99 117 #[91, 91, 91, 91, 93, 91, 93, 93, 93, 91, 93, 91, 93, 93, 93, 93, 93, 93, 91], 91) := by decide +kernel
theorem dX4_isMode_92 : decode cX4_isMode 92 = .ok (.iconst 1, 1) := dk_4 (dk_at dksX4_isMode_2 0 rfl rfl)
theorem dX4_isMode_93 : decode cX4_isMode 93 = .ok (.ireturn, 1) := dk_172 (dk_at dksX4_isMode_2 1 rfl rfl)
theorem dX4_isMode_94 : decode cX4_isMode 94 = .ok (.iconst 0, 1) := dk_3 (dk_at dksX4_isMode_2 2 rfl rfl)
theorem dX4_isMode_95 : decode cX4_isMode 95 = .ok (.ireturn, 1) := dk_172 (dk_at dksX4_isMode_2 3 rfl rfl)
def dkwX4_scales_2 : List UInt8 := [42, 42, 180, 0, 56, 27, 47, 9, 148, 156, 0, 7, 4, 167, 0, 4, 3, 29, 182, 1, 10, 177]
abbrev dktX4_scales_2 : List UInt8 := dkwX4_scales_2 ++ []
def dkwX4_scales_1 : List UInt8 := [46, 100, 182, 0, 24, 42, 4, 10, 182, 0, 33, 42, 4, 42, 180, 0, 60, 27, 46, 28, 100, 182, 0, 24]
abbrev dktX4_scales_1 : List UInt8 := dkwX4_scales_1 ++ dktX4_scales_2
def dkwX4_scales_0 : List UInt8 := [42, 3, 181, 0, 47, 42, 3, 42, 180, 0, 56, 27, 47, 182, 0, 33, 42, 3, 28, 42, 180, 0, 60, 27]
abbrev dktX4_scales_0 : List UInt8 := dkwX4_scales_0 ++ dktX4_scales_1
theorem dksX4_scales_0 : cX4_scales.data.toList.drop 0 = dktX4_scales_0 := by decide +kernel
theorem dksX4_scales_1 : cX4_scales.data.toList.drop 24 = dktX4_scales_1 := dk_seg dksX4_scales_0 24 rfl rfl
theorem dksX4_scales_2 : cX4_scales.data.toList.drop 48 = dktX4_scales_2 := dk_seg dksX4_scales_1 24 rfl rfl
theorem dX4_scales_0 : decode cX4_scales 0 = .ok (.aload_n 0, 1) := dk_42 (dk_at dksX4_scales_0 0 rfl rfl)
theorem dX4_scales_1 : decode cX4_scales 1 = .ok (.iconst 0, 1) := dk_3 (dk_at dksX4_scales_0 1 rfl rfl)
theorem dX4_scales_2 : decode cX4_scales 2 = .ok (.putfield 47, 3) := dk_181 0 47 (dk_at dksX4_scales_0 2 rfl rfl)
theorem dX4_scales_5 : decode cX4_scales 5 = .ok (.aload_n 0, 1) := dk_42 (dk_at dksX4_scales_0 5 rfl rfl)
theorem dX4_scales_6 : decode cX4_scales 6 = .ok (.iconst 0, 1) := dk_3 (dk_at dksX4_scales_0 6 rfl rfl)
theorem dX4_scales_7 : decode cX4_scales 7 = .ok (.aload_n 0, 1) := dk_42 (dk_at dksX4_scales_0 7 rfl rfl)
theorem dX4_scales_8 : decode cX4_scales 8 = .ok (.getfield 56, 3) := dk_180 0 56 (dk_at dksX4_scales_0 8 rfl rfl)
theorem dX4_scales_11 : decode cX4_scales 11 = .ok (.iload_n 1, 1) := dk_27 (dk_at dksX4_scales_0 11 rfl rfl)
theorem dX4_scales_12 : decode cX4_scales 12 = .ok (.laload, 1) := dk_47 (dk_at dksX4_scales_0 12 rfl rfl)
theorem dX4_scales_13 : decode cX4_scales 13 = .ok (.invokevirtual 33, 3) := dk_182 0 33 (dk_at dksX4_scales_0 13 rfl rfl)
theorem dX4_scales_16 : decode cX4_scales 16 = .ok (.aload_n 0, 1) := dk_42 (dk_at dksX4_scales_0 16 rfl rfl)
theorem dX4_scales_17 : decode cX4_scales 17 = .ok (.iconst 0, 1) := dk_3 (dk_at dksX4_scales_0 17 rfl rfl)
theorem dX4_scales_18 : decode cX4_scales 18 = .ok (.iload_n 2, 1) := dk_28 (dk_at dksX4_scales_0 18 rfl rfl)
theorem dX4_scales_19 : decode cX4_scales 19 = .ok (.aload_n 0, 1) := dk_42 (dk_at dksX4_scales_0 19 rfl rfl)
theorem dX4_scales_20 : decode cX4_scales 20 = .ok (.getfield 60, 3) := dk_180 0 60 (dk_at dksX4_scales_0 20 rfl rfl)
theorem dX4_scales_23 : decode cX4_scales 23 = .ok (.iload_n 1, 1) := dk_27 (dk_at dksX4_scales_0 23 rfl rfl)
theorem dX4_scales_24 : decode cX4_scales 24 = .ok (.iaload, 1) := dk_46 (dk_at dksX4_scales_1 0 rfl rfl)
theorem dX4_scales_25 : decode cX4_scales 25 = .ok (.isub, 1) := dk_100 (dk_at dksX4_scales_1 1 rfl rfl)
theorem dX4_scales_26 : decode cX4_scales 26 = .ok (.invokevirtual 24, 3) := dk_182 0 24 (dk_at dksX4_scales_1 2 rfl rfl)
theorem dX4_scales_29 : decode cX4_scales 29 = .ok (.aload_n 0, 1) := dk_42 (dk_at dksX4_scales_1 5 rfl rfl)
theorem dX4_scales_30 : decode cX4_scales 30 = .ok (.iconst 1, 1) := dk_4 (dk_at dksX4_scales_1 6 rfl rfl)
theorem dX4_scales_31 : decode cX4_scales 31 = .ok (.lconst 1, 1) := dk_10 (dk_at dksX4_scales_1 7 rfl rfl)
theorem dX4_scales_32 : decode cX4_scales 32 = .ok (.invokevirtual 33, 3) := dk_182 0 33 (dk_at dksX4_scales_1 8 rfl rfl)
theorem dX4_scales_35 : decode cX4_scales 35 = .ok (.aload_n 0, 1) := dk_42 (dk_at dksX4_scales_1 11 rfl rfl)
theorem dX4_scales_36 : decode cX4_scales 36 = .ok (.iconst 1, 1) := dk_4 (dk_at dksX4_scales_1 12 rfl rfl)
theorem dX4_scales_37 : decode cX4_scales 37 = .ok (.aload_n 0, 1) := dk_42 (dk_at dksX4_scales_1 13 rfl rfl)
theorem dX4_scales_38 : decode cX4_scales 38 = .ok (.getfield 60, 3) := dk_180 0 60 (dk_at dksX4_scales_1 14 rfl rfl)
theorem dX4_scales_41 : decode cX4_scales 41 = .ok (.iload_n 1, 1) := dk_27 (dk_at dksX4_scales_1 17 rfl rfl)
theorem dX4_scales_42 : decode cX4_scales 42 = .ok (.iaload, 1) := dk_46 (dk_at dksX4_scales_1 18 rfl rfl)
theorem dX4_scales_43 : decode cX4_scales 43 = .ok (.iload_n 2, 1) := dk_28 (dk_at dksX4_scales_1 19 rfl rfl)
theorem dX4_scales_44 : decode cX4_scales 44 = .ok (.isub, 1) := dk_100 (dk_at dksX4_scales_1 20 rfl rfl)
theorem dX4_scales_45 : decode cX4_scales 45 = .ok (.invokevirtual 24, 3) := dk_182 0 24 (dk_at dksX4_scales_1 21 rfl rfl)
theorem dX4_scales_48 : decode cX4_scales 48 = .ok (.aload_n 0, 1) := dk_42 (dk_at dksX4_scales_2 0 rfl rfl)
theorem dX4_scales_49 : decode cX4_scales 49 = .ok (.aload_n 0, 1) := dk_42 (dk_at dksX4_scales_2 1 rfl rfl)
theorem dX4_scales_50 : decode cX4_scales 50 = .ok (.getfield 56, 3) := dk_180 0 56 (dk_at dksX4_scales_2 2 rfl rfl)
theorem dX4_scales_53 : decode cX4_scales 53 = .ok (.iload_n 1, 1) := dk_27 (dk_at dksX4_scales_2 5 rfl rfl)
theorem dX4_scales_54 : decode cX4_scales 54 = .ok (.laload, 1) := dk_47 (dk_at dksX4_scales_2 6 rfl rfl)
theorem dX4_scales_55 : decode cX4_scales 55 = .ok (.lconst 0, 1) := dk_9 (dk_at dksX4_scales_2 7 rfl rfl)
theorem dX4_scales_56 : decode cX4_scales 56 = .ok (.lcmp, 1) := dk_148 (dk_at dksX4_scales_2 8 rfl rfl)
theorem dX4_scales_57 : decode cX4_scales 57 = .ok (.ifCond .ge 7, 3) := dk_156 0 7 (dk_at dksX4_scales_2 9 rfl rfl)
theorem dX4_scales_60 : decode cX4_scales 60 = .ok (.iconst 1, 1) := dk_4 (dk_at dksX4_scales_2 12 rfl rfl)
theorem dX4_scales_61 : decode cX4_scales 61 = .ok (.goto 4, 3) := dk_167 0 4 (dk_at dksX4_scales_2 13 rfl rfl)
theorem dX4_scales_64 : decode cX4_scales 64 = .ok (.iconst 0, 1) := dk_3 (dk_at dksX4_scales_2 16 rfl rfl)
theorem dX4_scales_65 : decode cX4_scales 65 = .ok (.iload_n 3, 1) := dk_29 (dk_at dksX4_scales_2 17 rfl rfl)
theorem dX4_scales_66 : decode cX4_scales 66 = .ok (.invokevirtual 266, 3) := dk_182 1 10 (dk_at dksX4_scales_2 18 rfl rfl)
theorem dX4_scales_69 : decode cX4_scales 69 = .ok (.return_, 1) := dk_177 (dk_at dksX4_scales_2 21 rfl rfl)
def dkwX4_rounds_8 : List UInt8 := [182, 0, 33, 21, 5, 153, 0, 10, 42, 5, 16, 8, 182, 0, 27, 177]
abbrev dktX4_rounds_8 : List UInt8 := dkwX4_rounds_8 ++ []
def dkwX4_rounds_7 : List UInt8 := [180, 0, 47, 28, 16, 110, 160, 0, 7, 4, 167, 0, 4, 3, 128, 181, 0, 47, 42, 16, 8, 10]
abbrev dktX4_rounds_7 : List UInt8 := dkwX4_rounds_7 ++ dktX4_rounds_8
def dkwX4_rounds_6 : List UInt8 := [167, 0, 4, 3, 54, 5, 167, 0, 6, 3, 54, 5, 42, 180, 0, 1, 6, 46, 154, 0, 4, 177, 42, 89]
abbrev dktX4_rounds_6 : List UInt8 := dkwX4_rounds_6 ++ dktX4_rounds_7
def dkwX4_rounds_5 : List UInt8 := [167, 0, 4, 3, 54, 5, 167, 0, 29, 29, 157, 0, 12, 29, 154, 0, 12, 21, 4, 153, 0, 7, 4]
abbrev dktX4_rounds_5 : List UInt8 := dkwX4_rounds_5 ++ dktX4_rounds_6
def dkwX4_rounds_4 : List UInt8 := [167, 0, 57, 29, 155, 0, 7, 4, 167, 0, 4, 3, 54, 5, 167, 0, 43, 29, 158, 0, 7, 4]
abbrev dktX4_rounds_4 : List UInt8 := dkwX4_rounds_4 ++ dktX4_rounds_5
def dkwX4_rounds_3 : List UInt8 := [4, 54, 5, 167, 0, 77, 27, 154, 0, 7, 4, 167, 0, 4, 3, 54, 5, 167, 0, 63, 27, 54, 5]
abbrev dktX4_rounds_3 : List UInt8 := dkwX4_rounds_3 ++ dktX4_rounds_4
def dkwX4_rounds_2 : List UInt8 := [170, 0, 0, 0, 0, 167, 0, 0, 0, 99, 0, 0, 0, 117, 0, 0, 0, 96, 0, 0, 0, 167, 0, 0, 0, 144, 0, 0, 0, 110, 0, 0, 0, 167, 0, 0, 0, 116, 0, 0, 0, 167, 0, 0, 0, 167, 0, 0, 0, 167, 0, 0, 0, 130, 0, 0, 0, 167, 0, 0, 0, 167, 0, 0, 0, 167, 0, 0, 0, 167, 0, 0, 0, 167, 0, 0, 0, 167, 0, 0, 0, 167, 0, 0, 0, 167, 0, 0, 0, 90]
abbrev dktX4_rounds_2 : List UInt8 := dkwX4_rounds_2 ++ dktX4_rounds_3
def dkwX4_rounds_1 : List UInt8 := [182, 0, 37, 62, 42, 5, 3, 182, 0, 10, 5, 112, 4, 160, 0, 7, 4, 167, 0, 4, 3, 54, 4, 28]
abbrev dktX4_rounds_1 : List UInt8 := dkwX4_rounds_1 ++ dktX4_rounds_2
def dkwX4_rounds_0 : List UInt8 := [42, 182, 0, 43, 42, 6, 16, 9, 182, 0, 30, 42, 16, 9, 6, 182, 0, 27, 42, 16, 9, 4]
abbrev dktX4_rounds_0 : List UInt8 := dkwX4_rounds_0 ++ dktX4_rounds_1
theorem dksX4_rounds_0 : cX4_rounds.data.toList.drop 0 = dktX4_rounds_0 := by decide +kernel
theorem dksX4_rounds_1 : cX4_rounds.data.toList.drop 22 = dktX4_rounds_1 := dk_seg dksX4_rounds_0 22 rfl rfl
theorem dksX4_rounds_2 : cX4_rounds.data.toList.drop 46 = dktX4_rounds_2 := dk_seg dksX4_rounds_1 24 rfl rfl
theorem dksX4_rounds_3 : cX4_rounds.data.toList.drop 136 = dktX4_rounds_3 := dk_seg dksX4_rounds_2 90 rfl rfl
theorem dksX4_rounds_4 : cX4_rounds.data.toList.drop 159 = dktX4_rounds_4 := dk_seg dksX4_rounds_3 23 rfl rfl
theorem dksX4_rounds_5 : cX4_rounds.data.toList.drop 181 = dktX4_rounds_5 := dk_seg dksX4_rounds_4 22 rfl rfl
theorem dksX4_rounds_6 : cX4_rounds.data.toList.drop 204 = dktX4_rounds_6 := dk_seg dksX4_rounds_5 23 rfl rfl
theorem dksX4_rounds_7 : cX4_rounds.data.toList.drop 228 = dktX4_rounds_7 := dk_seg dksX4_rounds_6 24 rfl rfl
theorem dksX4_rounds_8 : cX4_rounds.data.toList.drop 250 = dktX4_rounds_8 := dk_seg dksX4_rounds_7 22 rfl rfl
theorem dX4_rounds_0 : decode cX4_rounds 0 = .ok (.aload_n 0, 1) := dk_42 (dk_at dksX4_rounds_0 0 rfl rfl)
theorem dX4_rounds_1 : decode cX4_rounds 1 = .ok (.invokevirtual 43, 3) := dk_182 0 43 (dk_at dksX4_rounds_0 1 rfl rfl)
theorem dX4_rounds_4 : decode cX4_rounds 4 = .ok (.aload_n 0, 1) := dk_42 (dk_at dksX4_rounds_0 4 rfl rfl)
theorem dX4_rounds_5 : decode cX4_rounds 5 = .ok (.iconst 3, 1) := dk_6 (dk_at dksX4_rounds_0 5 rfl rfl)
theorem dX4_rounds_6 : decode cX4_rounds 6 = .ok (.bipush 9, 2) := dk_16 9 (dk_at dksX4_rounds_0 6 rfl rfl)
theorem dX4_rounds_8 : decode cX4_rounds 8 = .ok (.invokevirtual 30, 3) := dk_182 0 30 (dk_at dksX4_rounds_0 8 rfl rfl)
theorem dX4_rounds_11 : decode cX4_rounds 11 = .ok (.aload_n 0, 1) := dk_42 (dk_at dksX4_rounds_0 11 rfl rfl)
theorem dX4_rounds_12 : decode cX4_rounds 12 = .ok (.bipush 9, 2) := dk_16 9 (dk_at dksX4_rounds_0 12 rfl rfl)
theorem dX4_rounds_14 : decode cX4_rounds 14 = .ok (.iconst 3, 1) := dk_6 (dk_at dksX4_rounds_0 14 rfl rfl)
theorem dX4_rounds_15 : decode cX4_rounds 15 = .ok (.invokevirtual 27, 3) := dk_182 0 27 (dk_at dksX4_rounds_0 15 rfl rfl)
theorem dX4_rounds_18 : decode cX4_rounds 18 = .ok (.aload_n 0, 1) := dk_42 (dk_at dksX4_rounds_0 18 rfl rfl)
theorem dX4_rounds_19 : decode cX4_rounds 19 = .ok (.bipush 9, 2) := dk_16 9 (dk_at dksX4_rounds_0 19 rfl rfl)
theorem dX4_rounds_21 : decode cX4_rounds 21 = .ok (.iconst 1, 1) := dk_4 (dk_at dksX4_rounds_0 21 rfl rfl)
theorem dX4_rounds_22 : decode cX4_rounds 22 = .ok (.invokevirtual 37, 3) := dk_182 0 37 (dk_at dksX4_rounds_1 0 rfl rfl)
theorem dX4_rounds_25 : decode cX4_rounds 25 = .ok (.istore_n 3, 1) := dk_62 (dk_at dksX4_rounds_1 3 rfl rfl)
theorem dX4_rounds_26 : decode cX4_rounds 26 = .ok (.aload_n 0, 1) := dk_42 (dk_at dksX4_rounds_1 4 rfl rfl)
theorem dX4_rounds_27 : decode cX4_rounds 27 = .ok (.iconst 2, 1) := dk_5 (dk_at dksX4_rounds_1 5 rfl rfl)
theorem dX4_rounds_28 : decode cX4_rounds 28 = .ok (.iconst 0, 1) := dk_3 (dk_at dksX4_rounds_1 6 rfl rfl)
theorem dX4_rounds_29 : decode cX4_rounds 29 = .ok (.invokevirtual 10, 3) := dk_182 0 10 (dk_at dksX4_rounds_1 7 rfl rfl)
theorem dX4_rounds_32 : decode cX4_rounds 32 = .ok (.iconst 2, 1) := dk_5 (dk_at dksX4_rounds_1 10 rfl rfl)
theorem dX4_rounds_33 : decode cX4_rounds 33 = .ok (.irem, 1) := dk_112 (dk_at dksX4_rounds_1 11 rfl rfl)
theorem dX4_rounds_34 : decode cX4_rounds 34 = .ok (.iconst 1, 1) := dk_4 (dk_at dksX4_rounds_1 12 rfl rfl)
theorem dX4_rounds_35 : decode cX4_rounds 35 = .ok (.if_icmp .ne 7, 3) := dk_160 0 7 (dk_at dksX4_rounds_1 13 rfl rfl)
theorem dX4_rounds_38 : decode cX4_rounds 38 = .ok (.iconst 1, 1) := dk_4 (dk_at dksX4_rounds_1 16 rfl rfl)
theorem dX4_rounds_39 : decode cX4_rounds 39 = .ok (.goto 4, 3) := dk_167 0 4 (dk_at dksX4_rounds_1 17 rfl rfl)
theorem dX4_rounds_42 : decode cX4_rounds 42 = .ok (.iconst 0, 1) := dk_3 (dk_at dksX4_rounds_1 20 rfl rfl)
theorem dX4_rounds_43 : decode cX4_rounds 43 = .ok (.istore 4, 2) := dk_54 4 (dk_at dksX4_rounds_1 21 rfl rfl)
theorem dX4_rounds_45 : decode cX4_rounds 45 = .ok (.iload_n 2, 1) := dk_28 (dk_at dksX4_rounds_1 23 rfl rfl)
theorem dX4_rounds_46 : decode cX4_rounds 46 = .ok (.tableswitch 167 99 117 #[96, 167, 144, 110, 167, 116, 167, 167, 167, 130, 167, 167, 167, 167, 167, 167, 167, 167, 90], 90) := by decide +kernel
theorem dX4_rounds_136 : decode cX4_rounds 136 = .ok (.iconst 1, 1) := dk_4 (dk_at dksX4_rounds_3 0 rfl rfl)
theorem dX4_rounds_137 : decode cX4_rounds 137 = .ok (.istore 5, 2) := dk_54 5 (dk_at dksX4_rounds_3 1 rfl rfl)
theorem dX4_rounds_139 : decode cX4_rounds 139 = .ok (.goto 77, 3) := dk_167 0 77 (dk_at dksX4_rounds_3 3 rfl rfl)
theorem dX4_rounds_142 : decode cX4_rounds 142 = .ok (.iload_n 1, 1) := dk_27 (dk_at dksX4_rounds_3 6 rfl rfl)
theorem dX4_rounds_143 : decode cX4_rounds 143 = .ok (.ifCond .ne 7, 3) := dk_154 0 7 (dk_at dksX4_rounds_3 7 rfl rfl)
theorem dX4_rounds_146 : decode cX4_rounds 146 = .ok (.iconst 1, 1) := dk_4 (dk_at dksX4_rounds_3 10 rfl rfl)
theorem dX4_rounds_147 : decode cX4_rounds 147 = .ok (.goto 4, 3) := dk_167 0 4 (dk_at dksX4_rounds_3 11 rfl rfl)
theorem dX4_rounds_150 : decode cX4_rounds 150 = .ok (.iconst 0, 1) := dk_3 (dk_at dksX4_rounds_3 14 rfl rfl)
theorem dX4_rounds_151 : decode cX4_rounds 151 = .ok (.istore 5, 2) := dk_54 5 (dk_at dksX4_rounds_3 15 rfl rfl)
theorem dX4_rounds_153 : decode cX4_rounds 153 = .ok (.goto 63, 3) := dk_167 0 63 (dk_at dksX4_rounds_3 17 rfl rfl)
theorem dX4_rounds_156 : decode cX4_rounds 156 = .ok (.iload_n 1, 1) := dk_27 (dk_at dksX4_rounds_3 20 rfl rfl)
theorem dX4_rounds_157 : decode cX4_rounds 157 = .ok (.istore 5, 2) := dk_54 5 (dk_at dksX4_rounds_3 21 rfl rfl)
theorem dX4_rounds_159 : decode cX4_rounds 159 = .ok (.goto 57, 3) := dk_167 0 57 (dk_at dksX4_rounds_4 0 rfl rfl)
theorem dX4_rounds_162 : decode cX4_rounds 162 = .ok (.iload_n 3, 1) := dk_29 (dk_at dksX4_rounds_4 3 rfl rfl)
theorem dX4_rounds_163 : decode cX4_rounds 163 = .ok (.ifCond .lt 7, 3) := dk_155 0 7 (dk_at dksX4_rounds_4 4 rfl rfl)
theorem dX4_rounds_166 : decode cX4_rounds 166 = .ok (.iconst 1, 1) := dk_4 (dk_at dksX4_rounds_4 7 rfl rfl)
theorem dX4_rounds_167 : decode cX4_rounds 167 = .ok (.goto 4, 3) := dk_167 0 4 (dk_at dksX4_rounds_4 8 rfl rfl)
theorem dX4_rounds_170 : decode cX4_rounds 170 = .ok (.iconst 0, 1) := dk_3 (dk_at dksX4_rounds_4 11 rfl rfl)
theorem dX4_rounds_171 : decode cX4_rounds 171 = .ok (.istore 5, 2) := dk_54 5 (dk_at dksX4_rounds_4 12 rfl rfl)
theorem dX4_rounds_173 : decode cX4_rounds 173 = .ok (.goto 43, 3) := dk_167 0 43 (dk_at dksX4_rounds_4 14 rfl rfl)
theorem dX4_rounds_176 : decode cX4_rounds 176 = .ok (.iload_n 3, 1) := dk_29 (dk_at dksX4_rounds_4 17 rfl rfl)
theorem dX4_rounds_177 : decode cX4_rounds 177 = .ok (.ifCond .le 7, 3) := dk_158 0 7 (dk_at dksX4_rounds_4 18 rfl rfl)
theorem dX4_rounds_180 : decode cX4_rounds 180 = .ok (.iconst 1, 1) := dk_4 (dk_at dksX4_rounds_4 21 rfl rfl)
theorem dX4_rounds_181 : decode cX4_rounds 181 = .ok (.goto 4, 3) := dk_167 0 4 (dk_at dksX4_rounds_5 0 rfl rfl)
theorem dX4_rounds_184 : decode cX4_rounds 184 = .ok (.iconst 0, 1) := dk_3 (dk_at dksX4_rounds_5 3 rfl rfl)
theorem dX4_rounds_185 : decode cX4_rounds 185 = .ok (.istore 5, 2) := dk_54 5 (dk_at dksX4_rounds_5 4 rfl rfl)
theorem dX4_rounds_187 : decode cX4_rounds 187 = .ok (.goto 29, 3) := dk_167 0 29 (dk_at dksX4_rounds_5 6 rfl rfl)
theorem dX4_rounds_190 : decode cX4_rounds 190 = .ok (.iload_n 3, 1) := dk_29 (dk_at dksX4_rounds_5 9 rfl rfl)
theorem dX4_rounds_191 : decode cX4_rounds 191 = .ok (.ifCond .gt 12, 3) := dk_157 0 12 (dk_at dksX4_rounds_5 10 rfl rfl)
theorem dX4_rounds_194 : decode cX4_rounds 194 = .ok (.iload_n 3, 1) := dk_29 (dk_at dksX4_rounds_5 13 rfl rfl)
theorem dX4_rounds_195 : decode cX4_rounds 195 = .ok (.ifCond .ne 12, 3) := dk_154 0 12 (dk_at dksX4_rounds_5 14 rfl rfl)
theorem dX4_rounds_198 : decode cX4_rounds 198 = .ok (.iload 4, 2) := dk_21 4 (dk_at dksX4_rounds_5 17 rfl rfl)
theorem dX4_rounds_200 : decode cX4_rounds 200 = .ok (.ifCond .eq 7, 3) := dk_153 0 7 (dk_at dksX4_rounds_5 19 rfl rfl)
theorem dX4_rounds_203 : decode cX4_rounds 203 = .ok (.iconst 1, 1) := dk_4 (dk_at dksX4_rounds_5 22 rfl rfl)
theorem dX4_rounds_204 : decode cX4_rounds 204 = .ok (.goto 4, 3) := dk_167 0 4 (dk_at dksX4_rounds_6 0 rfl rfl)
theorem dX4_rounds_207 : decode cX4_rounds 207 = .ok (.iconst 0, 1) := dk_3 (dk_at dksX4_rounds_6 3 rfl rfl)
theorem dX4_rounds_208 : decode cX4_rounds 208 = .ok (.istore 5, 2) := dk_54 5 (dk_at dksX4_rounds_6 4 rfl rfl)
theorem dX4_rounds_210 : decode cX4_rounds 210 = .ok (.goto 6, 3) := dk_167 0 6 (dk_at dksX4_rounds_6 6 rfl rfl)
theorem dX4_rounds_213 : decode cX4_rounds 213 = .ok (.iconst 0, 1) := dk_3 (dk_at dksX4_rounds_6 9 rfl rfl)
theorem dX4_rounds_214 : decode cX4_rounds 214 = .ok (.istore 5, 2) := dk_54 5 (dk_at dksX4_rounds_6 10 rfl rfl)
theorem dX4_rounds_216 : decode cX4_rounds 216 = .ok (.aload_n 0, 1) := dk_42 (dk_at dksX4_rounds_6 12 rfl rfl)
theorem dX4_rounds_217 : decode cX4_rounds 217 = .ok (.getfield 1, 3) := dk_180 0 1 (dk_at dksX4_rounds_6 13 rfl rfl)
theorem dX4_rounds_220 : decode cX4_rounds 220 = .ok (.iconst 3, 1) := dk_6 (dk_at dksX4_rounds_6 16 rfl rfl)
theorem dX4_rounds_221 : decode cX4_rounds 221 = .ok (.iaload, 1) := dk_46 (dk_at dksX4_rounds_6 17 rfl rfl)
theorem dX4_rounds_222 : decode cX4_rounds 222 = .ok (.ifCond .ne 4, 3) := dk_154 0 4 (dk_at dksX4_rounds_6 18 rfl rfl)
theorem dX4_rounds_225 : decode cX4_rounds 225 = .ok (.return_, 1) := dk_177 (dk_at dksX4_rounds_6 21 rfl rfl)
theorem dX4_rounds_226 : decode cX4_rounds 226 = .ok (.aload_n 0, 1) := dk_42 (dk_at dksX4_rounds_6 22 rfl rfl)
theorem dX4_rounds_227 : decode cX4_rounds 227 = .ok (.dup, 1) := dk_89 (dk_at dksX4_rounds_6 23 rfl rfl)
theorem dX4_rounds_228 : decode cX4_rounds 228 = .ok (.getfield 47, 3) := dk_180 0 47 (dk_at dksX4_rounds_7 0 rfl rfl)
theorem dX4_rounds_231 : decode cX4_rounds 231 = .ok (.iload_n 2, 1) := dk_28 (dk_at dksX4_rounds_7 3 rfl rfl)
theorem dX4_rounds_232 : decode cX4_rounds 232 = .ok (.bipush 110, 2) := dk_16 110 (dk_at dksX4_rounds_7 4 rfl rfl)
theorem dX4_rounds_234 : decode cX4_rounds 234 = .ok (.if_icmp .ne 7, 3) := dk_160 0 7 (dk_at dksX4_rounds_7 6 rfl rfl)
theorem dX4_rounds_237 : decode cX4_rounds 237 = .ok (.iconst 1, 1) := dk_4 (dk_at dksX4_rounds_7 9 rfl rfl)
theorem dX4_rounds_238 : decode cX4_rounds 238 = .ok (.goto 4, 3) := dk_167 0 4 (dk_at dksX4_rounds_7 10 rfl rfl)
theorem dX4_rounds_241 : decode cX4_rounds 241 = .ok (.iconst 0, 1) := dk_3 (dk_at dksX4_rounds_7 13 rfl rfl)
theorem dX4_rounds_242 : decode cX4_rounds 242 = .ok (.ior, 1) := dk_128 (dk_at dksX4_rounds_7 14 rfl rfl)
theorem dX4_rounds_243 : decode cX4_rounds 243 = .ok (.putfield 47, 3) := dk_181 0 47 (dk_at dksX4_rounds_7 15 rfl rfl)
theorem dX4_rounds_246 : decode cX4_rounds 246 = .ok (.aload_n 0, 1) := dk_42 (dk_at dksX4_rounds_7 18 rfl rfl)
theorem dX4_rounds_247 : decode cX4_rounds 247 = .ok (.bipush 8, 2) := dk_16 8 (dk_at dksX4_rounds_7 19 rfl rfl)
theorem dX4_rounds_249 : decode cX4_rounds 249 = .ok (.lconst 1, 1) := dk_10 (dk_at dksX4_rounds_7 21 rfl rfl)
theorem dX4_rounds_250 : decode cX4_rounds 250 = .ok (.invokevirtual 33, 3) := dk_182 0 33 (dk_at dksX4_rounds_8 0 rfl rfl)
theorem dX4_rounds_253 : decode cX4_rounds 253 = .ok (.iload 5, 2) := dk_21 5 (dk_at dksX4_rounds_8 3 rfl rfl)
theorem dX4_rounds_255 : decode cX4_rounds 255 = .ok (.ifCond .eq 10, 3) := dk_153 0 10 (dk_at dksX4_rounds_8 5 rfl rfl)
theorem dX4_rounds_258 : decode cX4_rounds 258 = .ok (.aload_n 0, 1) := dk_42 (dk_at dksX4_rounds_8 8 rfl rfl)
theorem dX4_rounds_259 : decode cX4_rounds 259 = .ok (.iconst 2, 1) := dk_5 (dk_at dksX4_rounds_8 9 rfl rfl)
theorem dX4_rounds_260 : decode cX4_rounds 260 = .ok (.bipush 8, 2) := dk_16 8 (dk_at dksX4_rounds_8 10 rfl rfl)
theorem dX4_rounds_262 : decode cX4_rounds 262 = .ok (.invokevirtual 27, 3) := dk_182 0 27 (dk_at dksX4_rounds_8 12 rfl rfl)
theorem dX4_rounds_265 : decode cX4_rounds 265 = .ok (.return_, 1) := dk_177 (dk_at dksX4_rounds_8 15 rfl rfl)
def dkwX4_divides_4 : List UInt8 := [167, 255, 189, 42, 5, 182, 0, 20, 177]
abbrev dktX4_divides_4 : List UInt8 := dkwX4_divides_4 ++ []
def dkwX4_divides_3 : List UInt8 := [182, 0, 40, 132, 2, 1, 167, 255, 238, 42, 180, 0, 7, 17, 1, 224, 27, 96, 28, 79, 132, 1, 255]
abbrev dktX4_divides_3 : List UInt8 := dkwX4_divides_3 ++ dktX4_divides_4
def dkwX4_divides_2 : List UInt8 := [182, 0, 33, 42, 6, 16, 8, 182, 0, 27, 3, 61, 42, 6, 4, 182, 0, 37, 155, 0, 15, 42, 6, 4]
abbrev dktX4_divides_2 : List UInt8 := dkwX4_divides_2 ++ dktX4_divides_3
def dkwX4_divides_1 : List UInt8 := [46, 4, 100, 60, 27, 155, 0, 69, 42, 6, 4, 182, 0, 24, 42, 16, 8, 42, 3, 27, 182, 0, 10, 133]
abbrev dktX4_divides_1 : List UInt8 := dkwX4_divides_1 ++ dktX4_divides_2
def dkwX4_divides_0 : List UInt8 := [42, 180, 0, 1, 6, 3, 79, 42, 180, 0, 1, 5, 42, 180, 0, 1, 3, 46, 79, 42, 180, 0, 1, 3]
abbrev dktX4_divides_0 : List UInt8 := dkwX4_divides_0 ++ dktX4_divides_1
theorem dksX4_divides_0 : cX4_divides.data.toList.drop 0 = dktX4_divides_0 := by decide +kernel
theorem dksX4_divides_1 : cX4_divides.data.toList.drop 24 = dktX4_divides_1 := dk_seg dksX4_divides_0 24 rfl rfl
theorem dksX4_divides_2 : cX4_divides.data.toList.drop 48 = dktX4_divides_2 := dk_seg dksX4_divides_1 24 rfl rfl
theorem dksX4_divides_3 : cX4_divides.data.toList.drop 72 = dktX4_divides_3 := dk_seg dksX4_divides_2 24 rfl rfl
theorem dksX4_divides_4 : cX4_divides.data.toList.drop 95 = dktX4_divides_4 := dk_seg dksX4_divides_3 23 rfl rfl
theorem dX4_divides_0 : decode cX4_divides 0 = .ok (.aload_n 0, 1) := dk_42 (dk_at dksX4_divides_0 0 rfl rfl)
theorem dX4_divides_1 : decode cX4_divides 1 = .ok (.getfield 1, 3) := dk_180 0 1 (dk_at dksX4_divides_0 1 rfl rfl)
theorem dX4_divides_4 : decode cX4_divides 4 = .ok (.iconst 3, 1) := dk_6 (dk_at dksX4_divides_0 4 rfl rfl)
theorem dX4_divides_5 : decode cX4_divides 5 = .ok (.iconst 0, 1) := dk_3 (dk_at dksX4_divides_0 5 rfl rfl)
theorem dX4_divides_6 : decode cX4_divides 6 = .ok (.iastore, 1) := dk_79 (dk_at dksX4_divides_0 6 rfl rfl)
theorem dX4_divides_7 : decode cX4_divides 7 = .ok (.aload_n 0, 1) := dk_42 (dk_at dksX4_divides_0 7 rfl rfl)
theorem dX4_divides_8 : decode cX4_divides 8 = .ok (.getfield 1, 3) := dk_180 0 1 (dk_at dksX4_divides_0 8 rfl rfl)
theorem dX4_divides_11 : decode cX4_divides 11 = .ok (.iconst 2, 1) := dk_5 (dk_at dksX4_divides_0 11 rfl rfl)
theorem dX4_divides_12 : decode cX4_divides 12 = .ok (.aload_n 0, 1) := dk_42 (dk_at dksX4_divides_0 12 rfl rfl)
theorem dX4_divides_13 : decode cX4_divides 13 = .ok (.getfield 1, 3) := dk_180 0 1 (dk_at dksX4_divides_0 13 rfl rfl)
theorem dX4_divides_16 : decode cX4_divides 16 = .ok (.iconst 0, 1) := dk_3 (dk_at dksX4_divides_0 16 rfl rfl)
theorem dX4_divides_17 : decode cX4_divides 17 = .ok (.iaload, 1) := dk_46 (dk_at dksX4_divides_0 17 rfl rfl)
theorem dX4_divides_18 : decode cX4_divides 18 = .ok (.iastore, 1) := dk_79 (dk_at dksX4_divides_0 18 rfl rfl)
theorem dX4_divides_19 : decode cX4_divides 19 = .ok (.aload_n 0, 1) := dk_42 (dk_at dksX4_divides_0 19 rfl rfl)
theorem dX4_divides_20 : decode cX4_divides 20 = .ok (.getfield 1, 3) := dk_180 0 1 (dk_at dksX4_divides_0 20 rfl rfl)
theorem dX4_divides_23 : decode cX4_divides 23 = .ok (.iconst 0, 1) := dk_3 (dk_at dksX4_divides_0 23 rfl rfl)
theorem dX4_divides_24 : decode cX4_divides 24 = .ok (.iaload, 1) := dk_46 (dk_at dksX4_divides_1 0 rfl rfl)
theorem dX4_divides_25 : decode cX4_divides 25 = .ok (.iconst 1, 1) := dk_4 (dk_at dksX4_divides_1 1 rfl rfl)
theorem dX4_divides_26 : decode cX4_divides 26 = .ok (.isub, 1) := dk_100 (dk_at dksX4_divides_1 2 rfl rfl)
theorem dX4_divides_27 : decode cX4_divides 27 = .ok (.istore_n 1, 1) := dk_60 (dk_at dksX4_divides_1 3 rfl rfl)
theorem dX4_divides_28 : decode cX4_divides 28 = .ok (.iload_n 1, 1) := dk_27 (dk_at dksX4_divides_1 4 rfl rfl)
theorem dX4_divides_29 : decode cX4_divides 29 = .ok (.ifCond .lt 69, 3) := dk_155 0 69 (dk_at dksX4_divides_1 5 rfl rfl)
theorem dX4_divides_32 : decode cX4_divides 32 = .ok (.aload_n 0, 1) := dk_42 (dk_at dksX4_divides_1 8 rfl rfl)
theorem dX4_divides_33 : decode cX4_divides 33 = .ok (.iconst 3, 1) := dk_6 (dk_at dksX4_divides_1 9 rfl rfl)
theorem dX4_divides_34 : decode cX4_divides 34 = .ok (.iconst 1, 1) := dk_4 (dk_at dksX4_divides_1 10 rfl rfl)
theorem dX4_divides_35 : decode cX4_divides 35 = .ok (.invokevirtual 24, 3) := dk_182 0 24 (dk_at dksX4_divides_1 11 rfl rfl)
theorem dX4_divides_38 : decode cX4_divides 38 = .ok (.aload_n 0, 1) := dk_42 (dk_at dksX4_divides_1 14 rfl rfl)
theorem dX4_divides_39 : decode cX4_divides 39 = .ok (.bipush 8, 2) := dk_16 8 (dk_at dksX4_divides_1 15 rfl rfl)
theorem dX4_divides_41 : decode cX4_divides 41 = .ok (.aload_n 0, 1) := dk_42 (dk_at dksX4_divides_1 17 rfl rfl)
theorem dX4_divides_42 : decode cX4_divides 42 = .ok (.iconst 0, 1) := dk_3 (dk_at dksX4_divides_1 18 rfl rfl)
theorem dX4_divides_43 : decode cX4_divides 43 = .ok (.iload_n 1, 1) := dk_27 (dk_at dksX4_divides_1 19 rfl rfl)
theorem dX4_divides_44 : decode cX4_divides 44 = .ok (.invokevirtual 10, 3) := dk_182 0 10 (dk_at dksX4_divides_1 20 rfl rfl)
theorem dX4_divides_47 : decode cX4_divides 47 = .ok (.i2l, 1) := dk_133 (dk_at dksX4_divides_1 23 rfl rfl)
theorem dX4_divides_48 : decode cX4_divides 48 = .ok (.invokevirtual 33, 3) := dk_182 0 33 (dk_at dksX4_divides_2 0 rfl rfl)
theorem dX4_divides_51 : decode cX4_divides 51 = .ok (.aload_n 0, 1) := dk_42 (dk_at dksX4_divides_2 3 rfl rfl)
theorem dX4_divides_52 : decode cX4_divides 52 = .ok (.iconst 3, 1) := dk_6 (dk_at dksX4_divides_2 4 rfl rfl)
theorem dX4_divides_53 : decode cX4_divides 53 = .ok (.bipush 8, 2) := dk_16 8 (dk_at dksX4_divides_2 5 rfl rfl)
theorem dX4_divides_55 : decode cX4_divides 55 = .ok (.invokevirtual 27, 3) := dk_182 0 27 (dk_at dksX4_divides_2 7 rfl rfl)
theorem dX4_divides_58 : decode cX4_divides 58 = .ok (.iconst 0, 1) := dk_3 (dk_at dksX4_divides_2 10 rfl rfl)
theorem dX4_divides_59 : decode cX4_divides 59 = .ok (.istore_n 2, 1) := dk_61 (dk_at dksX4_divides_2 11 rfl rfl)
theorem dX4_divides_60 : decode cX4_divides 60 = .ok (.aload_n 0, 1) := dk_42 (dk_at dksX4_divides_2 12 rfl rfl)
theorem dX4_divides_61 : decode cX4_divides 61 = .ok (.iconst 3, 1) := dk_6 (dk_at dksX4_divides_2 13 rfl rfl)
theorem dX4_divides_62 : decode cX4_divides 62 = .ok (.iconst 1, 1) := dk_4 (dk_at dksX4_divides_2 14 rfl rfl)
theorem dX4_divides_63 : decode cX4_divides 63 = .ok (.invokevirtual 37, 3) := dk_182 0 37 (dk_at dksX4_divides_2 15 rfl rfl)
theorem dX4_divides_66 : decode cX4_divides 66 = .ok (.ifCond .lt 15, 3) := dk_155 0 15 (dk_at dksX4_divides_2 18 rfl rfl)
theorem dX4_divides_69 : decode cX4_divides 69 = .ok (.aload_n 0, 1) := dk_42 (dk_at dksX4_divides_2 21 rfl rfl)
theorem dX4_divides_70 : decode cX4_divides 70 = .ok (.iconst 3, 1) := dk_6 (dk_at dksX4_divides_2 22 rfl rfl)
theorem dX4_divides_71 : decode cX4_divides 71 = .ok (.iconst 1, 1) := dk_4 (dk_at dksX4_divides_2 23 rfl rfl)
theorem dX4_divides_72 : decode cX4_divides 72 = .ok (.invokevirtual 40, 3) := dk_182 0 40 (dk_at dksX4_divides_3 0 rfl rfl)
theorem dX4_divides_75 : decode cX4_divides 75 = .ok (.iinc 2 1, 3) := dk_132 2 1 (dk_at dksX4_divides_3 3 rfl rfl)
theorem dX4_divides_78 : decode cX4_divides 78 = .ok (.goto (-18), 3) := dk_167 255 238 (dk_at dksX4_divides_3 6 rfl rfl)
theorem dX4_divides_81 : decode cX4_divides 81 = .ok (.aload_n 0, 1) := dk_42 (dk_at dksX4_divides_3 9 rfl rfl)
theorem dX4_divides_82 : decode cX4_divides 82 = .ok (.getfield 7, 3) := dk_180 0 7 (dk_at dksX4_divides_3 10 rfl rfl)
theorem dX4_divides_85 : decode cX4_divides 85 = .ok (.sipush 480, 3) := dk_17 1 224 (dk_at dksX4_divides_3 13 rfl rfl)
theorem dX4_divides_88 : decode cX4_divides 88 = .ok (.iload_n 1, 1) := dk_27 (dk_at dksX4_divides_3 16 rfl rfl)
theorem dX4_divides_89 : decode cX4_divides 89 = .ok (.iadd, 1) := dk_96 (dk_at dksX4_divides_3 17 rfl rfl)
theorem dX4_divides_90 : decode cX4_divides 90 = .ok (.iload_n 2, 1) := dk_28 (dk_at dksX4_divides_3 18 rfl rfl)
theorem dX4_divides_91 : decode cX4_divides 91 = .ok (.iastore, 1) := dk_79 (dk_at dksX4_divides_3 19 rfl rfl)
theorem dX4_divides_92 : decode cX4_divides 92 = .ok (.iinc 1 (-1), 3) := dk_132 1 255 (dk_at dksX4_divides_3 20 rfl rfl)
theorem dX4_divides_95 : decode cX4_divides 95 = .ok (.goto (-67), 3) := dk_167 255 189 (dk_at dksX4_divides_4 0 rfl rfl)
theorem dX4_divides_98 : decode cX4_divides 98 = .ok (.aload_n 0, 1) := dk_42 (dk_at dksX4_divides_4 3 rfl rfl)
theorem dX4_divides_99 : decode cX4_divides 99 = .ok (.iconst 2, 1) := dk_5 (dk_at dksX4_divides_4 4 rfl rfl)
theorem dX4_divides_100 : decode cX4_divides 100 = .ok (.invokevirtual 20, 3) := dk_182 0 20 (dk_at dksX4_divides_4 5 rfl rfl)
theorem dX4_divides_103 : decode cX4_divides 103 = .ok (.return_, 1) := dk_177 (dk_at dksX4_divides_4 8 rfl rfl)
def dkwX4_round_8 : List UInt8 := [167, 0, 10, 42, 180, 0, 60, 21, 4, 46, 172]
abbrev dktX4_round_8 : List UInt8 := dkwX4_round_8 ++ []
def dkwX4_round_7 : List UInt8 := [167, 0, 4, 3, 21, 5, 182, 0, 223, 153, 0, 7, 3, 167, 0, 4, 7, 182, 0, 205, 153, 0, 7, 3]
abbrev dktX4_round_7 : List UInt8 := dkwX4_round_7 ++ dktX4_round_8
def dkwX4_round_6 : List UInt8 := [42, 42, 180, 0, 47, 154, 0, 35, 42, 21, 4, 7, 42, 180, 0, 56, 27, 47, 9, 148, 156, 0, 7, 4]
abbrev dktX4_round_6 : List UInt8 := dkwX4_round_6 ++ dktX4_round_7
def dkwX4_round_5 : List UInt8 := [182, 0, 30, 42, 4, 20, 0, 14, 182, 0, 33, 42, 182, 0, 43, 42, 5, 7, 182, 0, 30, 132, 5, 255]
abbrev dktX4_round_5 : List UInt8 := dkwX4_round_5 ++ dktX4_round_6
def dkwX4_round_4 : List UInt8 := [182, 1, 18, 42, 5, 7, 182, 0, 30, 42, 180, 0, 1, 7, 46, 28, 164, 0, 30, 42, 7, 3]
abbrev dktX4_round_4 : List UInt8 := dkwX4_round_4 ++ dktX4_round_5
def dkwX4_round_3 : List UInt8 := [3, 42, 180, 0, 56, 27, 47, 184, 0, 208, 28, 100, 184, 0, 231, 100, 54, 5, 42, 27, 21, 5, 29]
abbrev dktX4_round_3 : List UInt8 := dkwX4_round_3 ++ dktX4_round_4
def dkwX4_round_2 : List UInt8 := [27, 51, 154, 0, 7, 6, 167, 0, 4, 3, 182, 0, 205, 153, 0, 5, 3, 172, 42, 180, 0, 60, 27, 46]
abbrev dktX4_round_2 : List UInt8 := dkwX4_round_2 ++ dktX4_round_3
def dkwX4_round_1 : List UInt8 := [20, 1, 21, 184, 0, 182, 153, 0, 10, 29, 184, 1, 14, 154, 0, 7, 5, 167, 0, 17, 42, 180, 0, 63]
abbrev dktX4_round_1 : List UInt8 := dkwX4_round_1 ++ dktX4_round_2
def dkwX4_round_0 : List UInt8 := [42, 27, 184, 0, 198, 153, 0, 11, 21, 4, 184, 0, 198, 154, 0, 7, 4, 167, 0, 40, 28, 133, 10]
abbrev dktX4_round_0 : List UInt8 := dkwX4_round_0 ++ dktX4_round_1
theorem dksX4_round_0 : cX4_round.data.toList.drop 0 = dktX4_round_0 := by decide +kernel
theorem dksX4_round_1 : cX4_round.data.toList.drop 23 = dktX4_round_1 := dk_seg dksX4_round_0 23 rfl rfl
theorem dksX4_round_2 : cX4_round.data.toList.drop 47 = dktX4_round_2 := dk_seg dksX4_round_1 24 rfl rfl
theorem dksX4_round_3 : cX4_round.data.toList.drop 71 = dktX4_round_3 := dk_seg dksX4_round_2 24 rfl rfl
theorem dksX4_round_4 : cX4_round.data.toList.drop 94 = dktX4_round_4 := dk_seg dksX4_round_3 23 rfl rfl
theorem dksX4_round_5 : cX4_round.data.toList.drop 116 = dktX4_round_5 := dk_seg dksX4_round_4 22 rfl rfl
theorem dksX4_round_6 : cX4_round.data.toList.drop 140 = dktX4_round_6 := dk_seg dksX4_round_5 24 rfl rfl
theorem dksX4_round_7 : cX4_round.data.toList.drop 164 = dktX4_round_7 := dk_seg dksX4_round_6 24 rfl rfl
theorem dksX4_round_8 : cX4_round.data.toList.drop 188 = dktX4_round_8 := dk_seg dksX4_round_7 24 rfl rfl
theorem dX4_round_0 : decode cX4_round 0 = .ok (.aload_n 0, 1) := dk_42 (dk_at dksX4_round_0 0 rfl rfl)
theorem dX4_round_1 : decode cX4_round 1 = .ok (.iload_n 1, 1) := dk_27 (dk_at dksX4_round_0 1 rfl rfl)
theorem dX4_round_2 : decode cX4_round 2 = .ok (.invokestatic 198, 3) := dk_184 0 198 (dk_at dksX4_round_0 2 rfl rfl)
theorem dX4_round_5 : decode cX4_round 5 = .ok (.ifCond .eq 11, 3) := dk_153 0 11 (dk_at dksX4_round_0 5 rfl rfl)
theorem dX4_round_8 : decode cX4_round 8 = .ok (.iload 4, 2) := dk_21 4 (dk_at dksX4_round_0 8 rfl rfl)
theorem dX4_round_10 : decode cX4_round 10 = .ok (.invokestatic 198, 3) := dk_184 0 198 (dk_at dksX4_round_0 10 rfl rfl)
theorem dX4_round_13 : decode cX4_round 13 = .ok (.ifCond .ne 7, 3) := dk_154 0 7 (dk_at dksX4_round_0 13 rfl rfl)
theorem dX4_round_16 : decode cX4_round 16 = .ok (.iconst 1, 1) := dk_4 (dk_at dksX4_round_0 16 rfl rfl)
theorem dX4_round_17 : decode cX4_round 17 = .ok (.goto 40, 3) := dk_167 0 40 (dk_at dksX4_round_0 17 rfl rfl)
theorem dX4_round_20 : decode cX4_round 20 = .ok (.iload_n 2, 1) := dk_28 (dk_at dksX4_round_0 20 rfl rfl)
theorem dX4_round_21 : decode cX4_round 21 = .ok (.i2l, 1) := dk_133 (dk_at dksX4_round_0 21 rfl rfl)
theorem dX4_round_22 : decode cX4_round 22 = .ok (.lconst 1, 1) := dk_10 (dk_at dksX4_round_0 22 rfl rfl)
theorem dX4_round_23 : decode cX4_round 23 = .ok (.ldc2_w 277, 3) := dk_20 1 21 (dk_at dksX4_round_1 0 rfl rfl)
theorem dX4_round_26 : decode cX4_round 26 = .ok (.invokestatic 182, 3) := dk_184 0 182 (dk_at dksX4_round_1 3 rfl rfl)
theorem dX4_round_29 : decode cX4_round 29 = .ok (.ifCond .eq 10, 3) := dk_153 0 10 (dk_at dksX4_round_1 6 rfl rfl)
theorem dX4_round_32 : decode cX4_round 32 = .ok (.iload_n 3, 1) := dk_29 (dk_at dksX4_round_1 9 rfl rfl)
theorem dX4_round_33 : decode cX4_round 33 = .ok (.invokestatic 270, 3) := dk_184 1 14 (dk_at dksX4_round_1 10 rfl rfl)
theorem dX4_round_36 : decode cX4_round 36 = .ok (.ifCond .ne 7, 3) := dk_154 0 7 (dk_at dksX4_round_1 13 rfl rfl)
theorem dX4_round_39 : decode cX4_round 39 = .ok (.iconst 2, 1) := dk_5 (dk_at dksX4_round_1 16 rfl rfl)
theorem dX4_round_40 : decode cX4_round 40 = .ok (.goto 17, 3) := dk_167 0 17 (dk_at dksX4_round_1 17 rfl rfl)
theorem dX4_round_43 : decode cX4_round 43 = .ok (.aload_n 0, 1) := dk_42 (dk_at dksX4_round_1 20 rfl rfl)
theorem dX4_round_44 : decode cX4_round 44 = .ok (.getfield 63, 3) := dk_180 0 63 (dk_at dksX4_round_1 21 rfl rfl)
theorem dX4_round_47 : decode cX4_round 47 = .ok (.iload_n 1, 1) := dk_27 (dk_at dksX4_round_2 0 rfl rfl)
theorem dX4_round_48 : decode cX4_round 48 = .ok (.baload, 1) := dk_51 (dk_at dksX4_round_2 1 rfl rfl)
theorem dX4_round_49 : decode cX4_round 49 = .ok (.ifCond .ne 7, 3) := dk_154 0 7 (dk_at dksX4_round_2 2 rfl rfl)
theorem dX4_round_52 : decode cX4_round 52 = .ok (.iconst 3, 1) := dk_6 (dk_at dksX4_round_2 5 rfl rfl)
theorem dX4_round_53 : decode cX4_round 53 = .ok (.goto 4, 3) := dk_167 0 4 (dk_at dksX4_round_2 6 rfl rfl)
theorem dX4_round_56 : decode cX4_round 56 = .ok (.iconst 0, 1) := dk_3 (dk_at dksX4_round_2 9 rfl rfl)
theorem dX4_round_57 : decode cX4_round 57 = .ok (.invokevirtual 205, 3) := dk_182 0 205 (dk_at dksX4_round_2 10 rfl rfl)
theorem dX4_round_60 : decode cX4_round 60 = .ok (.ifCond .eq 5, 3) := dk_153 0 5 (dk_at dksX4_round_2 13 rfl rfl)
theorem dX4_round_63 : decode cX4_round 63 = .ok (.iconst 0, 1) := dk_3 (dk_at dksX4_round_2 16 rfl rfl)
theorem dX4_round_64 : decode cX4_round 64 = .ok (.ireturn, 1) := dk_172 (dk_at dksX4_round_2 17 rfl rfl)
theorem dX4_round_65 : decode cX4_round 65 = .ok (.aload_n 0, 1) := dk_42 (dk_at dksX4_round_2 18 rfl rfl)
theorem dX4_round_66 : decode cX4_round 66 = .ok (.getfield 60, 3) := dk_180 0 60 (dk_at dksX4_round_2 19 rfl rfl)
theorem dX4_round_69 : decode cX4_round 69 = .ok (.iload_n 1, 1) := dk_27 (dk_at dksX4_round_2 22 rfl rfl)
theorem dX4_round_70 : decode cX4_round 70 = .ok (.iaload, 1) := dk_46 (dk_at dksX4_round_2 23 rfl rfl)
theorem dX4_round_71 : decode cX4_round 71 = .ok (.iconst 0, 1) := dk_3 (dk_at dksX4_round_3 0 rfl rfl)
theorem dX4_round_72 : decode cX4_round 72 = .ok (.aload_n 0, 1) := dk_42 (dk_at dksX4_round_3 1 rfl rfl)
theorem dX4_round_73 : decode cX4_round 73 = .ok (.getfield 56, 3) := dk_180 0 56 (dk_at dksX4_round_3 2 rfl rfl)
theorem dX4_round_76 : decode cX4_round 76 = .ok (.iload_n 1, 1) := dk_27 (dk_at dksX4_round_3 5 rfl rfl)
theorem dX4_round_77 : decode cX4_round 77 = .ok (.laload, 1) := dk_47 (dk_at dksX4_round_3 6 rfl rfl)
theorem dX4_round_78 : decode cX4_round 78 = .ok (.invokestatic 208, 3) := dk_184 0 208 (dk_at dksX4_round_3 7 rfl rfl)
theorem dX4_round_81 : decode cX4_round 81 = .ok (.iload_n 2, 1) := dk_28 (dk_at dksX4_round_3 10 rfl rfl)
theorem dX4_round_82 : decode cX4_round 82 = .ok (.isub, 1) := dk_100 (dk_at dksX4_round_3 11 rfl rfl)
theorem dX4_round_83 : decode cX4_round 83 = .ok (.invokestatic 231, 3) := dk_184 0 231 (dk_at dksX4_round_3 12 rfl rfl)
theorem dX4_round_86 : decode cX4_round 86 = .ok (.isub, 1) := dk_100 (dk_at dksX4_round_3 15 rfl rfl)
theorem dX4_round_87 : decode cX4_round 87 = .ok (.istore 5, 2) := dk_54 5 (dk_at dksX4_round_3 16 rfl rfl)
theorem dX4_round_89 : decode cX4_round 89 = .ok (.aload_n 0, 1) := dk_42 (dk_at dksX4_round_3 18 rfl rfl)
theorem dX4_round_90 : decode cX4_round 90 = .ok (.iload_n 1, 1) := dk_27 (dk_at dksX4_round_3 19 rfl rfl)
theorem dX4_round_91 : decode cX4_round 91 = .ok (.iload 5, 2) := dk_21 5 (dk_at dksX4_round_3 20 rfl rfl)
theorem dX4_round_93 : decode cX4_round 93 = .ok (.iload_n 3, 1) := dk_29 (dk_at dksX4_round_3 22 rfl rfl)
theorem dX4_round_94 : decode cX4_round 94 = .ok (.invokevirtual 274, 3) := dk_182 1 18 (dk_at dksX4_round_4 0 rfl rfl)
theorem dX4_round_97 : decode cX4_round 97 = .ok (.aload_n 0, 1) := dk_42 (dk_at dksX4_round_4 3 rfl rfl)
theorem dX4_round_98 : decode cX4_round 98 = .ok (.iconst 2, 1) := dk_5 (dk_at dksX4_round_4 4 rfl rfl)
theorem dX4_round_99 : decode cX4_round 99 = .ok (.iconst 4, 1) := dk_7 (dk_at dksX4_round_4 5 rfl rfl)
theorem dX4_round_100 : decode cX4_round 100 = .ok (.invokevirtual 30, 3) := dk_182 0 30 (dk_at dksX4_round_4 6 rfl rfl)
theorem dX4_round_103 : decode cX4_round 103 = .ok (.aload_n 0, 1) := dk_42 (dk_at dksX4_round_4 9 rfl rfl)
theorem dX4_round_104 : decode cX4_round 104 = .ok (.getfield 1, 3) := dk_180 0 1 (dk_at dksX4_round_4 10 rfl rfl)
theorem dX4_round_107 : decode cX4_round 107 = .ok (.iconst 4, 1) := dk_7 (dk_at dksX4_round_4 13 rfl rfl)
theorem dX4_round_108 : decode cX4_round 108 = .ok (.iaload, 1) := dk_46 (dk_at dksX4_round_4 14 rfl rfl)
theorem dX4_round_109 : decode cX4_round 109 = .ok (.iload_n 2, 1) := dk_28 (dk_at dksX4_round_4 15 rfl rfl)
theorem dX4_round_110 : decode cX4_round 110 = .ok (.if_icmp .le 30, 3) := dk_164 0 30 (dk_at dksX4_round_4 16 rfl rfl)
theorem dX4_round_113 : decode cX4_round 113 = .ok (.aload_n 0, 1) := dk_42 (dk_at dksX4_round_4 19 rfl rfl)
theorem dX4_round_114 : decode cX4_round 114 = .ok (.iconst 4, 1) := dk_7 (dk_at dksX4_round_4 20 rfl rfl)
theorem dX4_round_115 : decode cX4_round 115 = .ok (.iconst 0, 1) := dk_3 (dk_at dksX4_round_4 21 rfl rfl)
theorem dX4_round_116 : decode cX4_round 116 = .ok (.invokevirtual 30, 3) := dk_182 0 30 (dk_at dksX4_round_5 0 rfl rfl)
theorem dX4_round_119 : decode cX4_round 119 = .ok (.aload_n 0, 1) := dk_42 (dk_at dksX4_round_5 3 rfl rfl)
theorem dX4_round_120 : decode cX4_round 120 = .ok (.iconst 1, 1) := dk_4 (dk_at dksX4_round_5 4 rfl rfl)
theorem dX4_round_121 : decode cX4_round 121 = .ok (.ldc2_w 14, 3) := dk_20 0 14 (dk_at dksX4_round_5 5 rfl rfl)
theorem dX4_round_124 : decode cX4_round 124 = .ok (.invokevirtual 33, 3) := dk_182 0 33 (dk_at dksX4_round_5 8 rfl rfl)
theorem dX4_round_127 : decode cX4_round 127 = .ok (.aload_n 0, 1) := dk_42 (dk_at dksX4_round_5 11 rfl rfl)
theorem dX4_round_128 : decode cX4_round 128 = .ok (.invokevirtual 43, 3) := dk_182 0 43 (dk_at dksX4_round_5 12 rfl rfl)
theorem dX4_round_131 : decode cX4_round 131 = .ok (.aload_n 0, 1) := dk_42 (dk_at dksX4_round_5 15 rfl rfl)
theorem dX4_round_132 : decode cX4_round 132 = .ok (.iconst 2, 1) := dk_5 (dk_at dksX4_round_5 16 rfl rfl)
theorem dX4_round_133 : decode cX4_round 133 = .ok (.iconst 4, 1) := dk_7 (dk_at dksX4_round_5 17 rfl rfl)
theorem dX4_round_134 : decode cX4_round 134 = .ok (.invokevirtual 30, 3) := dk_182 0 30 (dk_at dksX4_round_5 18 rfl rfl)
theorem dX4_round_137 : decode cX4_round 137 = .ok (.iinc 5 (-1), 3) := dk_132 5 255 (dk_at dksX4_round_5 21 rfl rfl)
theorem dX4_round_140 : decode cX4_round 140 = .ok (.aload_n 0, 1) := dk_42 (dk_at dksX4_round_6 0 rfl rfl)
theorem dX4_round_141 : decode cX4_round 141 = .ok (.aload_n 0, 1) := dk_42 (dk_at dksX4_round_6 1 rfl rfl)
theorem dX4_round_142 : decode cX4_round 142 = .ok (.getfield 47, 3) := dk_180 0 47 (dk_at dksX4_round_6 2 rfl rfl)
theorem dX4_round_145 : decode cX4_round 145 = .ok (.ifCond .ne 35, 3) := dk_154 0 35 (dk_at dksX4_round_6 5 rfl rfl)
theorem dX4_round_148 : decode cX4_round 148 = .ok (.aload_n 0, 1) := dk_42 (dk_at dksX4_round_6 8 rfl rfl)
theorem dX4_round_149 : decode cX4_round 149 = .ok (.iload 4, 2) := dk_21 4 (dk_at dksX4_round_6 9 rfl rfl)
theorem dX4_round_151 : decode cX4_round 151 = .ok (.iconst 4, 1) := dk_7 (dk_at dksX4_round_6 11 rfl rfl)
theorem dX4_round_152 : decode cX4_round 152 = .ok (.aload_n 0, 1) := dk_42 (dk_at dksX4_round_6 12 rfl rfl)
theorem dX4_round_153 : decode cX4_round 153 = .ok (.getfield 56, 3) := dk_180 0 56 (dk_at dksX4_round_6 13 rfl rfl)
theorem dX4_round_156 : decode cX4_round 156 = .ok (.iload_n 1, 1) := dk_27 (dk_at dksX4_round_6 16 rfl rfl)
theorem dX4_round_157 : decode cX4_round 157 = .ok (.laload, 1) := dk_47 (dk_at dksX4_round_6 17 rfl rfl)
theorem dX4_round_158 : decode cX4_round 158 = .ok (.lconst 0, 1) := dk_9 (dk_at dksX4_round_6 18 rfl rfl)
theorem dX4_round_159 : decode cX4_round 159 = .ok (.lcmp, 1) := dk_148 (dk_at dksX4_round_6 19 rfl rfl)
theorem dX4_round_160 : decode cX4_round 160 = .ok (.ifCond .ge 7, 3) := dk_156 0 7 (dk_at dksX4_round_6 20 rfl rfl)
theorem dX4_round_163 : decode cX4_round 163 = .ok (.iconst 1, 1) := dk_4 (dk_at dksX4_round_6 23 rfl rfl)
theorem dX4_round_164 : decode cX4_round 164 = .ok (.goto 4, 3) := dk_167 0 4 (dk_at dksX4_round_7 0 rfl rfl)
theorem dX4_round_167 : decode cX4_round 167 = .ok (.iconst 0, 1) := dk_3 (dk_at dksX4_round_7 3 rfl rfl)
theorem dX4_round_168 : decode cX4_round 168 = .ok (.iload 5, 2) := dk_21 5 (dk_at dksX4_round_7 4 rfl rfl)
theorem dX4_round_170 : decode cX4_round 170 = .ok (.invokevirtual 223, 3) := dk_182 0 223 (dk_at dksX4_round_7 6 rfl rfl)
theorem dX4_round_173 : decode cX4_round 173 = .ok (.ifCond .eq 7, 3) := dk_153 0 7 (dk_at dksX4_round_7 9 rfl rfl)
theorem dX4_round_176 : decode cX4_round 176 = .ok (.iconst 0, 1) := dk_3 (dk_at dksX4_round_7 12 rfl rfl)
theorem dX4_round_177 : decode cX4_round 177 = .ok (.goto 4, 3) := dk_167 0 4 (dk_at dksX4_round_7 13 rfl rfl)
theorem dX4_round_180 : decode cX4_round 180 = .ok (.iconst 4, 1) := dk_7 (dk_at dksX4_round_7 16 rfl rfl)
theorem dX4_round_181 : decode cX4_round 181 = .ok (.invokevirtual 205, 3) := dk_182 0 205 (dk_at dksX4_round_7 17 rfl rfl)
theorem dX4_round_184 : decode cX4_round 184 = .ok (.ifCond .eq 7, 3) := dk_153 0 7 (dk_at dksX4_round_7 20 rfl rfl)
theorem dX4_round_187 : decode cX4_round 187 = .ok (.iconst 0, 1) := dk_3 (dk_at dksX4_round_7 23 rfl rfl)
theorem dX4_round_188 : decode cX4_round 188 = .ok (.goto 10, 3) := dk_167 0 10 (dk_at dksX4_round_8 0 rfl rfl)
theorem dX4_round_191 : decode cX4_round 191 = .ok (.aload_n 0, 1) := dk_42 (dk_at dksX4_round_8 3 rfl rfl)
theorem dX4_round_192 : decode cX4_round 192 = .ok (.getfield 60, 3) := dk_180 0 60 (dk_at dksX4_round_8 4 rfl rfl)
theorem dX4_round_195 : decode cX4_round 195 = .ok (.iload 4, 2) := dk_21 4 (dk_at dksX4_round_8 7 rfl rfl)
theorem dX4_round_197 : decode cX4_round 197 = .ok (.iaload, 1) := dk_46 (dk_at dksX4_round_8 9 rfl rfl)
theorem dX4_round_198 : decode cX4_round 198 = .ok (.ireturn, 1) := dk_172 (dk_at dksX4_round_8 10 rfl rfl)
def dkwX4_divide_10 : List UInt8 := [180, 0, 56, 21, 5, 47, 184, 0, 208, 172]
abbrev dktX4_divide_10 : List UInt8 := dkwX4_divide_10 ++ []
def dkwX4_divide_9 : List UInt8 := [182, 0, 223, 153, 0, 7, 3, 167, 0, 4, 7, 182, 0, 205, 153, 0, 7, 3, 167, 0, 13, 42]
abbrev dktX4_divide_9 : List UInt8 := dkwX4_divide_9 ++ dktX4_divide_10
def dkwX4_divide_8 : List UInt8 := [21, 7, 21, 4, 182, 1, 10, 42, 42, 180, 0, 47, 154, 0, 20, 42, 21, 5, 5, 21, 7, 29]
abbrev dktX4_divide_8 : List UInt8 := dkwX4_divide_8 ++ dktX4_divide_9
def dkwX4_divide_7 : List UInt8 := [182, 0, 24, 42, 4, 42, 180, 0, 56, 28, 47, 182, 0, 33, 42, 4, 21, 6, 116, 182, 0, 24, 42]
abbrev dktX4_divide_7 : List UInt8 := dkwX4_divide_7 ++ dktX4_divide_8
def dkwX4_divide_6 : List UInt8 := [54, 7, 42, 3, 181, 0, 47, 42, 3, 42, 180, 0, 56, 27, 47, 182, 0, 33, 42, 3, 21, 6]
abbrev dktX4_divide_6 : List UInt8 := dkwX4_divide_6 ++ dktX4_divide_7
def dkwX4_divide_5 : List UInt8 := [180, 0, 56, 28, 47, 9, 148, 156, 0, 7, 4, 167, 0, 4, 3, 159, 0, 7, 4, 167, 0, 4, 3]
abbrev dktX4_divide_5 : List UInt8 := dkwX4_divide_5 ++ dktX4_divide_6
def dkwX4_divide_4 : List UInt8 := [100, 29, 96, 54, 6, 42, 180, 0, 56, 27, 47, 9, 148, 156, 0, 7, 4, 167, 0, 4, 3, 42]
abbrev dktX4_divide_4 : List UInt8 := dkwX4_divide_4 ++ dktX4_divide_5
def dkwX4_divide_3 : List UInt8 := [167, 0, 4, 3, 182, 0, 205, 153, 0, 5, 3, 172, 42, 180, 0, 60, 28, 46, 42, 180, 0, 60, 27, 46]
abbrev dktX4_divide_3 : List UInt8 := dkwX4_divide_3 ++ dktX4_divide_4
def dkwX4_divide_2 : List UInt8 := [180, 0, 63, 28, 51, 154, 0, 7, 6, 167, 0, 19, 42, 180, 0, 56, 28, 47, 9, 148, 154, 0, 7, 7]
abbrev dktX4_divide_2 : List UInt8 := dkwX4_divide_2 ++ dktX4_divide_3
def dkwX4_divide_1 : List UInt8 := [21, 4, 184, 1, 14, 154, 0, 7, 5, 167, 0, 41, 42, 180, 0, 63, 27, 51, 153, 0, 12, 42]
abbrev dktX4_divide_1 : List UInt8 := dkwX4_divide_1 ++ dktX4_divide_2
def dkwX4_divide_0 : List UInt8 := [42, 42, 27, 28, 21, 5, 182, 0, 244, 158, 0, 7, 4, 167, 0, 60, 29, 184, 0, 190, 153, 0, 11]
abbrev dktX4_divide_0 : List UInt8 := dkwX4_divide_0 ++ dktX4_divide_1
theorem dksX4_divide_0 : cX4_divide.data.toList.drop 0 = dktX4_divide_0 := by decide +kernel
theorem dksX4_divide_1 : cX4_divide.data.toList.drop 23 = dktX4_divide_1 := dk_seg dksX4_divide_0 23 rfl rfl
theorem dksX4_divide_2 : cX4_divide.data.toList.drop 45 = dktX4_divide_2 := dk_seg dksX4_divide_1 22 rfl rfl
theorem dksX4_divide_3 : cX4_divide.data.toList.drop 69 = dktX4_divide_3 := dk_seg dksX4_divide_2 24 rfl rfl
theorem dksX4_divide_4 : cX4_divide.data.toList.drop 93 = dktX4_divide_4 := dk_seg dksX4_divide_3 24 rfl rfl
theorem dksX4_divide_5 : cX4_divide.data.toList.drop 115 = dktX4_divide_5 := dk_seg dksX4_divide_4 22 rfl rfl
theorem dksX4_divide_6 : cX4_divide.data.toList.drop 138 = dktX4_divide_6 := dk_seg dksX4_divide_5 23 rfl rfl
theorem dksX4_divide_7 : cX4_divide.data.toList.drop 160 = dktX4_divide_7 := dk_seg dksX4_divide_6 22 rfl rfl
theorem dksX4_divide_8 : cX4_divide.data.toList.drop 183 = dktX4_divide_8 := dk_seg dksX4_divide_7 23 rfl rfl
theorem dksX4_divide_9 : cX4_divide.data.toList.drop 205 = dktX4_divide_9 := dk_seg dksX4_divide_8 22 rfl rfl
theorem dksX4_divide_10 : cX4_divide.data.toList.drop 227 = dktX4_divide_10 := dk_seg dksX4_divide_9 22 rfl rfl
theorem dX4_divide_0 : decode cX4_divide 0 = .ok (.aload_n 0, 1) := dk_42 (dk_at dksX4_divide_0 0 rfl rfl)
theorem dX4_divide_1 : decode cX4_divide 1 = .ok (.aload_n 0, 1) := dk_42 (dk_at dksX4_divide_0 1 rfl rfl)
theorem dX4_divide_2 : decode cX4_divide 2 = .ok (.iload_n 1, 1) := dk_27 (dk_at dksX4_divide_0 2 rfl rfl)
theorem dX4_divide_3 : decode cX4_divide 3 = .ok (.iload_n 2, 1) := dk_28 (dk_at dksX4_divide_0 3 rfl rfl)
theorem dX4_divide_4 : decode cX4_divide 4 = .ok (.iload 5, 2) := dk_21 5 (dk_at dksX4_divide_0 4 rfl rfl)
theorem dX4_divide_6 : decode cX4_divide 6 = .ok (.invokevirtual 244, 3) := dk_182 0 244 (dk_at dksX4_divide_0 6 rfl rfl)
theorem dX4_divide_9 : decode cX4_divide 9 = .ok (.ifCond .le 7, 3) := dk_158 0 7 (dk_at dksX4_divide_0 9 rfl rfl)
theorem dX4_divide_12 : decode cX4_divide 12 = .ok (.iconst 1, 1) := dk_4 (dk_at dksX4_divide_0 12 rfl rfl)
theorem dX4_divide_13 : decode cX4_divide 13 = .ok (.goto 60, 3) := dk_167 0 60 (dk_at dksX4_divide_0 13 rfl rfl)
theorem dX4_divide_16 : decode cX4_divide 16 = .ok (.iload_n 3, 1) := dk_29 (dk_at dksX4_divide_0 16 rfl rfl)
theorem dX4_divide_17 : decode cX4_divide 17 = .ok (.invokestatic 190, 3) := dk_184 0 190 (dk_at dksX4_divide_0 17 rfl rfl)
theorem dX4_divide_20 : decode cX4_divide 20 = .ok (.ifCond .eq 11, 3) := dk_153 0 11 (dk_at dksX4_divide_0 20 rfl rfl)
theorem dX4_divide_23 : decode cX4_divide 23 = .ok (.iload 4, 2) := dk_21 4 (dk_at dksX4_divide_1 0 rfl rfl)
theorem dX4_divide_25 : decode cX4_divide 25 = .ok (.invokestatic 270, 3) := dk_184 1 14 (dk_at dksX4_divide_1 2 rfl rfl)
theorem dX4_divide_28 : decode cX4_divide 28 = .ok (.ifCond .ne 7, 3) := dk_154 0 7 (dk_at dksX4_divide_1 5 rfl rfl)
theorem dX4_divide_31 : decode cX4_divide 31 = .ok (.iconst 2, 1) := dk_5 (dk_at dksX4_divide_1 8 rfl rfl)
theorem dX4_divide_32 : decode cX4_divide 32 = .ok (.goto 41, 3) := dk_167 0 41 (dk_at dksX4_divide_1 9 rfl rfl)
theorem dX4_divide_35 : decode cX4_divide 35 = .ok (.aload_n 0, 1) := dk_42 (dk_at dksX4_divide_1 12 rfl rfl)
theorem dX4_divide_36 : decode cX4_divide 36 = .ok (.getfield 63, 3) := dk_180 0 63 (dk_at dksX4_divide_1 13 rfl rfl)
theorem dX4_divide_39 : decode cX4_divide 39 = .ok (.iload_n 1, 1) := dk_27 (dk_at dksX4_divide_1 16 rfl rfl)
theorem dX4_divide_40 : decode cX4_divide 40 = .ok (.baload, 1) := dk_51 (dk_at dksX4_divide_1 17 rfl rfl)
theorem dX4_divide_41 : decode cX4_divide 41 = .ok (.ifCond .eq 12, 3) := dk_153 0 12 (dk_at dksX4_divide_1 18 rfl rfl)
theorem dX4_divide_44 : decode cX4_divide 44 = .ok (.aload_n 0, 1) := dk_42 (dk_at dksX4_divide_1 21 rfl rfl)
theorem dX4_divide_45 : decode cX4_divide 45 = .ok (.getfield 63, 3) := dk_180 0 63 (dk_at dksX4_divide_2 0 rfl rfl)
theorem dX4_divide_48 : decode cX4_divide 48 = .ok (.iload_n 2, 1) := dk_28 (dk_at dksX4_divide_2 3 rfl rfl)
theorem dX4_divide_49 : decode cX4_divide 49 = .ok (.baload, 1) := dk_51 (dk_at dksX4_divide_2 4 rfl rfl)
theorem dX4_divide_50 : decode cX4_divide 50 = .ok (.ifCond .ne 7, 3) := dk_154 0 7 (dk_at dksX4_divide_2 5 rfl rfl)
theorem dX4_divide_53 : decode cX4_divide 53 = .ok (.iconst 3, 1) := dk_6 (dk_at dksX4_divide_2 8 rfl rfl)
theorem dX4_divide_54 : decode cX4_divide 54 = .ok (.goto 19, 3) := dk_167 0 19 (dk_at dksX4_divide_2 9 rfl rfl)
theorem dX4_divide_57 : decode cX4_divide 57 = .ok (.aload_n 0, 1) := dk_42 (dk_at dksX4_divide_2 12 rfl rfl)
theorem dX4_divide_58 : decode cX4_divide 58 = .ok (.getfield 56, 3) := dk_180 0 56 (dk_at dksX4_divide_2 13 rfl rfl)
theorem dX4_divide_61 : decode cX4_divide 61 = .ok (.iload_n 2, 1) := dk_28 (dk_at dksX4_divide_2 16 rfl rfl)
theorem dX4_divide_62 : decode cX4_divide 62 = .ok (.laload, 1) := dk_47 (dk_at dksX4_divide_2 17 rfl rfl)
theorem dX4_divide_63 : decode cX4_divide 63 = .ok (.lconst 0, 1) := dk_9 (dk_at dksX4_divide_2 18 rfl rfl)
theorem dX4_divide_64 : decode cX4_divide 64 = .ok (.lcmp, 1) := dk_148 (dk_at dksX4_divide_2 19 rfl rfl)
theorem dX4_divide_65 : decode cX4_divide 65 = .ok (.ifCond .ne 7, 3) := dk_154 0 7 (dk_at dksX4_divide_2 20 rfl rfl)
theorem dX4_divide_68 : decode cX4_divide 68 = .ok (.iconst 4, 1) := dk_7 (dk_at dksX4_divide_2 23 rfl rfl)
theorem dX4_divide_69 : decode cX4_divide 69 = .ok (.goto 4, 3) := dk_167 0 4 (dk_at dksX4_divide_3 0 rfl rfl)
theorem dX4_divide_72 : decode cX4_divide 72 = .ok (.iconst 0, 1) := dk_3 (dk_at dksX4_divide_3 3 rfl rfl)
theorem dX4_divide_73 : decode cX4_divide 73 = .ok (.invokevirtual 205, 3) := dk_182 0 205 (dk_at dksX4_divide_3 4 rfl rfl)
theorem dX4_divide_76 : decode cX4_divide 76 = .ok (.ifCond .eq 5, 3) := dk_153 0 5 (dk_at dksX4_divide_3 7 rfl rfl)
theorem dX4_divide_79 : decode cX4_divide 79 = .ok (.iconst 0, 1) := dk_3 (dk_at dksX4_divide_3 10 rfl rfl)
theorem dX4_divide_80 : decode cX4_divide 80 = .ok (.ireturn, 1) := dk_172 (dk_at dksX4_divide_3 11 rfl rfl)
theorem dX4_divide_81 : decode cX4_divide 81 = .ok (.aload_n 0, 1) := dk_42 (dk_at dksX4_divide_3 12 rfl rfl)
theorem dX4_divide_82 : decode cX4_divide 82 = .ok (.getfield 60, 3) := dk_180 0 60 (dk_at dksX4_divide_3 13 rfl rfl)
theorem dX4_divide_85 : decode cX4_divide 85 = .ok (.iload_n 2, 1) := dk_28 (dk_at dksX4_divide_3 16 rfl rfl)
theorem dX4_divide_86 : decode cX4_divide 86 = .ok (.iaload, 1) := dk_46 (dk_at dksX4_divide_3 17 rfl rfl)
theorem dX4_divide_87 : decode cX4_divide 87 = .ok (.aload_n 0, 1) := dk_42 (dk_at dksX4_divide_3 18 rfl rfl)
theorem dX4_divide_88 : decode cX4_divide 88 = .ok (.getfield 60, 3) := dk_180 0 60 (dk_at dksX4_divide_3 19 rfl rfl)
theorem dX4_divide_91 : decode cX4_divide 91 = .ok (.iload_n 1, 1) := dk_27 (dk_at dksX4_divide_3 22 rfl rfl)
theorem dX4_divide_92 : decode cX4_divide 92 = .ok (.iaload, 1) := dk_46 (dk_at dksX4_divide_3 23 rfl rfl)
theorem dX4_divide_93 : decode cX4_divide 93 = .ok (.isub, 1) := dk_100 (dk_at dksX4_divide_4 0 rfl rfl)
theorem dX4_divide_94 : decode cX4_divide 94 = .ok (.iload_n 3, 1) := dk_29 (dk_at dksX4_divide_4 1 rfl rfl)
theorem dX4_divide_95 : decode cX4_divide 95 = .ok (.iadd, 1) := dk_96 (dk_at dksX4_divide_4 2 rfl rfl)
theorem dX4_divide_96 : decode cX4_divide 96 = .ok (.istore 6, 2) := dk_54 6 (dk_at dksX4_divide_4 3 rfl rfl)
theorem dX4_divide_98 : decode cX4_divide 98 = .ok (.aload_n 0, 1) := dk_42 (dk_at dksX4_divide_4 5 rfl rfl)
theorem dX4_divide_99 : decode cX4_divide 99 = .ok (.getfield 56, 3) := dk_180 0 56 (dk_at dksX4_divide_4 6 rfl rfl)
theorem dX4_divide_102 : decode cX4_divide 102 = .ok (.iload_n 1, 1) := dk_27 (dk_at dksX4_divide_4 9 rfl rfl)
theorem dX4_divide_103 : decode cX4_divide 103 = .ok (.laload, 1) := dk_47 (dk_at dksX4_divide_4 10 rfl rfl)
theorem dX4_divide_104 : decode cX4_divide 104 = .ok (.lconst 0, 1) := dk_9 (dk_at dksX4_divide_4 11 rfl rfl)
theorem dX4_divide_105 : decode cX4_divide 105 = .ok (.lcmp, 1) := dk_148 (dk_at dksX4_divide_4 12 rfl rfl)
theorem dX4_divide_106 : decode cX4_divide 106 = .ok (.ifCond .ge 7, 3) := dk_156 0 7 (dk_at dksX4_divide_4 13 rfl rfl)
theorem dX4_divide_109 : decode cX4_divide 109 = .ok (.iconst 1, 1) := dk_4 (dk_at dksX4_divide_4 16 rfl rfl)
theorem dX4_divide_110 : decode cX4_divide 110 = .ok (.goto 4, 3) := dk_167 0 4 (dk_at dksX4_divide_4 17 rfl rfl)
theorem dX4_divide_113 : decode cX4_divide 113 = .ok (.iconst 0, 1) := dk_3 (dk_at dksX4_divide_4 20 rfl rfl)
theorem dX4_divide_114 : decode cX4_divide 114 = .ok (.aload_n 0, 1) := dk_42 (dk_at dksX4_divide_4 21 rfl rfl)
theorem dX4_divide_115 : decode cX4_divide 115 = .ok (.getfield 56, 3) := dk_180 0 56 (dk_at dksX4_divide_5 0 rfl rfl)
theorem dX4_divide_118 : decode cX4_divide 118 = .ok (.iload_n 2, 1) := dk_28 (dk_at dksX4_divide_5 3 rfl rfl)
theorem dX4_divide_119 : decode cX4_divide 119 = .ok (.laload, 1) := dk_47 (dk_at dksX4_divide_5 4 rfl rfl)
theorem dX4_divide_120 : decode cX4_divide 120 = .ok (.lconst 0, 1) := dk_9 (dk_at dksX4_divide_5 5 rfl rfl)
theorem dX4_divide_121 : decode cX4_divide 121 = .ok (.lcmp, 1) := dk_148 (dk_at dksX4_divide_5 6 rfl rfl)
theorem dX4_divide_122 : decode cX4_divide 122 = .ok (.ifCond .ge 7, 3) := dk_156 0 7 (dk_at dksX4_divide_5 7 rfl rfl)
theorem dX4_divide_125 : decode cX4_divide 125 = .ok (.iconst 1, 1) := dk_4 (dk_at dksX4_divide_5 10 rfl rfl)
theorem dX4_divide_126 : decode cX4_divide 126 = .ok (.goto 4, 3) := dk_167 0 4 (dk_at dksX4_divide_5 11 rfl rfl)
theorem dX4_divide_129 : decode cX4_divide 129 = .ok (.iconst 0, 1) := dk_3 (dk_at dksX4_divide_5 14 rfl rfl)
theorem dX4_divide_130 : decode cX4_divide 130 = .ok (.if_icmp .eq 7, 3) := dk_159 0 7 (dk_at dksX4_divide_5 15 rfl rfl)
theorem dX4_divide_133 : decode cX4_divide 133 = .ok (.iconst 1, 1) := dk_4 (dk_at dksX4_divide_5 18 rfl rfl)
theorem dX4_divide_134 : decode cX4_divide 134 = .ok (.goto 4, 3) := dk_167 0 4 (dk_at dksX4_divide_5 19 rfl rfl)
theorem dX4_divide_137 : decode cX4_divide 137 = .ok (.iconst 0, 1) := dk_3 (dk_at dksX4_divide_5 22 rfl rfl)
theorem dX4_divide_138 : decode cX4_divide 138 = .ok (.istore 7, 2) := dk_54 7 (dk_at dksX4_divide_6 0 rfl rfl)
theorem dX4_divide_140 : decode cX4_divide 140 = .ok (.aload_n 0, 1) := dk_42 (dk_at dksX4_divide_6 2 rfl rfl)
theorem dX4_divide_141 : decode cX4_divide 141 = .ok (.iconst 0, 1) := dk_3 (dk_at dksX4_divide_6 3 rfl rfl)
theorem dX4_divide_142 : decode cX4_divide 142 = .ok (.putfield 47, 3) := dk_181 0 47 (dk_at dksX4_divide_6 4 rfl rfl)
theorem dX4_divide_145 : decode cX4_divide 145 = .ok (.aload_n 0, 1) := dk_42 (dk_at dksX4_divide_6 7 rfl rfl)
theorem dX4_divide_146 : decode cX4_divide 146 = .ok (.iconst 0, 1) := dk_3 (dk_at dksX4_divide_6 8 rfl rfl)
theorem dX4_divide_147 : decode cX4_divide 147 = .ok (.aload_n 0, 1) := dk_42 (dk_at dksX4_divide_6 9 rfl rfl)
theorem dX4_divide_148 : decode cX4_divide 148 = .ok (.getfield 56, 3) := dk_180 0 56 (dk_at dksX4_divide_6 10 rfl rfl)
theorem dX4_divide_151 : decode cX4_divide 151 = .ok (.iload_n 1, 1) := dk_27 (dk_at dksX4_divide_6 13 rfl rfl)
theorem dX4_divide_152 : decode cX4_divide 152 = .ok (.laload, 1) := dk_47 (dk_at dksX4_divide_6 14 rfl rfl)
theorem dX4_divide_153 : decode cX4_divide 153 = .ok (.invokevirtual 33, 3) := dk_182 0 33 (dk_at dksX4_divide_6 15 rfl rfl)
theorem dX4_divide_156 : decode cX4_divide 156 = .ok (.aload_n 0, 1) := dk_42 (dk_at dksX4_divide_6 18 rfl rfl)
theorem dX4_divide_157 : decode cX4_divide 157 = .ok (.iconst 0, 1) := dk_3 (dk_at dksX4_divide_6 19 rfl rfl)
theorem dX4_divide_158 : decode cX4_divide 158 = .ok (.iload 6, 2) := dk_21 6 (dk_at dksX4_divide_6 20 rfl rfl)
theorem dX4_divide_160 : decode cX4_divide 160 = .ok (.invokevirtual 24, 3) := dk_182 0 24 (dk_at dksX4_divide_7 0 rfl rfl)
theorem dX4_divide_163 : decode cX4_divide 163 = .ok (.aload_n 0, 1) := dk_42 (dk_at dksX4_divide_7 3 rfl rfl)
theorem dX4_divide_164 : decode cX4_divide 164 = .ok (.iconst 1, 1) := dk_4 (dk_at dksX4_divide_7 4 rfl rfl)
theorem dX4_divide_165 : decode cX4_divide 165 = .ok (.aload_n 0, 1) := dk_42 (dk_at dksX4_divide_7 5 rfl rfl)
theorem dX4_divide_166 : decode cX4_divide 166 = .ok (.getfield 56, 3) := dk_180 0 56 (dk_at dksX4_divide_7 6 rfl rfl)
theorem dX4_divide_169 : decode cX4_divide 169 = .ok (.iload_n 2, 1) := dk_28 (dk_at dksX4_divide_7 9 rfl rfl)
theorem dX4_divide_170 : decode cX4_divide 170 = .ok (.laload, 1) := dk_47 (dk_at dksX4_divide_7 10 rfl rfl)
theorem dX4_divide_171 : decode cX4_divide 171 = .ok (.invokevirtual 33, 3) := dk_182 0 33 (dk_at dksX4_divide_7 11 rfl rfl)
theorem dX4_divide_174 : decode cX4_divide 174 = .ok (.aload_n 0, 1) := dk_42 (dk_at dksX4_divide_7 14 rfl rfl)
theorem dX4_divide_175 : decode cX4_divide 175 = .ok (.iconst 1, 1) := dk_4 (dk_at dksX4_divide_7 15 rfl rfl)
theorem dX4_divide_176 : decode cX4_divide 176 = .ok (.iload 6, 2) := dk_21 6 (dk_at dksX4_divide_7 16 rfl rfl)
theorem dX4_divide_178 : decode cX4_divide 178 = .ok (.ineg, 1) := dk_116 (dk_at dksX4_divide_7 18 rfl rfl)
theorem dX4_divide_179 : decode cX4_divide 179 = .ok (.invokevirtual 24, 3) := dk_182 0 24 (dk_at dksX4_divide_7 19 rfl rfl)
theorem dX4_divide_182 : decode cX4_divide 182 = .ok (.aload_n 0, 1) := dk_42 (dk_at dksX4_divide_7 22 rfl rfl)
theorem dX4_divide_183 : decode cX4_divide 183 = .ok (.iload 7, 2) := dk_21 7 (dk_at dksX4_divide_8 0 rfl rfl)
theorem dX4_divide_185 : decode cX4_divide 185 = .ok (.iload 4, 2) := dk_21 4 (dk_at dksX4_divide_8 2 rfl rfl)
theorem dX4_divide_187 : decode cX4_divide 187 = .ok (.invokevirtual 266, 3) := dk_182 1 10 (dk_at dksX4_divide_8 4 rfl rfl)
theorem dX4_divide_190 : decode cX4_divide 190 = .ok (.aload_n 0, 1) := dk_42 (dk_at dksX4_divide_8 7 rfl rfl)
theorem dX4_divide_191 : decode cX4_divide 191 = .ok (.aload_n 0, 1) := dk_42 (dk_at dksX4_divide_8 8 rfl rfl)
theorem dX4_divide_192 : decode cX4_divide 192 = .ok (.getfield 47, 3) := dk_180 0 47 (dk_at dksX4_divide_8 9 rfl rfl)
theorem dX4_divide_195 : decode cX4_divide 195 = .ok (.ifCond .ne 20, 3) := dk_154 0 20 (dk_at dksX4_divide_8 12 rfl rfl)
theorem dX4_divide_198 : decode cX4_divide 198 = .ok (.aload_n 0, 1) := dk_42 (dk_at dksX4_divide_8 15 rfl rfl)
theorem dX4_divide_199 : decode cX4_divide 199 = .ok (.iload 5, 2) := dk_21 5 (dk_at dksX4_divide_8 16 rfl rfl)
theorem dX4_divide_201 : decode cX4_divide 201 = .ok (.iconst 2, 1) := dk_5 (dk_at dksX4_divide_8 18 rfl rfl)
theorem dX4_divide_202 : decode cX4_divide 202 = .ok (.iload 7, 2) := dk_21 7 (dk_at dksX4_divide_8 19 rfl rfl)
theorem dX4_divide_204 : decode cX4_divide 204 = .ok (.iload_n 3, 1) := dk_29 (dk_at dksX4_divide_8 21 rfl rfl)
theorem dX4_divide_205 : decode cX4_divide 205 = .ok (.invokevirtual 223, 3) := dk_182 0 223 (dk_at dksX4_divide_9 0 rfl rfl)
theorem dX4_divide_208 : decode cX4_divide 208 = .ok (.ifCond .eq 7, 3) := dk_153 0 7 (dk_at dksX4_divide_9 3 rfl rfl)
theorem dX4_divide_211 : decode cX4_divide 211 = .ok (.iconst 0, 1) := dk_3 (dk_at dksX4_divide_9 6 rfl rfl)
theorem dX4_divide_212 : decode cX4_divide 212 = .ok (.goto 4, 3) := dk_167 0 4 (dk_at dksX4_divide_9 7 rfl rfl)
theorem dX4_divide_215 : decode cX4_divide 215 = .ok (.iconst 4, 1) := dk_7 (dk_at dksX4_divide_9 10 rfl rfl)
theorem dX4_divide_216 : decode cX4_divide 216 = .ok (.invokevirtual 205, 3) := dk_182 0 205 (dk_at dksX4_divide_9 11 rfl rfl)
theorem dX4_divide_219 : decode cX4_divide 219 = .ok (.ifCond .eq 7, 3) := dk_153 0 7 (dk_at dksX4_divide_9 14 rfl rfl)
theorem dX4_divide_222 : decode cX4_divide 222 = .ok (.iconst 0, 1) := dk_3 (dk_at dksX4_divide_9 17 rfl rfl)
theorem dX4_divide_223 : decode cX4_divide 223 = .ok (.goto 13, 3) := dk_167 0 13 (dk_at dksX4_divide_9 18 rfl rfl)
theorem dX4_divide_226 : decode cX4_divide 226 = .ok (.aload_n 0, 1) := dk_42 (dk_at dksX4_divide_9 21 rfl rfl)
theorem dX4_divide_227 : decode cX4_divide 227 = .ok (.getfield 56, 3) := dk_180 0 56 (dk_at dksX4_divide_10 0 rfl rfl)
theorem dX4_divide_230 : decode cX4_divide 230 = .ok (.iload 5, 2) := dk_21 5 (dk_at dksX4_divide_10 3 rfl rfl)
theorem dX4_divide_232 : decode cX4_divide 232 = .ok (.laload, 1) := dk_47 (dk_at dksX4_divide_10 5 rfl rfl)
theorem dX4_divide_233 : decode cX4_divide 233 = .ok (.invokestatic 208, 3) := dk_184 0 208 (dk_at dksX4_divide_10 6 rfl rfl)
theorem dX4_divide_236 : decode cX4_divide 236 = .ok (.ireturn, 1) := dk_172 (dk_at dksX4_divide_10 9 rfl rfl)
def dkwX4_divideExactly_13 : List UInt8 := [180, 0, 60, 29, 46, 172]
abbrev dktX4_divideExactly_13 : List UInt8 := dkwX4_divideExactly_13 ++ []
def dkwX4_divideExactly_12 : List UInt8 := [182, 0, 223, 153, 0, 7, 3, 167, 0, 4, 6, 182, 0, 205, 153, 0, 7, 3, 167, 0, 9, 42]
abbrev dktX4_divideExactly_12 : List UInt8 := dkwX4_divideExactly_12 ++ dktX4_divideExactly_13
def dkwX4_divideExactly_11 : List UInt8 := [180, 0, 56, 28, 47, 182, 0, 33, 42, 182, 0, 43, 42, 42, 29, 5, 21, 4, 21, 5, 21, 10, 96]
abbrev dktX4_divideExactly_11 : List UInt8 := dkwX4_divideExactly_11 ++ dktX4_divideExactly_12
def dkwX4_divideExactly_10 : List UInt8 := [54, 10, 42, 3, 42, 180, 0, 56, 27, 47, 182, 0, 33, 42, 3, 21, 10, 182, 0, 24, 42, 4, 42]
abbrev dktX4_divideExactly_10 : List UInt8 := dkwX4_divideExactly_10 ++ dktX4_divideExactly_11
def dkwX4_divideExactly_9 : List UInt8 := [154, 0, 7, 3, 167, 0, 4, 6, 182, 0, 205, 153, 0, 5, 3, 172, 21, 8, 21, 9, 184, 0, 231]
abbrev dktX4_divideExactly_9 : List UInt8 := dkwX4_divideExactly_9 ++ dktX4_divideExactly_10
def dkwX4_divideExactly_8 : List UInt8 := [55, 6, 132, 9, 1, 167, 255, 234, 42, 22, 6, 10, 148, 153, 0, 12, 22, 6, 20, 1, 31, 148]
abbrev dktX4_divideExactly_8 : List UInt8 := dkwX4_divideExactly_8 ++ dktX4_divideExactly_9
def dkwX4_divideExactly_7 : List UInt8 := [132, 8, 1, 167, 255, 234, 22, 6, 20, 1, 29, 113, 9, 148, 154, 0, 17, 22, 6, 20, 1, 29, 109]
abbrev dktX4_divideExactly_7 : List UInt8 := dkwX4_divideExactly_7 ++ dktX4_divideExactly_8
def dkwX4_divideExactly_6 : List UInt8 := [54, 8, 3, 54, 9, 22, 6, 20, 1, 27, 113, 9, 148, 154, 0, 17, 22, 6, 20, 1, 27, 109, 55, 6]
abbrev dktX4_divideExactly_6 : List UInt8 := dkwX4_divideExactly_6 ++ dktX4_divideExactly_7
def dkwX4_divideExactly_5 : List UInt8 := [180, 0, 56, 28, 47, 42, 180, 0, 56, 27, 47, 42, 180, 0, 56, 28, 47, 184, 1, 23, 109, 55, 6, 3]
abbrev dktX4_divideExactly_5 : List UInt8 := dkwX4_divideExactly_5 ++ dktX4_divideExactly_6
def dkwX4_divideExactly_4 : List UInt8 := [4, 167, 0, 4, 3, 54, 4, 42, 180, 0, 60, 27, 46, 42, 180, 0, 60, 28, 46, 100, 54, 5, 42]
abbrev dktX4_divideExactly_4 : List UInt8 := dkwX4_divideExactly_4 ++ dktX4_divideExactly_5
def dkwX4_divideExactly_3 : List UInt8 := [4, 167, 0, 4, 3, 42, 180, 0, 56, 28, 47, 9, 148, 156, 0, 7, 4, 167, 0, 4, 3, 159, 0, 7]
abbrev dktX4_divideExactly_3 : List UInt8 := dkwX4_divideExactly_3 ++ dktX4_divideExactly_4
def dkwX4_divideExactly_2 : List UInt8 := [6, 167, 0, 4, 3, 182, 0, 205, 153, 0, 5, 3, 172, 42, 180, 0, 56, 27, 47, 9, 148, 156, 0, 7]
abbrev dktX4_divideExactly_2 : List UInt8 := dkwX4_divideExactly_2 ++ dktX4_divideExactly_3
def dkwX4_divideExactly_1 : List UInt8 := [42, 180, 0, 63, 28, 51, 154, 0, 7, 5, 167, 0, 19, 42, 180, 0, 56, 28, 47, 9, 148, 154, 0, 7]
abbrev dktX4_divideExactly_1 : List UInt8 := dkwX4_divideExactly_1 ++ dktX4_divideExactly_2
def dkwX4_divideExactly_0 : List UInt8 := [42, 42, 27, 28, 29, 182, 0, 244, 158, 0, 7, 4, 167, 0, 41, 42, 180, 0, 63, 27, 51, 153, 0, 12]
abbrev dktX4_divideExactly_0 : List UInt8 := dkwX4_divideExactly_0 ++ dktX4_divideExactly_1
theorem dksX4_divideExactly_0 : cX4_divideExactly.data.toList.drop 0 = dktX4_divideExactly_0 := by decide +kernel
theorem dksX4_divideExactly_1 : cX4_divideExactly.data.toList.drop 24 = dktX4_divideExactly_1 := dk_seg dksX4_divideExactly_0 24 rfl rfl
theorem dksX4_divideExactly_2 : cX4_divideExactly.data.toList.drop 48 = dktX4_divideExactly_2 := dk_seg dksX4_divideExactly_1 24 rfl rfl
theorem dksX4_divideExactly_3 : cX4_divideExactly.data.toList.drop 72 = dktX4_divideExactly_3 := dk_seg dksX4_divideExactly_2 24 rfl rfl
theorem dksX4_divideExactly_4 : cX4_divideExactly.data.toList.drop 96 = dktX4_divideExactly_4 := dk_seg dksX4_divideExactly_3 24 rfl rfl
theorem dksX4_divideExactly_5 : cX4_divideExactly.data.toList.drop 119 = dktX4_divideExactly_5 := dk_seg dksX4_divideExactly_4 23 rfl rfl
theorem dksX4_divideExactly_6 : cX4_divideExactly.data.toList.drop 143 = dktX4_divideExactly_6 := dk_seg dksX4_divideExactly_5 24 rfl rfl
theorem dksX4_divideExactly_7 : cX4_divideExactly.data.toList.drop 167 = dktX4_divideExactly_7 := dk_seg dksX4_divideExactly_6 24 rfl rfl
theorem dksX4_divideExactly_8 : cX4_divideExactly.data.toList.drop 190 = dktX4_divideExactly_8 := dk_seg dksX4_divideExactly_7 23 rfl rfl
theorem dksX4_divideExactly_9 : cX4_divideExactly.data.toList.drop 212 = dktX4_divideExactly_9 := dk_seg dksX4_divideExactly_8 22 rfl rfl
theorem dksX4_divideExactly_10 : cX4_divideExactly.data.toList.drop 235 = dktX4_divideExactly_10 := dk_seg dksX4_divideExactly_9 23 rfl rfl
theorem dksX4_divideExactly_11 : cX4_divideExactly.data.toList.drop 258 = dktX4_divideExactly_11 := dk_seg dksX4_divideExactly_10 23 rfl rfl
theorem dksX4_divideExactly_12 : cX4_divideExactly.data.toList.drop 281 = dktX4_divideExactly_12 := dk_seg dksX4_divideExactly_11 23 rfl rfl
theorem dksX4_divideExactly_13 : cX4_divideExactly.data.toList.drop 303 = dktX4_divideExactly_13 := dk_seg dksX4_divideExactly_12 22 rfl rfl
theorem dX4_divideExactly_0 : decode cX4_divideExactly 0 = .ok (.aload_n 0, 1) := dk_42 (dk_at dksX4_divideExactly_0 0 rfl rfl)
theorem dX4_divideExactly_1 : decode cX4_divideExactly 1 = .ok (.aload_n 0, 1) := dk_42 (dk_at dksX4_divideExactly_0 1 rfl rfl)
theorem dX4_divideExactly_2 : decode cX4_divideExactly 2 = .ok (.iload_n 1, 1) := dk_27 (dk_at dksX4_divideExactly_0 2 rfl rfl)
theorem dX4_divideExactly_3 : decode cX4_divideExactly 3 = .ok (.iload_n 2, 1) := dk_28 (dk_at dksX4_divideExactly_0 3 rfl rfl)
theorem dX4_divideExactly_4 : decode cX4_divideExactly 4 = .ok (.iload_n 3, 1) := dk_29 (dk_at dksX4_divideExactly_0 4 rfl rfl)
theorem dX4_divideExactly_5 : decode cX4_divideExactly 5 = .ok (.invokevirtual 244, 3) := dk_182 0 244 (dk_at dksX4_divideExactly_0 5 rfl rfl)
theorem dX4_divideExactly_8 : decode cX4_divideExactly 8 = .ok (.ifCond .le 7, 3) := dk_158 0 7 (dk_at dksX4_divideExactly_0 8 rfl rfl)
theorem dX4_divideExactly_11 : decode cX4_divideExactly 11 = .ok (.iconst 1, 1) := dk_4 (dk_at dksX4_divideExactly_0 11 rfl rfl)
theorem dX4_divideExactly_12 : decode cX4_divideExactly 12 = .ok (.goto 41, 3) := dk_167 0 41 (dk_at dksX4_divideExactly_0 12 rfl rfl)
theorem dX4_divideExactly_15 : decode cX4_divideExactly 15 = .ok (.aload_n 0, 1) := dk_42 (dk_at dksX4_divideExactly_0 15 rfl rfl)
theorem dX4_divideExactly_16 : decode cX4_divideExactly 16 = .ok (.getfield 63, 3) := dk_180 0 63 (dk_at dksX4_divideExactly_0 16 rfl rfl)
theorem dX4_divideExactly_19 : decode cX4_divideExactly 19 = .ok (.iload_n 1, 1) := dk_27 (dk_at dksX4_divideExactly_0 19 rfl rfl)
theorem dX4_divideExactly_20 : decode cX4_divideExactly 20 = .ok (.baload, 1) := dk_51 (dk_at dksX4_divideExactly_0 20 rfl rfl)
theorem dX4_divideExactly_21 : decode cX4_divideExactly 21 = .ok (.ifCond .eq 12, 3) := dk_153 0 12 (dk_at dksX4_divideExactly_0 21 rfl rfl)
theorem dX4_divideExactly_24 : decode cX4_divideExactly 24 = .ok (.aload_n 0, 1) := dk_42 (dk_at dksX4_divideExactly_1 0 rfl rfl)
theorem dX4_divideExactly_25 : decode cX4_divideExactly 25 = .ok (.getfield 63, 3) := dk_180 0 63 (dk_at dksX4_divideExactly_1 1 rfl rfl)
theorem dX4_divideExactly_28 : decode cX4_divideExactly 28 = .ok (.iload_n 2, 1) := dk_28 (dk_at dksX4_divideExactly_1 4 rfl rfl)
theorem dX4_divideExactly_29 : decode cX4_divideExactly 29 = .ok (.baload, 1) := dk_51 (dk_at dksX4_divideExactly_1 5 rfl rfl)
theorem dX4_divideExactly_30 : decode cX4_divideExactly 30 = .ok (.ifCond .ne 7, 3) := dk_154 0 7 (dk_at dksX4_divideExactly_1 6 rfl rfl)
theorem dX4_divideExactly_33 : decode cX4_divideExactly 33 = .ok (.iconst 2, 1) := dk_5 (dk_at dksX4_divideExactly_1 9 rfl rfl)
theorem dX4_divideExactly_34 : decode cX4_divideExactly 34 = .ok (.goto 19, 3) := dk_167 0 19 (dk_at dksX4_divideExactly_1 10 rfl rfl)
theorem dX4_divideExactly_37 : decode cX4_divideExactly 37 = .ok (.aload_n 0, 1) := dk_42 (dk_at dksX4_divideExactly_1 13 rfl rfl)
theorem dX4_divideExactly_38 : decode cX4_divideExactly 38 = .ok (.getfield 56, 3) := dk_180 0 56 (dk_at dksX4_divideExactly_1 14 rfl rfl)
theorem dX4_divideExactly_41 : decode cX4_divideExactly 41 = .ok (.iload_n 2, 1) := dk_28 (dk_at dksX4_divideExactly_1 17 rfl rfl)
theorem dX4_divideExactly_42 : decode cX4_divideExactly 42 = .ok (.laload, 1) := dk_47 (dk_at dksX4_divideExactly_1 18 rfl rfl)
theorem dX4_divideExactly_43 : decode cX4_divideExactly 43 = .ok (.lconst 0, 1) := dk_9 (dk_at dksX4_divideExactly_1 19 rfl rfl)
theorem dX4_divideExactly_44 : decode cX4_divideExactly 44 = .ok (.lcmp, 1) := dk_148 (dk_at dksX4_divideExactly_1 20 rfl rfl)
theorem dX4_divideExactly_45 : decode cX4_divideExactly 45 = .ok (.ifCond .ne 7, 3) := dk_154 0 7 (dk_at dksX4_divideExactly_1 21 rfl rfl)
theorem dX4_divideExactly_48 : decode cX4_divideExactly 48 = .ok (.iconst 3, 1) := dk_6 (dk_at dksX4_divideExactly_2 0 rfl rfl)
theorem dX4_divideExactly_49 : decode cX4_divideExactly 49 = .ok (.goto 4, 3) := dk_167 0 4 (dk_at dksX4_divideExactly_2 1 rfl rfl)
theorem dX4_divideExactly_52 : decode cX4_divideExactly 52 = .ok (.iconst 0, 1) := dk_3 (dk_at dksX4_divideExactly_2 4 rfl rfl)
theorem dX4_divideExactly_53 : decode cX4_divideExactly 53 = .ok (.invokevirtual 205, 3) := dk_182 0 205 (dk_at dksX4_divideExactly_2 5 rfl rfl)
theorem dX4_divideExactly_56 : decode cX4_divideExactly 56 = .ok (.ifCond .eq 5, 3) := dk_153 0 5 (dk_at dksX4_divideExactly_2 8 rfl rfl)
theorem dX4_divideExactly_59 : decode cX4_divideExactly 59 = .ok (.iconst 0, 1) := dk_3 (dk_at dksX4_divideExactly_2 11 rfl rfl)
theorem dX4_divideExactly_60 : decode cX4_divideExactly 60 = .ok (.ireturn, 1) := dk_172 (dk_at dksX4_divideExactly_2 12 rfl rfl)
theorem dX4_divideExactly_61 : decode cX4_divideExactly 61 = .ok (.aload_n 0, 1) := dk_42 (dk_at dksX4_divideExactly_2 13 rfl rfl)
theorem dX4_divideExactly_62 : decode cX4_divideExactly 62 = .ok (.getfield 56, 3) := dk_180 0 56 (dk_at dksX4_divideExactly_2 14 rfl rfl)
theorem dX4_divideExactly_65 : decode cX4_divideExactly 65 = .ok (.iload_n 1, 1) := dk_27 (dk_at dksX4_divideExactly_2 17 rfl rfl)
theorem dX4_divideExactly_66 : decode cX4_divideExactly 66 = .ok (.laload, 1) := dk_47 (dk_at dksX4_divideExactly_2 18 rfl rfl)
theorem dX4_divideExactly_67 : decode cX4_divideExactly 67 = .ok (.lconst 0, 1) := dk_9 (dk_at dksX4_divideExactly_2 19 rfl rfl)
theorem dX4_divideExactly_68 : decode cX4_divideExactly 68 = .ok (.lcmp, 1) := dk_148 (dk_at dksX4_divideExactly_2 20 rfl rfl)
theorem dX4_divideExactly_69 : decode cX4_divideExactly 69 = .ok (.ifCond .ge 7, 3) := dk_156 0 7 (dk_at dksX4_divideExactly_2 21 rfl rfl)
theorem dX4_divideExactly_72 : decode cX4_divideExactly 72 = .ok (.iconst 1, 1) := dk_4 (dk_at dksX4_divideExactly_3 0 rfl rfl)
theorem dX4_divideExactly_73 : decode cX4_divideExactly 73 = .ok (.goto 4, 3) := dk_167 0 4 (dk_at dksX4_divideExactly_3 1 rfl rfl)
theorem dX4_divideExactly_76 : decode cX4_divideExactly 76 = .ok (.iconst 0, 1) := dk_3 (dk_at dksX4_divideExactly_3 4 rfl rfl)
theorem dX4_divideExactly_77 : decode cX4_divideExactly 77 = .ok (.aload_n 0, 1) := dk_42 (dk_at dksX4_divideExactly_3 5 rfl rfl)
theorem dX4_divideExactly_78 : decode cX4_divideExactly 78 = .ok (.getfield 56, 3) := dk_180 0 56 (dk_at dksX4_divideExactly_3 6 rfl rfl)
theorem dX4_divideExactly_81 : decode cX4_divideExactly 81 = .ok (.iload_n 2, 1) := dk_28 (dk_at dksX4_divideExactly_3 9 rfl rfl)
theorem dX4_divideExactly_82 : decode cX4_divideExactly 82 = .ok (.laload, 1) := dk_47 (dk_at dksX4_divideExactly_3 10 rfl rfl)
theorem dX4_divideExactly_83 : decode cX4_divideExactly 83 = .ok (.lconst 0, 1) := dk_9 (dk_at dksX4_divideExactly_3 11 rfl rfl)
theorem dX4_divideExactly_84 : decode cX4_divideExactly 84 = .ok (.lcmp, 1) := dk_148 (dk_at dksX4_divideExactly_3 12 rfl rfl)
theorem dX4_divideExactly_85 : decode cX4_divideExactly 85 = .ok (.ifCond .ge 7, 3) := dk_156 0 7 (dk_at dksX4_divideExactly_3 13 rfl rfl)
theorem dX4_divideExactly_88 : decode cX4_divideExactly 88 = .ok (.iconst 1, 1) := dk_4 (dk_at dksX4_divideExactly_3 16 rfl rfl)
theorem dX4_divideExactly_89 : decode cX4_divideExactly 89 = .ok (.goto 4, 3) := dk_167 0 4 (dk_at dksX4_divideExactly_3 17 rfl rfl)
theorem dX4_divideExactly_92 : decode cX4_divideExactly 92 = .ok (.iconst 0, 1) := dk_3 (dk_at dksX4_divideExactly_3 20 rfl rfl)
theorem dX4_divideExactly_93 : decode cX4_divideExactly 93 = .ok (.if_icmp .eq 7, 3) := dk_159 0 7 (dk_at dksX4_divideExactly_3 21 rfl rfl)
theorem dX4_divideExactly_96 : decode cX4_divideExactly 96 = .ok (.iconst 1, 1) := dk_4 (dk_at dksX4_divideExactly_4 0 rfl rfl)
theorem dX4_divideExactly_97 : decode cX4_divideExactly 97 = .ok (.goto 4, 3) := dk_167 0 4 (dk_at dksX4_divideExactly_4 1 rfl rfl)
theorem dX4_divideExactly_100 : decode cX4_divideExactly 100 = .ok (.iconst 0, 1) := dk_3 (dk_at dksX4_divideExactly_4 4 rfl rfl)
theorem dX4_divideExactly_101 : decode cX4_divideExactly 101 = .ok (.istore 4, 2) := dk_54 4 (dk_at dksX4_divideExactly_4 5 rfl rfl)
theorem dX4_divideExactly_103 : decode cX4_divideExactly 103 = .ok (.aload_n 0, 1) := dk_42 (dk_at dksX4_divideExactly_4 7 rfl rfl)
theorem dX4_divideExactly_104 : decode cX4_divideExactly 104 = .ok (.getfield 60, 3) := dk_180 0 60 (dk_at dksX4_divideExactly_4 8 rfl rfl)
theorem dX4_divideExactly_107 : decode cX4_divideExactly 107 = .ok (.iload_n 1, 1) := dk_27 (dk_at dksX4_divideExactly_4 11 rfl rfl)
theorem dX4_divideExactly_108 : decode cX4_divideExactly 108 = .ok (.iaload, 1) := dk_46 (dk_at dksX4_divideExactly_4 12 rfl rfl)
theorem dX4_divideExactly_109 : decode cX4_divideExactly 109 = .ok (.aload_n 0, 1) := dk_42 (dk_at dksX4_divideExactly_4 13 rfl rfl)
theorem dX4_divideExactly_110 : decode cX4_divideExactly 110 = .ok (.getfield 60, 3) := dk_180 0 60 (dk_at dksX4_divideExactly_4 14 rfl rfl)
theorem dX4_divideExactly_113 : decode cX4_divideExactly 113 = .ok (.iload_n 2, 1) := dk_28 (dk_at dksX4_divideExactly_4 17 rfl rfl)
theorem dX4_divideExactly_114 : decode cX4_divideExactly 114 = .ok (.iaload, 1) := dk_46 (dk_at dksX4_divideExactly_4 18 rfl rfl)
theorem dX4_divideExactly_115 : decode cX4_divideExactly 115 = .ok (.isub, 1) := dk_100 (dk_at dksX4_divideExactly_4 19 rfl rfl)
theorem dX4_divideExactly_116 : decode cX4_divideExactly 116 = .ok (.istore 5, 2) := dk_54 5 (dk_at dksX4_divideExactly_4 20 rfl rfl)
theorem dX4_divideExactly_118 : decode cX4_divideExactly 118 = .ok (.aload_n 0, 1) := dk_42 (dk_at dksX4_divideExactly_4 22 rfl rfl)
theorem dX4_divideExactly_119 : decode cX4_divideExactly 119 = .ok (.getfield 56, 3) := dk_180 0 56 (dk_at dksX4_divideExactly_5 0 rfl rfl)
theorem dX4_divideExactly_122 : decode cX4_divideExactly 122 = .ok (.iload_n 2, 1) := dk_28 (dk_at dksX4_divideExactly_5 3 rfl rfl)
theorem dX4_divideExactly_123 : decode cX4_divideExactly 123 = .ok (.laload, 1) := dk_47 (dk_at dksX4_divideExactly_5 4 rfl rfl)
theorem dX4_divideExactly_124 : decode cX4_divideExactly 124 = .ok (.aload_n 0, 1) := dk_42 (dk_at dksX4_divideExactly_5 5 rfl rfl)
theorem dX4_divideExactly_125 : decode cX4_divideExactly 125 = .ok (.getfield 56, 3) := dk_180 0 56 (dk_at dksX4_divideExactly_5 6 rfl rfl)
theorem dX4_divideExactly_128 : decode cX4_divideExactly 128 = .ok (.iload_n 1, 1) := dk_27 (dk_at dksX4_divideExactly_5 9 rfl rfl)
theorem dX4_divideExactly_129 : decode cX4_divideExactly 129 = .ok (.laload, 1) := dk_47 (dk_at dksX4_divideExactly_5 10 rfl rfl)
theorem dX4_divideExactly_130 : decode cX4_divideExactly 130 = .ok (.aload_n 0, 1) := dk_42 (dk_at dksX4_divideExactly_5 11 rfl rfl)
theorem dX4_divideExactly_131 : decode cX4_divideExactly 131 = .ok (.getfield 56, 3) := dk_180 0 56 (dk_at dksX4_divideExactly_5 12 rfl rfl)
theorem dX4_divideExactly_134 : decode cX4_divideExactly 134 = .ok (.iload_n 2, 1) := dk_28 (dk_at dksX4_divideExactly_5 15 rfl rfl)
theorem dX4_divideExactly_135 : decode cX4_divideExactly 135 = .ok (.laload, 1) := dk_47 (dk_at dksX4_divideExactly_5 16 rfl rfl)
theorem dX4_divideExactly_136 : decode cX4_divideExactly 136 = .ok (.invokestatic 279, 3) := dk_184 1 23 (dk_at dksX4_divideExactly_5 17 rfl rfl)
theorem dX4_divideExactly_139 : decode cX4_divideExactly 139 = .ok (.ldiv, 1) := dk_109 (dk_at dksX4_divideExactly_5 20 rfl rfl)
theorem dX4_divideExactly_140 : decode cX4_divideExactly 140 = .ok (.lstore 6, 2) := dk_55 6 (dk_at dksX4_divideExactly_5 21 rfl rfl)
theorem dX4_divideExactly_142 : decode cX4_divideExactly 142 = .ok (.iconst 0, 1) := dk_3 (dk_at dksX4_divideExactly_5 23 rfl rfl)
theorem dX4_divideExactly_143 : decode cX4_divideExactly 143 = .ok (.istore 8, 2) := dk_54 8 (dk_at dksX4_divideExactly_6 0 rfl rfl)
theorem dX4_divideExactly_145 : decode cX4_divideExactly 145 = .ok (.iconst 0, 1) := dk_3 (dk_at dksX4_divideExactly_6 2 rfl rfl)
theorem dX4_divideExactly_146 : decode cX4_divideExactly 146 = .ok (.istore 9, 2) := dk_54 9 (dk_at dksX4_divideExactly_6 3 rfl rfl)
theorem dX4_divideExactly_148 : decode cX4_divideExactly 148 = .ok (.lload 6, 2) := dk_22 6 (dk_at dksX4_divideExactly_6 5 rfl rfl)
theorem dX4_divideExactly_150 : decode cX4_divideExactly 150 = .ok (.ldc2_w 283, 3) := dk_20 1 27 (dk_at dksX4_divideExactly_6 7 rfl rfl)
theorem dX4_divideExactly_153 : decode cX4_divideExactly 153 = .ok (.lrem, 1) := dk_113 (dk_at dksX4_divideExactly_6 10 rfl rfl)
theorem dX4_divideExactly_154 : decode cX4_divideExactly 154 = .ok (.lconst 0, 1) := dk_9 (dk_at dksX4_divideExactly_6 11 rfl rfl)
theorem dX4_divideExactly_155 : decode cX4_divideExactly 155 = .ok (.lcmp, 1) := dk_148 (dk_at dksX4_divideExactly_6 12 rfl rfl)
theorem dX4_divideExactly_156 : decode cX4_divideExactly 156 = .ok (.ifCond .ne 17, 3) := dk_154 0 17 (dk_at dksX4_divideExactly_6 13 rfl rfl)
theorem dX4_divideExactly_159 : decode cX4_divideExactly 159 = .ok (.lload 6, 2) := dk_22 6 (dk_at dksX4_divideExactly_6 16 rfl rfl)
theorem dX4_divideExactly_161 : decode cX4_divideExactly 161 = .ok (.ldc2_w 283, 3) := dk_20 1 27 (dk_at dksX4_divideExactly_6 18 rfl rfl)
theorem dX4_divideExactly_164 : decode cX4_divideExactly 164 = .ok (.ldiv, 1) := dk_109 (dk_at dksX4_divideExactly_6 21 rfl rfl)
theorem dX4_divideExactly_165 : decode cX4_divideExactly 165 = .ok (.lstore 6, 2) := dk_55 6 (dk_at dksX4_divideExactly_6 22 rfl rfl)
theorem dX4_divideExactly_167 : decode cX4_divideExactly 167 = .ok (.iinc 8 1, 3) := dk_132 8 1 (dk_at dksX4_divideExactly_7 0 rfl rfl)
theorem dX4_divideExactly_170 : decode cX4_divideExactly 170 = .ok (.goto (-22), 3) := dk_167 255 234 (dk_at dksX4_divideExactly_7 3 rfl rfl)
theorem dX4_divideExactly_173 : decode cX4_divideExactly 173 = .ok (.lload 6, 2) := dk_22 6 (dk_at dksX4_divideExactly_7 6 rfl rfl)
theorem dX4_divideExactly_175 : decode cX4_divideExactly 175 = .ok (.ldc2_w 285, 3) := dk_20 1 29 (dk_at dksX4_divideExactly_7 8 rfl rfl)
theorem dX4_divideExactly_178 : decode cX4_divideExactly 178 = .ok (.lrem, 1) := dk_113 (dk_at dksX4_divideExactly_7 11 rfl rfl)
theorem dX4_divideExactly_179 : decode cX4_divideExactly 179 = .ok (.lconst 0, 1) := dk_9 (dk_at dksX4_divideExactly_7 12 rfl rfl)
theorem dX4_divideExactly_180 : decode cX4_divideExactly 180 = .ok (.lcmp, 1) := dk_148 (dk_at dksX4_divideExactly_7 13 rfl rfl)
theorem dX4_divideExactly_181 : decode cX4_divideExactly 181 = .ok (.ifCond .ne 17, 3) := dk_154 0 17 (dk_at dksX4_divideExactly_7 14 rfl rfl)
theorem dX4_divideExactly_184 : decode cX4_divideExactly 184 = .ok (.lload 6, 2) := dk_22 6 (dk_at dksX4_divideExactly_7 17 rfl rfl)
theorem dX4_divideExactly_186 : decode cX4_divideExactly 186 = .ok (.ldc2_w 285, 3) := dk_20 1 29 (dk_at dksX4_divideExactly_7 19 rfl rfl)
theorem dX4_divideExactly_189 : decode cX4_divideExactly 189 = .ok (.ldiv, 1) := dk_109 (dk_at dksX4_divideExactly_7 22 rfl rfl)
theorem dX4_divideExactly_190 : decode cX4_divideExactly 190 = .ok (.lstore 6, 2) := dk_55 6 (dk_at dksX4_divideExactly_8 0 rfl rfl)
theorem dX4_divideExactly_192 : decode cX4_divideExactly 192 = .ok (.iinc 9 1, 3) := dk_132 9 1 (dk_at dksX4_divideExactly_8 2 rfl rfl)
theorem dX4_divideExactly_195 : decode cX4_divideExactly 195 = .ok (.goto (-22), 3) := dk_167 255 234 (dk_at dksX4_divideExactly_8 5 rfl rfl)
theorem dX4_divideExactly_198 : decode cX4_divideExactly 198 = .ok (.aload_n 0, 1) := dk_42 (dk_at dksX4_divideExactly_8 8 rfl rfl)
theorem dX4_divideExactly_199 : decode cX4_divideExactly 199 = .ok (.lload 6, 2) := dk_22 6 (dk_at dksX4_divideExactly_8 9 rfl rfl)
theorem dX4_divideExactly_201 : decode cX4_divideExactly 201 = .ok (.lconst 1, 1) := dk_10 (dk_at dksX4_divideExactly_8 11 rfl rfl)
theorem dX4_divideExactly_202 : decode cX4_divideExactly 202 = .ok (.lcmp, 1) := dk_148 (dk_at dksX4_divideExactly_8 12 rfl rfl)
theorem dX4_divideExactly_203 : decode cX4_divideExactly 203 = .ok (.ifCond .eq 12, 3) := dk_153 0 12 (dk_at dksX4_divideExactly_8 13 rfl rfl)
theorem dX4_divideExactly_206 : decode cX4_divideExactly 206 = .ok (.lload 6, 2) := dk_22 6 (dk_at dksX4_divideExactly_8 16 rfl rfl)
theorem dX4_divideExactly_208 : decode cX4_divideExactly 208 = .ok (.ldc2_w 287, 3) := dk_20 1 31 (dk_at dksX4_divideExactly_8 18 rfl rfl)
theorem dX4_divideExactly_211 : decode cX4_divideExactly 211 = .ok (.lcmp, 1) := dk_148 (dk_at dksX4_divideExactly_8 21 rfl rfl)
theorem dX4_divideExactly_212 : decode cX4_divideExactly 212 = .ok (.ifCond .ne 7, 3) := dk_154 0 7 (dk_at dksX4_divideExactly_9 0 rfl rfl)
theorem dX4_divideExactly_215 : decode cX4_divideExactly 215 = .ok (.iconst 0, 1) := dk_3 (dk_at dksX4_divideExactly_9 3 rfl rfl)
theorem dX4_divideExactly_216 : decode cX4_divideExactly 216 = .ok (.goto 4, 3) := dk_167 0 4 (dk_at dksX4_divideExactly_9 4 rfl rfl)
theorem dX4_divideExactly_219 : decode cX4_divideExactly 219 = .ok (.iconst 3, 1) := dk_6 (dk_at dksX4_divideExactly_9 7 rfl rfl)
theorem dX4_divideExactly_220 : decode cX4_divideExactly 220 = .ok (.invokevirtual 205, 3) := dk_182 0 205 (dk_at dksX4_divideExactly_9 8 rfl rfl)
theorem dX4_divideExactly_223 : decode cX4_divideExactly 223 = .ok (.ifCond .eq 5, 3) := dk_153 0 5 (dk_at dksX4_divideExactly_9 11 rfl rfl)
theorem dX4_divideExactly_226 : decode cX4_divideExactly 226 = .ok (.iconst 0, 1) := dk_3 (dk_at dksX4_divideExactly_9 14 rfl rfl)
theorem dX4_divideExactly_227 : decode cX4_divideExactly 227 = .ok (.ireturn, 1) := dk_172 (dk_at dksX4_divideExactly_9 15 rfl rfl)
theorem dX4_divideExactly_228 : decode cX4_divideExactly 228 = .ok (.iload 8, 2) := dk_21 8 (dk_at dksX4_divideExactly_9 16 rfl rfl)
theorem dX4_divideExactly_230 : decode cX4_divideExactly 230 = .ok (.iload 9, 2) := dk_21 9 (dk_at dksX4_divideExactly_9 18 rfl rfl)
theorem dX4_divideExactly_232 : decode cX4_divideExactly 232 = .ok (.invokestatic 231, 3) := dk_184 0 231 (dk_at dksX4_divideExactly_9 20 rfl rfl)
theorem dX4_divideExactly_235 : decode cX4_divideExactly 235 = .ok (.istore 10, 2) := dk_54 10 (dk_at dksX4_divideExactly_10 0 rfl rfl)
theorem dX4_divideExactly_237 : decode cX4_divideExactly 237 = .ok (.aload_n 0, 1) := dk_42 (dk_at dksX4_divideExactly_10 2 rfl rfl)
theorem dX4_divideExactly_238 : decode cX4_divideExactly 238 = .ok (.iconst 0, 1) := dk_3 (dk_at dksX4_divideExactly_10 3 rfl rfl)
theorem dX4_divideExactly_239 : decode cX4_divideExactly 239 = .ok (.aload_n 0, 1) := dk_42 (dk_at dksX4_divideExactly_10 4 rfl rfl)
theorem dX4_divideExactly_240 : decode cX4_divideExactly 240 = .ok (.getfield 56, 3) := dk_180 0 56 (dk_at dksX4_divideExactly_10 5 rfl rfl)
theorem dX4_divideExactly_243 : decode cX4_divideExactly 243 = .ok (.iload_n 1, 1) := dk_27 (dk_at dksX4_divideExactly_10 8 rfl rfl)
theorem dX4_divideExactly_244 : decode cX4_divideExactly 244 = .ok (.laload, 1) := dk_47 (dk_at dksX4_divideExactly_10 9 rfl rfl)
theorem dX4_divideExactly_245 : decode cX4_divideExactly 245 = .ok (.invokevirtual 33, 3) := dk_182 0 33 (dk_at dksX4_divideExactly_10 10 rfl rfl)
theorem dX4_divideExactly_248 : decode cX4_divideExactly 248 = .ok (.aload_n 0, 1) := dk_42 (dk_at dksX4_divideExactly_10 13 rfl rfl)
theorem dX4_divideExactly_249 : decode cX4_divideExactly 249 = .ok (.iconst 0, 1) := dk_3 (dk_at dksX4_divideExactly_10 14 rfl rfl)
theorem dX4_divideExactly_250 : decode cX4_divideExactly 250 = .ok (.iload 10, 2) := dk_21 10 (dk_at dksX4_divideExactly_10 15 rfl rfl)
theorem dX4_divideExactly_252 : decode cX4_divideExactly 252 = .ok (.invokevirtual 24, 3) := dk_182 0 24 (dk_at dksX4_divideExactly_10 17 rfl rfl)
theorem dX4_divideExactly_255 : decode cX4_divideExactly 255 = .ok (.aload_n 0, 1) := dk_42 (dk_at dksX4_divideExactly_10 20 rfl rfl)
theorem dX4_divideExactly_256 : decode cX4_divideExactly 256 = .ok (.iconst 1, 1) := dk_4 (dk_at dksX4_divideExactly_10 21 rfl rfl)
theorem dX4_divideExactly_257 : decode cX4_divideExactly 257 = .ok (.aload_n 0, 1) := dk_42 (dk_at dksX4_divideExactly_10 22 rfl rfl)
theorem dX4_divideExactly_258 : decode cX4_divideExactly 258 = .ok (.getfield 56, 3) := dk_180 0 56 (dk_at dksX4_divideExactly_11 0 rfl rfl)
theorem dX4_divideExactly_261 : decode cX4_divideExactly 261 = .ok (.iload_n 2, 1) := dk_28 (dk_at dksX4_divideExactly_11 3 rfl rfl)
theorem dX4_divideExactly_262 : decode cX4_divideExactly 262 = .ok (.laload, 1) := dk_47 (dk_at dksX4_divideExactly_11 4 rfl rfl)
theorem dX4_divideExactly_263 : decode cX4_divideExactly 263 = .ok (.invokevirtual 33, 3) := dk_182 0 33 (dk_at dksX4_divideExactly_11 5 rfl rfl)
theorem dX4_divideExactly_266 : decode cX4_divideExactly 266 = .ok (.aload_n 0, 1) := dk_42 (dk_at dksX4_divideExactly_11 8 rfl rfl)
theorem dX4_divideExactly_267 : decode cX4_divideExactly 267 = .ok (.invokevirtual 43, 3) := dk_182 0 43 (dk_at dksX4_divideExactly_11 9 rfl rfl)
theorem dX4_divideExactly_270 : decode cX4_divideExactly 270 = .ok (.aload_n 0, 1) := dk_42 (dk_at dksX4_divideExactly_11 12 rfl rfl)
theorem dX4_divideExactly_271 : decode cX4_divideExactly 271 = .ok (.aload_n 0, 1) := dk_42 (dk_at dksX4_divideExactly_11 13 rfl rfl)
theorem dX4_divideExactly_272 : decode cX4_divideExactly 272 = .ok (.iload_n 3, 1) := dk_29 (dk_at dksX4_divideExactly_11 14 rfl rfl)
theorem dX4_divideExactly_273 : decode cX4_divideExactly 273 = .ok (.iconst 2, 1) := dk_5 (dk_at dksX4_divideExactly_11 15 rfl rfl)
theorem dX4_divideExactly_274 : decode cX4_divideExactly 274 = .ok (.iload 4, 2) := dk_21 4 (dk_at dksX4_divideExactly_11 16 rfl rfl)
theorem dX4_divideExactly_276 : decode cX4_divideExactly 276 = .ok (.iload 5, 2) := dk_21 5 (dk_at dksX4_divideExactly_11 18 rfl rfl)
theorem dX4_divideExactly_278 : decode cX4_divideExactly 278 = .ok (.iload 10, 2) := dk_21 10 (dk_at dksX4_divideExactly_11 20 rfl rfl)
theorem dX4_divideExactly_280 : decode cX4_divideExactly 280 = .ok (.iadd, 1) := dk_96 (dk_at dksX4_divideExactly_11 22 rfl rfl)
theorem dX4_divideExactly_281 : decode cX4_divideExactly 281 = .ok (.invokevirtual 223, 3) := dk_182 0 223 (dk_at dksX4_divideExactly_12 0 rfl rfl)
theorem dX4_divideExactly_284 : decode cX4_divideExactly 284 = .ok (.ifCond .eq 7, 3) := dk_153 0 7 (dk_at dksX4_divideExactly_12 3 rfl rfl)
theorem dX4_divideExactly_287 : decode cX4_divideExactly 287 = .ok (.iconst 0, 1) := dk_3 (dk_at dksX4_divideExactly_12 6 rfl rfl)
theorem dX4_divideExactly_288 : decode cX4_divideExactly 288 = .ok (.goto 4, 3) := dk_167 0 4 (dk_at dksX4_divideExactly_12 7 rfl rfl)
theorem dX4_divideExactly_291 : decode cX4_divideExactly 291 = .ok (.iconst 3, 1) := dk_6 (dk_at dksX4_divideExactly_12 10 rfl rfl)
theorem dX4_divideExactly_292 : decode cX4_divideExactly 292 = .ok (.invokevirtual 205, 3) := dk_182 0 205 (dk_at dksX4_divideExactly_12 11 rfl rfl)
theorem dX4_divideExactly_295 : decode cX4_divideExactly 295 = .ok (.ifCond .eq 7, 3) := dk_153 0 7 (dk_at dksX4_divideExactly_12 14 rfl rfl)
theorem dX4_divideExactly_298 : decode cX4_divideExactly 298 = .ok (.iconst 0, 1) := dk_3 (dk_at dksX4_divideExactly_12 17 rfl rfl)
theorem dX4_divideExactly_299 : decode cX4_divideExactly 299 = .ok (.goto 9, 3) := dk_167 0 9 (dk_at dksX4_divideExactly_12 18 rfl rfl)
theorem dX4_divideExactly_302 : decode cX4_divideExactly 302 = .ok (.aload_n 0, 1) := dk_42 (dk_at dksX4_divideExactly_12 21 rfl rfl)
theorem dX4_divideExactly_303 : decode cX4_divideExactly 303 = .ok (.getfield 60, 3) := dk_180 0 60 (dk_at dksX4_divideExactly_13 0 rfl rfl)
theorem dX4_divideExactly_306 : decode cX4_divideExactly 306 = .ok (.iload_n 3, 1) := dk_29 (dk_at dksX4_divideExactly_13 3 rfl rfl)
theorem dX4_divideExactly_307 : decode cX4_divideExactly 307 = .ok (.iaload, 1) := dk_46 (dk_at dksX4_divideExactly_13 4 rfl rfl)
theorem dX4_divideExactly_308 : decode cX4_divideExactly 308 = .ok (.ireturn, 1) := dk_172 (dk_at dksX4_divideExactly_13 5 rfl rfl)
def dkwX4_common_1 : List UInt8 := [22, 8, 55, 6, 167, 255, 234, 22, 4, 9, 148, 156, 0, 9, 22, 4, 117, 167, 0, 5, 22, 4, 173]
abbrev dktX4_common_1 : List UInt8 := dkwX4_common_1 ++ []
def dkwX4_common_0 : List UInt8 := [30, 55, 4, 32, 55, 6, 22, 6, 9, 148, 153, 0, 21, 22, 4, 22, 6, 113, 55, 8, 22, 6, 55, 4]
abbrev dktX4_common_0 : List UInt8 := dkwX4_common_0 ++ dktX4_common_1
theorem dksX4_common_0 : cX4_common.data.toList.drop 0 = dktX4_common_0 := by decide +kernel
theorem dksX4_common_1 : cX4_common.data.toList.drop 24 = dktX4_common_1 := dk_seg dksX4_common_0 24 rfl rfl
theorem dX4_common_0 : decode cX4_common 0 = .ok (.lload_n 0, 1) := dk_30 (dk_at dksX4_common_0 0 rfl rfl)
theorem dX4_common_1 : decode cX4_common 1 = .ok (.lstore 4, 2) := dk_55 4 (dk_at dksX4_common_0 1 rfl rfl)
theorem dX4_common_3 : decode cX4_common 3 = .ok (.lload_n 2, 1) := dk_32 (dk_at dksX4_common_0 3 rfl rfl)
theorem dX4_common_4 : decode cX4_common 4 = .ok (.lstore 6, 2) := dk_55 6 (dk_at dksX4_common_0 4 rfl rfl)
theorem dX4_common_6 : decode cX4_common 6 = .ok (.lload 6, 2) := dk_22 6 (dk_at dksX4_common_0 6 rfl rfl)
theorem dX4_common_8 : decode cX4_common 8 = .ok (.lconst 0, 1) := dk_9 (dk_at dksX4_common_0 8 rfl rfl)
theorem dX4_common_9 : decode cX4_common 9 = .ok (.lcmp, 1) := dk_148 (dk_at dksX4_common_0 9 rfl rfl)
theorem dX4_common_10 : decode cX4_common 10 = .ok (.ifCond .eq 21, 3) := dk_153 0 21 (dk_at dksX4_common_0 10 rfl rfl)
theorem dX4_common_13 : decode cX4_common 13 = .ok (.lload 4, 2) := dk_22 4 (dk_at dksX4_common_0 13 rfl rfl)
theorem dX4_common_15 : decode cX4_common 15 = .ok (.lload 6, 2) := dk_22 6 (dk_at dksX4_common_0 15 rfl rfl)
theorem dX4_common_17 : decode cX4_common 17 = .ok (.lrem, 1) := dk_113 (dk_at dksX4_common_0 17 rfl rfl)
theorem dX4_common_18 : decode cX4_common 18 = .ok (.lstore 8, 2) := dk_55 8 (dk_at dksX4_common_0 18 rfl rfl)
theorem dX4_common_20 : decode cX4_common 20 = .ok (.lload 6, 2) := dk_22 6 (dk_at dksX4_common_0 20 rfl rfl)
theorem dX4_common_22 : decode cX4_common 22 = .ok (.lstore 4, 2) := dk_55 4 (dk_at dksX4_common_0 22 rfl rfl)
theorem dX4_common_24 : decode cX4_common 24 = .ok (.lload 8, 2) := dk_22 8 (dk_at dksX4_common_1 0 rfl rfl)
theorem dX4_common_26 : decode cX4_common 26 = .ok (.lstore 6, 2) := dk_55 6 (dk_at dksX4_common_1 2 rfl rfl)
theorem dX4_common_28 : decode cX4_common 28 = .ok (.goto (-22), 3) := dk_167 255 234 (dk_at dksX4_common_1 4 rfl rfl)
theorem dX4_common_31 : decode cX4_common 31 = .ok (.lload 4, 2) := dk_22 4 (dk_at dksX4_common_1 7 rfl rfl)
theorem dX4_common_33 : decode cX4_common 33 = .ok (.lconst 0, 1) := dk_9 (dk_at dksX4_common_1 9 rfl rfl)
theorem dX4_common_34 : decode cX4_common 34 = .ok (.lcmp, 1) := dk_148 (dk_at dksX4_common_1 10 rfl rfl)
theorem dX4_common_35 : decode cX4_common 35 = .ok (.ifCond .ge 9, 3) := dk_156 0 9 (dk_at dksX4_common_1 11 rfl rfl)
theorem dX4_common_38 : decode cX4_common 38 = .ok (.lload 4, 2) := dk_22 4 (dk_at dksX4_common_1 14 rfl rfl)
theorem dX4_common_40 : decode cX4_common 40 = .ok (.lneg, 1) := dk_117 (dk_at dksX4_common_1 16 rfl rfl)
theorem dX4_common_41 : decode cX4_common 41 = .ok (.goto 5, 3) := dk_167 0 5 (dk_at dksX4_common_1 17 rfl rfl)
theorem dX4_common_44 : decode cX4_common 44 = .ok (.lload 4, 2) := dk_22 4 (dk_at dksX4_common_1 20 rfl rfl)
theorem dX4_common_46 : decode cX4_common 46 = .ok (.lreturn, 1) := dk_173 (dk_at dksX4_common_1 22 rfl rfl)
def dkwX4_compare_2 : List UInt8 := [3, 167, 0, 9, 42, 27, 28, 182, 0, 255, 172]
abbrev dktX4_compare_2 : List UInt8 := dkwX4_compare_2 ++ []
def dkwX4_compare_1 : List UInt8 := [51, 153, 0, 12, 42, 180, 0, 63, 28, 51, 154, 0, 7, 5, 167, 0, 4, 3, 182, 0, 205, 153, 0, 7]
abbrev dktX4_compare_1 : List UInt8 := dkwX4_compare_1 ++ dktX4_compare_2
def dkwX4_compare_0 : List UInt8 := [42, 27, 184, 0, 198, 153, 0, 10, 28, 184, 0, 198, 154, 0, 7, 4, 167, 0, 26, 42, 180, 0, 63, 27]
abbrev dktX4_compare_0 : List UInt8 := dkwX4_compare_0 ++ dktX4_compare_1
theorem dksX4_compare_0 : cX4_compare.data.toList.drop 0 = dktX4_compare_0 := by decide +kernel
theorem dksX4_compare_1 : cX4_compare.data.toList.drop 24 = dktX4_compare_1 := dk_seg dksX4_compare_0 24 rfl rfl
theorem dksX4_compare_2 : cX4_compare.data.toList.drop 48 = dktX4_compare_2 := dk_seg dksX4_compare_1 24 rfl rfl
theorem dX4_compare_0 : decode cX4_compare 0 = .ok (.aload_n 0, 1) := dk_42 (dk_at dksX4_compare_0 0 rfl rfl)
theorem dX4_compare_1 : decode cX4_compare 1 = .ok (.iload_n 1, 1) := dk_27 (dk_at dksX4_compare_0 1 rfl rfl)
theorem dX4_compare_2 : decode cX4_compare 2 = .ok (.invokestatic 198, 3) := dk_184 0 198 (dk_at dksX4_compare_0 2 rfl rfl)
theorem dX4_compare_5 : decode cX4_compare 5 = .ok (.ifCond .eq 10, 3) := dk_153 0 10 (dk_at dksX4_compare_0 5 rfl rfl)
theorem dX4_compare_8 : decode cX4_compare 8 = .ok (.iload_n 2, 1) := dk_28 (dk_at dksX4_compare_0 8 rfl rfl)
theorem dX4_compare_9 : decode cX4_compare 9 = .ok (.invokestatic 198, 3) := dk_184 0 198 (dk_at dksX4_compare_0 9 rfl rfl)
theorem dX4_compare_12 : decode cX4_compare 12 = .ok (.ifCond .ne 7, 3) := dk_154 0 7 (dk_at dksX4_compare_0 12 rfl rfl)
theorem dX4_compare_15 : decode cX4_compare 15 = .ok (.iconst 1, 1) := dk_4 (dk_at dksX4_compare_0 15 rfl rfl)
theorem dX4_compare_16 : decode cX4_compare 16 = .ok (.goto 26, 3) := dk_167 0 26 (dk_at dksX4_compare_0 16 rfl rfl)
theorem dX4_compare_19 : decode cX4_compare 19 = .ok (.aload_n 0, 1) := dk_42 (dk_at dksX4_compare_0 19 rfl rfl)
theorem dX4_compare_20 : decode cX4_compare 20 = .ok (.getfield 63, 3) := dk_180 0 63 (dk_at dksX4_compare_0 20 rfl rfl)
theorem dX4_compare_23 : decode cX4_compare 23 = .ok (.iload_n 1, 1) := dk_27 (dk_at dksX4_compare_0 23 rfl rfl)
theorem dX4_compare_24 : decode cX4_compare 24 = .ok (.baload, 1) := dk_51 (dk_at dksX4_compare_1 0 rfl rfl)
theorem dX4_compare_25 : decode cX4_compare 25 = .ok (.ifCond .eq 12, 3) := dk_153 0 12 (dk_at dksX4_compare_1 1 rfl rfl)
theorem dX4_compare_28 : decode cX4_compare 28 = .ok (.aload_n 0, 1) := dk_42 (dk_at dksX4_compare_1 4 rfl rfl)
theorem dX4_compare_29 : decode cX4_compare 29 = .ok (.getfield 63, 3) := dk_180 0 63 (dk_at dksX4_compare_1 5 rfl rfl)
theorem dX4_compare_32 : decode cX4_compare 32 = .ok (.iload_n 2, 1) := dk_28 (dk_at dksX4_compare_1 8 rfl rfl)
theorem dX4_compare_33 : decode cX4_compare 33 = .ok (.baload, 1) := dk_51 (dk_at dksX4_compare_1 9 rfl rfl)
theorem dX4_compare_34 : decode cX4_compare 34 = .ok (.ifCond .ne 7, 3) := dk_154 0 7 (dk_at dksX4_compare_1 10 rfl rfl)
theorem dX4_compare_37 : decode cX4_compare 37 = .ok (.iconst 2, 1) := dk_5 (dk_at dksX4_compare_1 13 rfl rfl)
theorem dX4_compare_38 : decode cX4_compare 38 = .ok (.goto 4, 3) := dk_167 0 4 (dk_at dksX4_compare_1 14 rfl rfl)
theorem dX4_compare_41 : decode cX4_compare 41 = .ok (.iconst 0, 1) := dk_3 (dk_at dksX4_compare_1 17 rfl rfl)
theorem dX4_compare_42 : decode cX4_compare 42 = .ok (.invokevirtual 205, 3) := dk_182 0 205 (dk_at dksX4_compare_1 18 rfl rfl)
theorem dX4_compare_45 : decode cX4_compare 45 = .ok (.ifCond .eq 7, 3) := dk_153 0 7 (dk_at dksX4_compare_1 21 rfl rfl)
theorem dX4_compare_48 : decode cX4_compare 48 = .ok (.iconst 0, 1) := dk_3 (dk_at dksX4_compare_2 0 rfl rfl)
theorem dX4_compare_49 : decode cX4_compare 49 = .ok (.goto 9, 3) := dk_167 0 9 (dk_at dksX4_compare_2 1 rfl rfl)
theorem dX4_compare_52 : decode cX4_compare 52 = .ok (.aload_n 0, 1) := dk_42 (dk_at dksX4_compare_2 4 rfl rfl)
theorem dX4_compare_53 : decode cX4_compare 53 = .ok (.iload_n 1, 1) := dk_27 (dk_at dksX4_compare_2 5 rfl rfl)
theorem dX4_compare_54 : decode cX4_compare 54 = .ok (.iload_n 2, 1) := dk_28 (dk_at dksX4_compare_2 6 rfl rfl)
theorem dX4_compare_55 : decode cX4_compare 55 = .ok (.invokevirtual 255, 3) := dk_182 0 255 (dk_at dksX4_compare_2 7 rfl rfl)
theorem dX4_compare_58 : decode cX4_compare 58 = .ok (.ireturn, 1) := dk_172 (dk_at dksX4_compare_2 10 rfl rfl)
def dkwX4_isEqual_3 : List UInt8 := [180, 0, 60, 28, 46, 160, 0, 7, 4, 167, 0, 4, 3, 172]
abbrev dktX4_isEqual_3 : List UInt8 := dkwX4_isEqual_3 ++ []
def dkwX4_isEqual_2 : List UInt8 := [42, 180, 0, 56, 27, 47, 42, 180, 0, 56, 28, 47, 148, 154, 0, 22, 42, 180, 0, 60, 27, 46, 42]
abbrev dktX4_isEqual_2 : List UInt8 := dkwX4_isEqual_2 ++ dktX4_isEqual_3
def dkwX4_isEqual_1 : List UInt8 := [51, 153, 0, 12, 42, 180, 0, 63, 28, 51, 154, 0, 7, 5, 167, 0, 4, 3, 182, 0, 205, 154, 0, 38]
abbrev dktX4_isEqual_1 : List UInt8 := dkwX4_isEqual_1 ++ dktX4_isEqual_2
def dkwX4_isEqual_0 : List UInt8 := [42, 27, 184, 0, 198, 153, 0, 10, 28, 184, 0, 198, 154, 0, 7, 4, 167, 0, 26, 42, 180, 0, 63, 27]
abbrev dktX4_isEqual_0 : List UInt8 := dkwX4_isEqual_0 ++ dktX4_isEqual_1
theorem dksX4_isEqual_0 : cX4_isEqual.data.toList.drop 0 = dktX4_isEqual_0 := by decide +kernel
theorem dksX4_isEqual_1 : cX4_isEqual.data.toList.drop 24 = dktX4_isEqual_1 := dk_seg dksX4_isEqual_0 24 rfl rfl
theorem dksX4_isEqual_2 : cX4_isEqual.data.toList.drop 48 = dktX4_isEqual_2 := dk_seg dksX4_isEqual_1 24 rfl rfl
theorem dksX4_isEqual_3 : cX4_isEqual.data.toList.drop 71 = dktX4_isEqual_3 := dk_seg dksX4_isEqual_2 23 rfl rfl
theorem dX4_isEqual_0 : decode cX4_isEqual 0 = .ok (.aload_n 0, 1) := dk_42 (dk_at dksX4_isEqual_0 0 rfl rfl)
theorem dX4_isEqual_1 : decode cX4_isEqual 1 = .ok (.iload_n 1, 1) := dk_27 (dk_at dksX4_isEqual_0 1 rfl rfl)
theorem dX4_isEqual_2 : decode cX4_isEqual 2 = .ok (.invokestatic 198, 3) := dk_184 0 198 (dk_at dksX4_isEqual_0 2 rfl rfl)
theorem dX4_isEqual_5 : decode cX4_isEqual 5 = .ok (.ifCond .eq 10, 3) := dk_153 0 10 (dk_at dksX4_isEqual_0 5 rfl rfl)
theorem dX4_isEqual_8 : decode cX4_isEqual 8 = .ok (.iload_n 2, 1) := dk_28 (dk_at dksX4_isEqual_0 8 rfl rfl)
theorem dX4_isEqual_9 : decode cX4_isEqual 9 = .ok (.invokestatic 198, 3) := dk_184 0 198 (dk_at dksX4_isEqual_0 9 rfl rfl)
theorem dX4_isEqual_12 : decode cX4_isEqual 12 = .ok (.ifCond .ne 7, 3) := dk_154 0 7 (dk_at dksX4_isEqual_0 12 rfl rfl)
theorem dX4_isEqual_15 : decode cX4_isEqual 15 = .ok (.iconst 1, 1) := dk_4 (dk_at dksX4_isEqual_0 15 rfl rfl)
theorem dX4_isEqual_16 : decode cX4_isEqual 16 = .ok (.goto 26, 3) := dk_167 0 26 (dk_at dksX4_isEqual_0 16 rfl rfl)
theorem dX4_isEqual_19 : decode cX4_isEqual 19 = .ok (.aload_n 0, 1) := dk_42 (dk_at dksX4_isEqual_0 19 rfl rfl)
theorem dX4_isEqual_20 : decode cX4_isEqual 20 = .ok (.getfield 63, 3) := dk_180 0 63 (dk_at dksX4_isEqual_0 20 rfl rfl)
theorem dX4_isEqual_23 : decode cX4_isEqual 23 = .ok (.iload_n 1, 1) := dk_27 (dk_at dksX4_isEqual_0 23 rfl rfl)
theorem dX4_isEqual_24 : decode cX4_isEqual 24 = .ok (.baload, 1) := dk_51 (dk_at dksX4_isEqual_1 0 rfl rfl)
theorem dX4_isEqual_25 : decode cX4_isEqual 25 = .ok (.ifCond .eq 12, 3) := dk_153 0 12 (dk_at dksX4_isEqual_1 1 rfl rfl)
theorem dX4_isEqual_28 : decode cX4_isEqual 28 = .ok (.aload_n 0, 1) := dk_42 (dk_at dksX4_isEqual_1 4 rfl rfl)
theorem dX4_isEqual_29 : decode cX4_isEqual 29 = .ok (.getfield 63, 3) := dk_180 0 63 (dk_at dksX4_isEqual_1 5 rfl rfl)
theorem dX4_isEqual_32 : decode cX4_isEqual 32 = .ok (.iload_n 2, 1) := dk_28 (dk_at dksX4_isEqual_1 8 rfl rfl)
theorem dX4_isEqual_33 : decode cX4_isEqual 33 = .ok (.baload, 1) := dk_51 (dk_at dksX4_isEqual_1 9 rfl rfl)
theorem dX4_isEqual_34 : decode cX4_isEqual 34 = .ok (.ifCond .ne 7, 3) := dk_154 0 7 (dk_at dksX4_isEqual_1 10 rfl rfl)
theorem dX4_isEqual_37 : decode cX4_isEqual 37 = .ok (.iconst 2, 1) := dk_5 (dk_at dksX4_isEqual_1 13 rfl rfl)
theorem dX4_isEqual_38 : decode cX4_isEqual 38 = .ok (.goto 4, 3) := dk_167 0 4 (dk_at dksX4_isEqual_1 14 rfl rfl)
theorem dX4_isEqual_41 : decode cX4_isEqual 41 = .ok (.iconst 0, 1) := dk_3 (dk_at dksX4_isEqual_1 17 rfl rfl)
theorem dX4_isEqual_42 : decode cX4_isEqual 42 = .ok (.invokevirtual 205, 3) := dk_182 0 205 (dk_at dksX4_isEqual_1 18 rfl rfl)
theorem dX4_isEqual_45 : decode cX4_isEqual 45 = .ok (.ifCond .ne 38, 3) := dk_154 0 38 (dk_at dksX4_isEqual_1 21 rfl rfl)
theorem dX4_isEqual_48 : decode cX4_isEqual 48 = .ok (.aload_n 0, 1) := dk_42 (dk_at dksX4_isEqual_2 0 rfl rfl)
theorem dX4_isEqual_49 : decode cX4_isEqual 49 = .ok (.getfield 56, 3) := dk_180 0 56 (dk_at dksX4_isEqual_2 1 rfl rfl)
theorem dX4_isEqual_52 : decode cX4_isEqual 52 = .ok (.iload_n 1, 1) := dk_27 (dk_at dksX4_isEqual_2 4 rfl rfl)
theorem dX4_isEqual_53 : decode cX4_isEqual 53 = .ok (.laload, 1) := dk_47 (dk_at dksX4_isEqual_2 5 rfl rfl)
theorem dX4_isEqual_54 : decode cX4_isEqual 54 = .ok (.aload_n 0, 1) := dk_42 (dk_at dksX4_isEqual_2 6 rfl rfl)
theorem dX4_isEqual_55 : decode cX4_isEqual 55 = .ok (.getfield 56, 3) := dk_180 0 56 (dk_at dksX4_isEqual_2 7 rfl rfl)
theorem dX4_isEqual_58 : decode cX4_isEqual 58 = .ok (.iload_n 2, 1) := dk_28 (dk_at dksX4_isEqual_2 10 rfl rfl)
theorem dX4_isEqual_59 : decode cX4_isEqual 59 = .ok (.laload, 1) := dk_47 (dk_at dksX4_isEqual_2 11 rfl rfl)
theorem dX4_isEqual_60 : decode cX4_isEqual 60 = .ok (.lcmp, 1) := dk_148 (dk_at dksX4_isEqual_2 12 rfl rfl)
theorem dX4_isEqual_61 : decode cX4_isEqual 61 = .ok (.ifCond .ne 22, 3) := dk_154 0 22 (dk_at dksX4_isEqual_2 13 rfl rfl)
theorem dX4_isEqual_64 : decode cX4_isEqual 64 = .ok (.aload_n 0, 1) := dk_42 (dk_at dksX4_isEqual_2 16 rfl rfl)
theorem dX4_isEqual_65 : decode cX4_isEqual 65 = .ok (.getfield 60, 3) := dk_180 0 60 (dk_at dksX4_isEqual_2 17 rfl rfl)
theorem dX4_isEqual_68 : decode cX4_isEqual 68 = .ok (.iload_n 1, 1) := dk_27 (dk_at dksX4_isEqual_2 20 rfl rfl)
theorem dX4_isEqual_69 : decode cX4_isEqual 69 = .ok (.iaload, 1) := dk_46 (dk_at dksX4_isEqual_2 21 rfl rfl)
theorem dX4_isEqual_70 : decode cX4_isEqual 70 = .ok (.aload_n 0, 1) := dk_42 (dk_at dksX4_isEqual_2 22 rfl rfl)
theorem dX4_isEqual_71 : decode cX4_isEqual 71 = .ok (.getfield 60, 3) := dk_180 0 60 (dk_at dksX4_isEqual_3 0 rfl rfl)
theorem dX4_isEqual_74 : decode cX4_isEqual 74 = .ok (.iload_n 2, 1) := dk_28 (dk_at dksX4_isEqual_3 3 rfl rfl)
theorem dX4_isEqual_75 : decode cX4_isEqual 75 = .ok (.iaload, 1) := dk_46 (dk_at dksX4_isEqual_3 4 rfl rfl)
theorem dX4_isEqual_76 : decode cX4_isEqual 76 = .ok (.if_icmp .ne 7, 3) := dk_160 0 7 (dk_at dksX4_isEqual_3 5 rfl rfl)
theorem dX4_isEqual_79 : decode cX4_isEqual 79 = .ok (.iconst 1, 1) := dk_4 (dk_at dksX4_isEqual_3 8 rfl rfl)
theorem dX4_isEqual_80 : decode cX4_isEqual 80 = .ok (.goto 4, 3) := dk_167 0 4 (dk_at dksX4_isEqual_3 9 rfl rfl)
theorem dX4_isEqual_83 : decode cX4_isEqual 83 = .ok (.iconst 0, 1) := dk_3 (dk_at dksX4_isEqual_3 12 rfl rfl)
theorem dX4_isEqual_84 : decode cX4_isEqual 84 = .ok (.ireturn, 1) := dk_172 (dk_at dksX4_isEqual_3 13 rfl rfl)
def dkwX4_setCurrency_3 : List UInt8 := [42, 180, 0, 77, 27, 29, 85, 42, 180, 0, 74, 27, 21, 4, 79, 21, 5, 172]
abbrev dktX4_setCurrency_3 : List UInt8 := dkwX4_setCurrency_3 ++ []
def dkwX4_setCurrency_2 : List UInt8 := [3, 182, 0, 205, 153, 0, 5, 3, 172, 42, 180, 0, 71, 27, 46, 54, 5, 42, 180, 0, 71, 27, 28, 79]
abbrev dktX4_setCurrency_2 : List UInt8 := dkwX4_setCurrency_2 ++ dktX4_setCurrency_3
def dkwX4_setCurrency_1 : List UInt8 := [29, 184, 1, 14, 153, 0, 16, 21, 4, 133, 10, 20, 1, 38, 184, 0, 182, 154, 0, 7, 5, 167, 0, 4]
abbrev dktX4_setCurrency_1 : List UInt8 := dkwX4_setCurrency_1 ++ dktX4_setCurrency_2
def dkwX4_setCurrency_0 : List UInt8 := [42, 27, 184, 1, 35, 154, 0, 7, 4, 167, 0, 40, 28, 133, 9, 20, 1, 33, 184, 0, 182, 153, 0, 23]
abbrev dktX4_setCurrency_0 : List UInt8 := dkwX4_setCurrency_0 ++ dktX4_setCurrency_1
theorem dksX4_setCurrency_0 : cX4_setCurrency.data.toList.drop 0 = dktX4_setCurrency_0 := by decide +kernel
theorem dksX4_setCurrency_1 : cX4_setCurrency.data.toList.drop 24 = dktX4_setCurrency_1 := dk_seg dksX4_setCurrency_0 24 rfl rfl
theorem dksX4_setCurrency_2 : cX4_setCurrency.data.toList.drop 48 = dktX4_setCurrency_2 := dk_seg dksX4_setCurrency_1 24 rfl rfl
theorem dksX4_setCurrency_3 : cX4_setCurrency.data.toList.drop 72 = dktX4_setCurrency_3 := dk_seg dksX4_setCurrency_2 24 rfl rfl
theorem dX4_setCurrency_0 : decode cX4_setCurrency 0 = .ok (.aload_n 0, 1) := dk_42 (dk_at dksX4_setCurrency_0 0 rfl rfl)
theorem dX4_setCurrency_1 : decode cX4_setCurrency 1 = .ok (.iload_n 1, 1) := dk_27 (dk_at dksX4_setCurrency_0 1 rfl rfl)
theorem dX4_setCurrency_2 : decode cX4_setCurrency 2 = .ok (.invokestatic 291, 3) := dk_184 1 35 (dk_at dksX4_setCurrency_0 2 rfl rfl)
theorem dX4_setCurrency_5 : decode cX4_setCurrency 5 = .ok (.ifCond .ne 7, 3) := dk_154 0 7 (dk_at dksX4_setCurrency_0 5 rfl rfl)
theorem dX4_setCurrency_8 : decode cX4_setCurrency 8 = .ok (.iconst 1, 1) := dk_4 (dk_at dksX4_setCurrency_0 8 rfl rfl)
theorem dX4_setCurrency_9 : decode cX4_setCurrency 9 = .ok (.goto 40, 3) := dk_167 0 40 (dk_at dksX4_setCurrency_0 9 rfl rfl)
theorem dX4_setCurrency_12 : decode cX4_setCurrency 12 = .ok (.iload_n 2, 1) := dk_28 (dk_at dksX4_setCurrency_0 12 rfl rfl)
theorem dX4_setCurrency_13 : decode cX4_setCurrency 13 = .ok (.i2l, 1) := dk_133 (dk_at dksX4_setCurrency_0 13 rfl rfl)
theorem dX4_setCurrency_14 : decode cX4_setCurrency 14 = .ok (.lconst 0, 1) := dk_9 (dk_at dksX4_setCurrency_0 14 rfl rfl)
theorem dX4_setCurrency_15 : decode cX4_setCurrency 15 = .ok (.ldc2_w 289, 3) := dk_20 1 33 (dk_at dksX4_setCurrency_0 15 rfl rfl)
theorem dX4_setCurrency_18 : decode cX4_setCurrency 18 = .ok (.invokestatic 182, 3) := dk_184 0 182 (dk_at dksX4_setCurrency_0 18 rfl rfl)
theorem dX4_setCurrency_21 : decode cX4_setCurrency 21 = .ok (.ifCond .eq 23, 3) := dk_153 0 23 (dk_at dksX4_setCurrency_0 21 rfl rfl)
theorem dX4_setCurrency_24 : decode cX4_setCurrency 24 = .ok (.iload_n 3, 1) := dk_29 (dk_at dksX4_setCurrency_1 0 rfl rfl)
theorem dX4_setCurrency_25 : decode cX4_setCurrency 25 = .ok (.invokestatic 270, 3) := dk_184 1 14 (dk_at dksX4_setCurrency_1 1 rfl rfl)
theorem dX4_setCurrency_28 : decode cX4_setCurrency 28 = .ok (.ifCond .eq 16, 3) := dk_153 0 16 (dk_at dksX4_setCurrency_1 4 rfl rfl)
theorem dX4_setCurrency_31 : decode cX4_setCurrency 31 = .ok (.iload 4, 2) := dk_21 4 (dk_at dksX4_setCurrency_1 7 rfl rfl)
theorem dX4_setCurrency_33 : decode cX4_setCurrency 33 = .ok (.i2l, 1) := dk_133 (dk_at dksX4_setCurrency_1 9 rfl rfl)
theorem dX4_setCurrency_34 : decode cX4_setCurrency 34 = .ok (.lconst 1, 1) := dk_10 (dk_at dksX4_setCurrency_1 10 rfl rfl)
theorem dX4_setCurrency_35 : decode cX4_setCurrency 35 = .ok (.ldc2_w 294, 3) := dk_20 1 38 (dk_at dksX4_setCurrency_1 11 rfl rfl)
theorem dX4_setCurrency_38 : decode cX4_setCurrency 38 = .ok (.invokestatic 182, 3) := dk_184 0 182 (dk_at dksX4_setCurrency_1 14 rfl rfl)
theorem dX4_setCurrency_41 : decode cX4_setCurrency 41 = .ok (.ifCond .ne 7, 3) := dk_154 0 7 (dk_at dksX4_setCurrency_1 17 rfl rfl)
theorem dX4_setCurrency_44 : decode cX4_setCurrency 44 = .ok (.iconst 2, 1) := dk_5 (dk_at dksX4_setCurrency_1 20 rfl rfl)
theorem dX4_setCurrency_45 : decode cX4_setCurrency 45 = .ok (.goto 4, 3) := dk_167 0 4 (dk_at dksX4_setCurrency_1 21 rfl rfl)
theorem dX4_setCurrency_48 : decode cX4_setCurrency 48 = .ok (.iconst 0, 1) := dk_3 (dk_at dksX4_setCurrency_2 0 rfl rfl)
theorem dX4_setCurrency_49 : decode cX4_setCurrency 49 = .ok (.invokevirtual 205, 3) := dk_182 0 205 (dk_at dksX4_setCurrency_2 1 rfl rfl)
theorem dX4_setCurrency_52 : decode cX4_setCurrency 52 = .ok (.ifCond .eq 5, 3) := dk_153 0 5 (dk_at dksX4_setCurrency_2 4 rfl rfl)
theorem dX4_setCurrency_55 : decode cX4_setCurrency 55 = .ok (.iconst 0, 1) := dk_3 (dk_at dksX4_setCurrency_2 7 rfl rfl)
theorem dX4_setCurrency_56 : decode cX4_setCurrency 56 = .ok (.ireturn, 1) := dk_172 (dk_at dksX4_setCurrency_2 8 rfl rfl)
theorem dX4_setCurrency_57 : decode cX4_setCurrency 57 = .ok (.aload_n 0, 1) := dk_42 (dk_at dksX4_setCurrency_2 9 rfl rfl)
theorem dX4_setCurrency_58 : decode cX4_setCurrency 58 = .ok (.getfield 71, 3) := dk_180 0 71 (dk_at dksX4_setCurrency_2 10 rfl rfl)
theorem dX4_setCurrency_61 : decode cX4_setCurrency 61 = .ok (.iload_n 1, 1) := dk_27 (dk_at dksX4_setCurrency_2 13 rfl rfl)
theorem dX4_setCurrency_62 : decode cX4_setCurrency 62 = .ok (.iaload, 1) := dk_46 (dk_at dksX4_setCurrency_2 14 rfl rfl)
theorem dX4_setCurrency_63 : decode cX4_setCurrency 63 = .ok (.istore 5, 2) := dk_54 5 (dk_at dksX4_setCurrency_2 15 rfl rfl)
theorem dX4_setCurrency_65 : decode cX4_setCurrency 65 = .ok (.aload_n 0, 1) := dk_42 (dk_at dksX4_setCurrency_2 17 rfl rfl)
theorem dX4_setCurrency_66 : decode cX4_setCurrency 66 = .ok (.getfield 71, 3) := dk_180 0 71 (dk_at dksX4_setCurrency_2 18 rfl rfl)
theorem dX4_setCurrency_69 : decode cX4_setCurrency 69 = .ok (.iload_n 1, 1) := dk_27 (dk_at dksX4_setCurrency_2 21 rfl rfl)
theorem dX4_setCurrency_70 : decode cX4_setCurrency 70 = .ok (.iload_n 2, 1) := dk_28 (dk_at dksX4_setCurrency_2 22 rfl rfl)
theorem dX4_setCurrency_71 : decode cX4_setCurrency 71 = .ok (.iastore, 1) := dk_79 (dk_at dksX4_setCurrency_2 23 rfl rfl)
theorem dX4_setCurrency_72 : decode cX4_setCurrency 72 = .ok (.aload_n 0, 1) := dk_42 (dk_at dksX4_setCurrency_3 0 rfl rfl)
theorem dX4_setCurrency_73 : decode cX4_setCurrency 73 = .ok (.getfield 77, 3) := dk_180 0 77 (dk_at dksX4_setCurrency_3 1 rfl rfl)
theorem dX4_setCurrency_76 : decode cX4_setCurrency 76 = .ok (.iload_n 1, 1) := dk_27 (dk_at dksX4_setCurrency_3 4 rfl rfl)
theorem dX4_setCurrency_77 : decode cX4_setCurrency 77 = .ok (.iload_n 3, 1) := dk_29 (dk_at dksX4_setCurrency_3 5 rfl rfl)
theorem dX4_setCurrency_78 : decode cX4_setCurrency 78 = .ok (.castore, 1) := dk_85 (dk_at dksX4_setCurrency_3 6 rfl rfl)
theorem dX4_setCurrency_79 : decode cX4_setCurrency 79 = .ok (.aload_n 0, 1) := dk_42 (dk_at dksX4_setCurrency_3 7 rfl rfl)
theorem dX4_setCurrency_80 : decode cX4_setCurrency 80 = .ok (.getfield 74, 3) := dk_180 0 74 (dk_at dksX4_setCurrency_3 8 rfl rfl)
theorem dX4_setCurrency_83 : decode cX4_setCurrency 83 = .ok (.iload_n 1, 1) := dk_27 (dk_at dksX4_setCurrency_3 11 rfl rfl)
theorem dX4_setCurrency_84 : decode cX4_setCurrency 84 = .ok (.iload 4, 2) := dk_21 4 (dk_at dksX4_setCurrency_3 12 rfl rfl)
theorem dX4_setCurrency_86 : decode cX4_setCurrency 86 = .ok (.iastore, 1) := dk_79 (dk_at dksX4_setCurrency_3 14 rfl rfl)
theorem dX4_setCurrency_87 : decode cX4_setCurrency 87 = .ok (.iload 5, 2) := dk_21 5 (dk_at dksX4_setCurrency_3 15 rfl rfl)
theorem dX4_setCurrency_89 : decode cX4_setCurrency 89 = .ok (.ireturn, 1) := dk_172 (dk_at dksX4_setCurrency_3 17 rfl rfl)
def dkwX4_isCurrency_0 : List UInt8 := [26, 133, 9, 20, 1, 33, 184, 0, 182, 172]
abbrev dktX4_isCurrency_0 : List UInt8 := dkwX4_isCurrency_0 ++ []
theorem dksX4_isCurrency_0 : cX4_isCurrency.data.toList.drop 0 = dktX4_isCurrency_0 := by decide +kernel
theorem dX4_isCurrency_0 : decode cX4_isCurrency 0 = .ok (.iload_n 0, 1) := dk_26 (dk_at dksX4_isCurrency_0 0 rfl rfl)
theorem dX4_isCurrency_1 : decode cX4_isCurrency 1 = .ok (.i2l, 1) := dk_133 (dk_at dksX4_isCurrency_0 1 rfl rfl)
theorem dX4_isCurrency_2 : decode cX4_isCurrency 2 = .ok (.lconst 0, 1) := dk_9 (dk_at dksX4_isCurrency_0 2 rfl rfl)
theorem dX4_isCurrency_3 : decode cX4_isCurrency 3 = .ok (.ldc2_w 289, 3) := dk_20 1 33 (dk_at dksX4_isCurrency_0 3 rfl rfl)
theorem dX4_isCurrency_6 : decode cX4_isCurrency 6 = .ok (.invokestatic 182, 3) := dk_184 0 182 (dk_at dksX4_isCurrency_0 6 rfl rfl)
theorem dX4_isCurrency_9 : decode cX4_isCurrency 9 = .ok (.ireturn, 1) := dk_172 (dk_at dksX4_isCurrency_0 9 rfl rfl)
def dkwX4_setRate_5 : List UInt8 := [21, 4, 42, 180, 0, 60, 29, 46, 79, 21, 5, 172]
abbrev dktX4_setRate_5 : List UInt8 := dkwX4_setRate_5 ++ []
def dkwX4_setRate_4 : List UInt8 := [4, 167, 0, 4, 3, 54, 5, 42, 180, 0, 80, 21, 4, 42, 180, 0, 56, 29, 47, 80, 42, 180, 0, 83]
abbrev dktX4_setRate_4 : List UInt8 := dkwX4_setRate_4 ++ dktX4_setRate_5
def dkwX4_setRate_3 : List UInt8 := [153, 0, 5, 3, 172, 7, 27, 104, 28, 96, 54, 4, 42, 180, 0, 80, 21, 4, 47, 9, 148, 158, 0, 7]
abbrev dktX4_setRate_3 : List UInt8 := dkwX4_setRate_3 ++ dktX4_setRate_4
def dkwX4_setRate_2 : List UInt8 := [167, 0, 19, 42, 180, 0, 56, 29, 47, 9, 148, 157, 0, 7, 7, 167, 0, 4, 3, 182, 0, 205]
abbrev dktX4_setRate_2 : List UInt8 := dkwX4_setRate_2 ++ dktX4_setRate_3
def dkwX4_setRate_1 : List UInt8 := [167, 0, 41, 27, 28, 160, 0, 7, 5, 167, 0, 32, 42, 180, 0, 63, 29, 51, 154, 0, 7, 6]
abbrev dktX4_setRate_1 : List UInt8 := dkwX4_setRate_1 ++ dktX4_setRate_2
def dkwX4_setRate_0 : List UInt8 := [42, 27, 184, 1, 35, 153, 0, 17, 28, 184, 1, 35, 153, 0, 10, 29, 184, 0, 198, 154, 0, 7, 4]
abbrev dktX4_setRate_0 : List UInt8 := dkwX4_setRate_0 ++ dktX4_setRate_1
theorem dksX4_setRate_0 : cX4_setRate.data.toList.drop 0 = dktX4_setRate_0 := by decide +kernel
theorem dksX4_setRate_1 : cX4_setRate.data.toList.drop 23 = dktX4_setRate_1 := dk_seg dksX4_setRate_0 23 rfl rfl
theorem dksX4_setRate_2 : cX4_setRate.data.toList.drop 45 = dktX4_setRate_2 := dk_seg dksX4_setRate_1 22 rfl rfl
theorem dksX4_setRate_3 : cX4_setRate.data.toList.drop 67 = dktX4_setRate_3 := dk_seg dksX4_setRate_2 22 rfl rfl
theorem dksX4_setRate_4 : cX4_setRate.data.toList.drop 91 = dktX4_setRate_4 := dk_seg dksX4_setRate_3 24 rfl rfl
theorem dksX4_setRate_5 : cX4_setRate.data.toList.drop 115 = dktX4_setRate_5 := dk_seg dksX4_setRate_4 24 rfl rfl
theorem dX4_setRate_0 : decode cX4_setRate 0 = .ok (.aload_n 0, 1) := dk_42 (dk_at dksX4_setRate_0 0 rfl rfl)
theorem dX4_setRate_1 : decode cX4_setRate 1 = .ok (.iload_n 1, 1) := dk_27 (dk_at dksX4_setRate_0 1 rfl rfl)
theorem dX4_setRate_2 : decode cX4_setRate 2 = .ok (.invokestatic 291, 3) := dk_184 1 35 (dk_at dksX4_setRate_0 2 rfl rfl)
theorem dX4_setRate_5 : decode cX4_setRate 5 = .ok (.ifCond .eq 17, 3) := dk_153 0 17 (dk_at dksX4_setRate_0 5 rfl rfl)
theorem dX4_setRate_8 : decode cX4_setRate 8 = .ok (.iload_n 2, 1) := dk_28 (dk_at dksX4_setRate_0 8 rfl rfl)
theorem dX4_setRate_9 : decode cX4_setRate 9 = .ok (.invokestatic 291, 3) := dk_184 1 35 (dk_at dksX4_setRate_0 9 rfl rfl)
theorem dX4_setRate_12 : decode cX4_setRate 12 = .ok (.ifCond .eq 10, 3) := dk_153 0 10 (dk_at dksX4_setRate_0 12 rfl rfl)
theorem dX4_setRate_15 : decode cX4_setRate 15 = .ok (.iload_n 3, 1) := dk_29 (dk_at dksX4_setRate_0 15 rfl rfl)
theorem dX4_setRate_16 : decode cX4_setRate 16 = .ok (.invokestatic 198, 3) := dk_184 0 198 (dk_at dksX4_setRate_0 16 rfl rfl)
theorem dX4_setRate_19 : decode cX4_setRate 19 = .ok (.ifCond .ne 7, 3) := dk_154 0 7 (dk_at dksX4_setRate_0 19 rfl rfl)
theorem dX4_setRate_22 : decode cX4_setRate 22 = .ok (.iconst 1, 1) := dk_4 (dk_at dksX4_setRate_0 22 rfl rfl)
theorem dX4_setRate_23 : decode cX4_setRate 23 = .ok (.goto 41, 3) := dk_167 0 41 (dk_at dksX4_setRate_1 0 rfl rfl)
theorem dX4_setRate_26 : decode cX4_setRate 26 = .ok (.iload_n 1, 1) := dk_27 (dk_at dksX4_setRate_1 3 rfl rfl)
theorem dX4_setRate_27 : decode cX4_setRate 27 = .ok (.iload_n 2, 1) := dk_28 (dk_at dksX4_setRate_1 4 rfl rfl)
theorem dX4_setRate_28 : decode cX4_setRate 28 = .ok (.if_icmp .ne 7, 3) := dk_160 0 7 (dk_at dksX4_setRate_1 5 rfl rfl)
theorem dX4_setRate_31 : decode cX4_setRate 31 = .ok (.iconst 2, 1) := dk_5 (dk_at dksX4_setRate_1 8 rfl rfl)
theorem dX4_setRate_32 : decode cX4_setRate 32 = .ok (.goto 32, 3) := dk_167 0 32 (dk_at dksX4_setRate_1 9 rfl rfl)
theorem dX4_setRate_35 : decode cX4_setRate 35 = .ok (.aload_n 0, 1) := dk_42 (dk_at dksX4_setRate_1 12 rfl rfl)
theorem dX4_setRate_36 : decode cX4_setRate 36 = .ok (.getfield 63, 3) := dk_180 0 63 (dk_at dksX4_setRate_1 13 rfl rfl)
theorem dX4_setRate_39 : decode cX4_setRate 39 = .ok (.iload_n 3, 1) := dk_29 (dk_at dksX4_setRate_1 16 rfl rfl)
theorem dX4_setRate_40 : decode cX4_setRate 40 = .ok (.baload, 1) := dk_51 (dk_at dksX4_setRate_1 17 rfl rfl)
theorem dX4_setRate_41 : decode cX4_setRate 41 = .ok (.ifCond .ne 7, 3) := dk_154 0 7 (dk_at dksX4_setRate_1 18 rfl rfl)
theorem dX4_setRate_44 : decode cX4_setRate 44 = .ok (.iconst 3, 1) := dk_6 (dk_at dksX4_setRate_1 21 rfl rfl)
theorem dX4_setRate_45 : decode cX4_setRate 45 = .ok (.goto 19, 3) := dk_167 0 19 (dk_at dksX4_setRate_2 0 rfl rfl)
theorem dX4_setRate_48 : decode cX4_setRate 48 = .ok (.aload_n 0, 1) := dk_42 (dk_at dksX4_setRate_2 3 rfl rfl)
theorem dX4_setRate_49 : decode cX4_setRate 49 = .ok (.getfield 56, 3) := dk_180 0 56 (dk_at dksX4_setRate_2 4 rfl rfl)
theorem dX4_setRate_52 : decode cX4_setRate 52 = .ok (.iload_n 3, 1) := dk_29 (dk_at dksX4_setRate_2 7 rfl rfl)
theorem dX4_setRate_53 : decode cX4_setRate 53 = .ok (.laload, 1) := dk_47 (dk_at dksX4_setRate_2 8 rfl rfl)
theorem dX4_setRate_54 : decode cX4_setRate 54 = .ok (.lconst 0, 1) := dk_9 (dk_at dksX4_setRate_2 9 rfl rfl)
theorem dX4_setRate_55 : decode cX4_setRate 55 = .ok (.lcmp, 1) := dk_148 (dk_at dksX4_setRate_2 10 rfl rfl)
theorem dX4_setRate_56 : decode cX4_setRate 56 = .ok (.ifCond .gt 7, 3) := dk_157 0 7 (dk_at dksX4_setRate_2 11 rfl rfl)
theorem dX4_setRate_59 : decode cX4_setRate 59 = .ok (.iconst 4, 1) := dk_7 (dk_at dksX4_setRate_2 14 rfl rfl)
theorem dX4_setRate_60 : decode cX4_setRate 60 = .ok (.goto 4, 3) := dk_167 0 4 (dk_at dksX4_setRate_2 15 rfl rfl)
theorem dX4_setRate_63 : decode cX4_setRate 63 = .ok (.iconst 0, 1) := dk_3 (dk_at dksX4_setRate_2 18 rfl rfl)
theorem dX4_setRate_64 : decode cX4_setRate 64 = .ok (.invokevirtual 205, 3) := dk_182 0 205 (dk_at dksX4_setRate_2 19 rfl rfl)
theorem dX4_setRate_67 : decode cX4_setRate 67 = .ok (.ifCond .eq 5, 3) := dk_153 0 5 (dk_at dksX4_setRate_3 0 rfl rfl)
theorem dX4_setRate_70 : decode cX4_setRate 70 = .ok (.iconst 0, 1) := dk_3 (dk_at dksX4_setRate_3 3 rfl rfl)
theorem dX4_setRate_71 : decode cX4_setRate 71 = .ok (.ireturn, 1) := dk_172 (dk_at dksX4_setRate_3 4 rfl rfl)
theorem dX4_setRate_72 : decode cX4_setRate 72 = .ok (.iconst 4, 1) := dk_7 (dk_at dksX4_setRate_3 5 rfl rfl)
theorem dX4_setRate_73 : decode cX4_setRate 73 = .ok (.iload_n 1, 1) := dk_27 (dk_at dksX4_setRate_3 6 rfl rfl)
theorem dX4_setRate_74 : decode cX4_setRate 74 = .ok (.imul, 1) := dk_104 (dk_at dksX4_setRate_3 7 rfl rfl)
theorem dX4_setRate_75 : decode cX4_setRate 75 = .ok (.iload_n 2, 1) := dk_28 (dk_at dksX4_setRate_3 8 rfl rfl)
theorem dX4_setRate_76 : decode cX4_setRate 76 = .ok (.iadd, 1) := dk_96 (dk_at dksX4_setRate_3 9 rfl rfl)
theorem dX4_setRate_77 : decode cX4_setRate 77 = .ok (.istore 4, 2) := dk_54 4 (dk_at dksX4_setRate_3 10 rfl rfl)
theorem dX4_setRate_79 : decode cX4_setRate 79 = .ok (.aload_n 0, 1) := dk_42 (dk_at dksX4_setRate_3 12 rfl rfl)
theorem dX4_setRate_80 : decode cX4_setRate 80 = .ok (.getfield 80, 3) := dk_180 0 80 (dk_at dksX4_setRate_3 13 rfl rfl)
theorem dX4_setRate_83 : decode cX4_setRate 83 = .ok (.iload 4, 2) := dk_21 4 (dk_at dksX4_setRate_3 16 rfl rfl)
theorem dX4_setRate_85 : decode cX4_setRate 85 = .ok (.laload, 1) := dk_47 (dk_at dksX4_setRate_3 18 rfl rfl)
theorem dX4_setRate_86 : decode cX4_setRate 86 = .ok (.lconst 0, 1) := dk_9 (dk_at dksX4_setRate_3 19 rfl rfl)
theorem dX4_setRate_87 : decode cX4_setRate 87 = .ok (.lcmp, 1) := dk_148 (dk_at dksX4_setRate_3 20 rfl rfl)
theorem dX4_setRate_88 : decode cX4_setRate 88 = .ok (.ifCond .le 7, 3) := dk_158 0 7 (dk_at dksX4_setRate_3 21 rfl rfl)
theorem dX4_setRate_91 : decode cX4_setRate 91 = .ok (.iconst 1, 1) := dk_4 (dk_at dksX4_setRate_4 0 rfl rfl)
theorem dX4_setRate_92 : decode cX4_setRate 92 = .ok (.goto 4, 3) := dk_167 0 4 (dk_at dksX4_setRate_4 1 rfl rfl)
theorem dX4_setRate_95 : decode cX4_setRate 95 = .ok (.iconst 0, 1) := dk_3 (dk_at dksX4_setRate_4 4 rfl rfl)
theorem dX4_setRate_96 : decode cX4_setRate 96 = .ok (.istore 5, 2) := dk_54 5 (dk_at dksX4_setRate_4 5 rfl rfl)
theorem dX4_setRate_98 : decode cX4_setRate 98 = .ok (.aload_n 0, 1) := dk_42 (dk_at dksX4_setRate_4 7 rfl rfl)
theorem dX4_setRate_99 : decode cX4_setRate 99 = .ok (.getfield 80, 3) := dk_180 0 80 (dk_at dksX4_setRate_4 8 rfl rfl)
theorem dX4_setRate_102 : decode cX4_setRate 102 = .ok (.iload 4, 2) := dk_21 4 (dk_at dksX4_setRate_4 11 rfl rfl)
theorem dX4_setRate_104 : decode cX4_setRate 104 = .ok (.aload_n 0, 1) := dk_42 (dk_at dksX4_setRate_4 13 rfl rfl)
theorem dX4_setRate_105 : decode cX4_setRate 105 = .ok (.getfield 56, 3) := dk_180 0 56 (dk_at dksX4_setRate_4 14 rfl rfl)
theorem dX4_setRate_108 : decode cX4_setRate 108 = .ok (.iload_n 3, 1) := dk_29 (dk_at dksX4_setRate_4 17 rfl rfl)
theorem dX4_setRate_109 : decode cX4_setRate 109 = .ok (.laload, 1) := dk_47 (dk_at dksX4_setRate_4 18 rfl rfl)
theorem dX4_setRate_110 : decode cX4_setRate 110 = .ok (.lastore, 1) := dk_80 (dk_at dksX4_setRate_4 19 rfl rfl)
theorem dX4_setRate_111 : decode cX4_setRate 111 = .ok (.aload_n 0, 1) := dk_42 (dk_at dksX4_setRate_4 20 rfl rfl)
theorem dX4_setRate_112 : decode cX4_setRate 112 = .ok (.getfield 83, 3) := dk_180 0 83 (dk_at dksX4_setRate_4 21 rfl rfl)
theorem dX4_setRate_115 : decode cX4_setRate 115 = .ok (.iload 4, 2) := dk_21 4 (dk_at dksX4_setRate_5 0 rfl rfl)
theorem dX4_setRate_117 : decode cX4_setRate 117 = .ok (.aload_n 0, 1) := dk_42 (dk_at dksX4_setRate_5 2 rfl rfl)
theorem dX4_setRate_118 : decode cX4_setRate 118 = .ok (.getfield 60, 3) := dk_180 0 60 (dk_at dksX4_setRate_5 3 rfl rfl)
theorem dX4_setRate_121 : decode cX4_setRate 121 = .ok (.iload_n 3, 1) := dk_29 (dk_at dksX4_setRate_5 6 rfl rfl)
theorem dX4_setRate_122 : decode cX4_setRate 122 = .ok (.iaload, 1) := dk_46 (dk_at dksX4_setRate_5 7 rfl rfl)
theorem dX4_setRate_123 : decode cX4_setRate 123 = .ok (.iastore, 1) := dk_79 (dk_at dksX4_setRate_5 8 rfl rfl)
theorem dX4_setRate_124 : decode cX4_setRate 124 = .ok (.iload 5, 2) := dk_21 5 (dk_at dksX4_setRate_5 9 rfl rfl)
theorem dX4_setRate_126 : decode cX4_setRate 126 = .ok (.ireturn, 1) := dk_172 (dk_at dksX4_setRate_5 11 rfl rfl)
def dkwX4_change_2 : List UInt8 := [153, 0, 7, 9, 167, 0, 5, 22, 5, 173]
abbrev dktX4_change_2 : List UInt8 := dkwX4_change_2 ++ []
def dkwX4_change_1 : List UInt8 := [33, 182, 1, 46, 55, 5, 42, 42, 180, 0, 47, 153, 0, 7, 7, 167, 0, 4, 3, 182, 0, 205]
abbrev dktX4_change_1 : List UInt8 := dkwX4_change_1 ++ dktX4_change_2
def dkwX4_change_0 : List UInt8 := [42, 42, 27, 28, 33, 182, 1, 42, 182, 0, 205, 153, 0, 5, 9, 173, 42, 3, 181, 0, 47, 42, 27, 28]
abbrev dktX4_change_0 : List UInt8 := dkwX4_change_0 ++ dktX4_change_1
theorem dksX4_change_0 : cX4_change.data.toList.drop 0 = dktX4_change_0 := by decide +kernel
theorem dksX4_change_1 : cX4_change.data.toList.drop 24 = dktX4_change_1 := dk_seg dksX4_change_0 24 rfl rfl
theorem dksX4_change_2 : cX4_change.data.toList.drop 46 = dktX4_change_2 := dk_seg dksX4_change_1 22 rfl rfl
theorem dX4_change_0 : decode cX4_change 0 = .ok (.aload_n 0, 1) := dk_42 (dk_at dksX4_change_0 0 rfl rfl)
theorem dX4_change_1 : decode cX4_change 1 = .ok (.aload_n 0, 1) := dk_42 (dk_at dksX4_change_0 1 rfl rfl)
theorem dX4_change_2 : decode cX4_change 2 = .ok (.iload_n 1, 1) := dk_27 (dk_at dksX4_change_0 2 rfl rfl)
theorem dX4_change_3 : decode cX4_change 3 = .ok (.iload_n 2, 1) := dk_28 (dk_at dksX4_change_0 3 rfl rfl)
theorem dX4_change_4 : decode cX4_change 4 = .ok (.lload_n 3, 1) := dk_33 (dk_at dksX4_change_0 4 rfl rfl)
theorem dX4_change_5 : decode cX4_change 5 = .ok (.invokevirtual 298, 3) := dk_182 1 42 (dk_at dksX4_change_0 5 rfl rfl)
theorem dX4_change_8 : decode cX4_change 8 = .ok (.invokevirtual 205, 3) := dk_182 0 205 (dk_at dksX4_change_0 8 rfl rfl)
theorem dX4_change_11 : decode cX4_change 11 = .ok (.ifCond .eq 5, 3) := dk_153 0 5 (dk_at dksX4_change_0 11 rfl rfl)
theorem dX4_change_14 : decode cX4_change 14 = .ok (.lconst 0, 1) := dk_9 (dk_at dksX4_change_0 14 rfl rfl)
theorem dX4_change_15 : decode cX4_change 15 = .ok (.lreturn, 1) := dk_173 (dk_at dksX4_change_0 15 rfl rfl)
theorem dX4_change_16 : decode cX4_change 16 = .ok (.aload_n 0, 1) := dk_42 (dk_at dksX4_change_0 16 rfl rfl)
theorem dX4_change_17 : decode cX4_change 17 = .ok (.iconst 0, 1) := dk_3 (dk_at dksX4_change_0 17 rfl rfl)
theorem dX4_change_18 : decode cX4_change 18 = .ok (.putfield 47, 3) := dk_181 0 47 (dk_at dksX4_change_0 18 rfl rfl)
theorem dX4_change_21 : decode cX4_change 21 = .ok (.aload_n 0, 1) := dk_42 (dk_at dksX4_change_0 21 rfl rfl)
theorem dX4_change_22 : decode cX4_change 22 = .ok (.iload_n 1, 1) := dk_27 (dk_at dksX4_change_0 22 rfl rfl)
theorem dX4_change_23 : decode cX4_change 23 = .ok (.iload_n 2, 1) := dk_28 (dk_at dksX4_change_0 23 rfl rfl)
theorem dX4_change_24 : decode cX4_change 24 = .ok (.lload_n 3, 1) := dk_33 (dk_at dksX4_change_1 0 rfl rfl)
theorem dX4_change_25 : decode cX4_change 25 = .ok (.invokevirtual 302, 3) := dk_182 1 46 (dk_at dksX4_change_1 1 rfl rfl)
theorem dX4_change_28 : decode cX4_change 28 = .ok (.lstore 5, 2) := dk_55 5 (dk_at dksX4_change_1 4 rfl rfl)
theorem dX4_change_30 : decode cX4_change 30 = .ok (.aload_n 0, 1) := dk_42 (dk_at dksX4_change_1 6 rfl rfl)
theorem dX4_change_31 : decode cX4_change 31 = .ok (.aload_n 0, 1) := dk_42 (dk_at dksX4_change_1 7 rfl rfl)
theorem dX4_change_32 : decode cX4_change 32 = .ok (.getfield 47, 3) := dk_180 0 47 (dk_at dksX4_change_1 8 rfl rfl)
theorem dX4_change_35 : decode cX4_change 35 = .ok (.ifCond .eq 7, 3) := dk_153 0 7 (dk_at dksX4_change_1 11 rfl rfl)
theorem dX4_change_38 : decode cX4_change 38 = .ok (.iconst 4, 1) := dk_7 (dk_at dksX4_change_1 14 rfl rfl)
theorem dX4_change_39 : decode cX4_change 39 = .ok (.goto 4, 3) := dk_167 0 4 (dk_at dksX4_change_1 15 rfl rfl)
theorem dX4_change_42 : decode cX4_change 42 = .ok (.iconst 0, 1) := dk_3 (dk_at dksX4_change_1 18 rfl rfl)
theorem dX4_change_43 : decode cX4_change 43 = .ok (.invokevirtual 205, 3) := dk_182 0 205 (dk_at dksX4_change_1 19 rfl rfl)
theorem dX4_change_46 : decode cX4_change 46 = .ok (.ifCond .eq 7, 3) := dk_153 0 7 (dk_at dksX4_change_2 0 rfl rfl)
theorem dX4_change_49 : decode cX4_change 49 = .ok (.lconst 0, 1) := dk_9 (dk_at dksX4_change_2 3 rfl rfl)
theorem dX4_change_50 : decode cX4_change 50 = .ok (.goto 5, 3) := dk_167 0 5 (dk_at dksX4_change_2 4 rfl rfl)
theorem dX4_change_53 : decode cX4_change 53 = .ok (.lload 5, 2) := dk_22 5 (dk_at dksX4_change_2 7 rfl rfl)
theorem dX4_change_55 : decode cX4_change 55 = .ok (.lreturn, 1) := dk_173 (dk_at dksX4_change_2 9 rfl rfl)
def dkwX4_noMoney_2 : List UInt8 := [9, 148, 154, 0, 7, 6, 167, 0, 4, 3, 172]
abbrev dktX4_noMoney_2 : List UInt8 := dkwX4_noMoney_2 ++ []
def dkwX4_noMoney_1 : List UInt8 := [9, 20, 1, 40, 184, 0, 182, 154, 0, 7, 5, 167, 0, 23, 42, 180, 0, 80, 7, 27, 104, 28, 96, 47]
abbrev dktX4_noMoney_1 : List UInt8 := dkwX4_noMoney_1 ++ dktX4_noMoney_2
def dkwX4_noMoney_0 : List UInt8 := [27, 184, 1, 35, 153, 0, 10, 28, 184, 1, 35, 154, 0, 7, 4, 167, 0, 43, 27, 28, 159, 0, 14, 33]
abbrev dktX4_noMoney_0 : List UInt8 := dkwX4_noMoney_0 ++ dktX4_noMoney_1
theorem dksX4_noMoney_0 : cX4_noMoney.data.toList.drop 0 = dktX4_noMoney_0 := by decide +kernel
theorem dksX4_noMoney_1 : cX4_noMoney.data.toList.drop 24 = dktX4_noMoney_1 := dk_seg dksX4_noMoney_0 24 rfl rfl
theorem dksX4_noMoney_2 : cX4_noMoney.data.toList.drop 48 = dktX4_noMoney_2 := dk_seg dksX4_noMoney_1 24 rfl rfl
theorem dX4_noMoney_0 : decode cX4_noMoney 0 = .ok (.iload_n 1, 1) := dk_27 (dk_at dksX4_noMoney_0 0 rfl rfl)
theorem dX4_noMoney_1 : decode cX4_noMoney 1 = .ok (.invokestatic 291, 3) := dk_184 1 35 (dk_at dksX4_noMoney_0 1 rfl rfl)
theorem dX4_noMoney_4 : decode cX4_noMoney 4 = .ok (.ifCond .eq 10, 3) := dk_153 0 10 (dk_at dksX4_noMoney_0 4 rfl rfl)
theorem dX4_noMoney_7 : decode cX4_noMoney 7 = .ok (.iload_n 2, 1) := dk_28 (dk_at dksX4_noMoney_0 7 rfl rfl)
theorem dX4_noMoney_8 : decode cX4_noMoney 8 = .ok (.invokestatic 291, 3) := dk_184 1 35 (dk_at dksX4_noMoney_0 8 rfl rfl)
theorem dX4_noMoney_11 : decode cX4_noMoney 11 = .ok (.ifCond .ne 7, 3) := dk_154 0 7 (dk_at dksX4_noMoney_0 11 rfl rfl)
theorem dX4_noMoney_14 : decode cX4_noMoney 14 = .ok (.iconst 1, 1) := dk_4 (dk_at dksX4_noMoney_0 14 rfl rfl)
theorem dX4_noMoney_15 : decode cX4_noMoney 15 = .ok (.goto 43, 3) := dk_167 0 43 (dk_at dksX4_noMoney_0 15 rfl rfl)
theorem dX4_noMoney_18 : decode cX4_noMoney 18 = .ok (.iload_n 1, 1) := dk_27 (dk_at dksX4_noMoney_0 18 rfl rfl)
theorem dX4_noMoney_19 : decode cX4_noMoney 19 = .ok (.iload_n 2, 1) := dk_28 (dk_at dksX4_noMoney_0 19 rfl rfl)
theorem dX4_noMoney_20 : decode cX4_noMoney 20 = .ok (.if_icmp .eq 14, 3) := dk_159 0 14 (dk_at dksX4_noMoney_0 20 rfl rfl)
theorem dX4_noMoney_23 : decode cX4_noMoney 23 = .ok (.lload_n 3, 1) := dk_33 (dk_at dksX4_noMoney_0 23 rfl rfl)
theorem dX4_noMoney_24 : decode cX4_noMoney 24 = .ok (.lconst 0, 1) := dk_9 (dk_at dksX4_noMoney_1 0 rfl rfl)
theorem dX4_noMoney_25 : decode cX4_noMoney 25 = .ok (.ldc2_w 296, 3) := dk_20 1 40 (dk_at dksX4_noMoney_1 1 rfl rfl)
theorem dX4_noMoney_28 : decode cX4_noMoney 28 = .ok (.invokestatic 182, 3) := dk_184 0 182 (dk_at dksX4_noMoney_1 4 rfl rfl)
theorem dX4_noMoney_31 : decode cX4_noMoney 31 = .ok (.ifCond .ne 7, 3) := dk_154 0 7 (dk_at dksX4_noMoney_1 7 rfl rfl)
theorem dX4_noMoney_34 : decode cX4_noMoney 34 = .ok (.iconst 2, 1) := dk_5 (dk_at dksX4_noMoney_1 10 rfl rfl)
theorem dX4_noMoney_35 : decode cX4_noMoney 35 = .ok (.goto 23, 3) := dk_167 0 23 (dk_at dksX4_noMoney_1 11 rfl rfl)
theorem dX4_noMoney_38 : decode cX4_noMoney 38 = .ok (.aload_n 0, 1) := dk_42 (dk_at dksX4_noMoney_1 14 rfl rfl)
theorem dX4_noMoney_39 : decode cX4_noMoney 39 = .ok (.getfield 80, 3) := dk_180 0 80 (dk_at dksX4_noMoney_1 15 rfl rfl)
theorem dX4_noMoney_42 : decode cX4_noMoney 42 = .ok (.iconst 4, 1) := dk_7 (dk_at dksX4_noMoney_1 18 rfl rfl)
theorem dX4_noMoney_43 : decode cX4_noMoney 43 = .ok (.iload_n 1, 1) := dk_27 (dk_at dksX4_noMoney_1 19 rfl rfl)
theorem dX4_noMoney_44 : decode cX4_noMoney 44 = .ok (.imul, 1) := dk_104 (dk_at dksX4_noMoney_1 20 rfl rfl)
theorem dX4_noMoney_45 : decode cX4_noMoney 45 = .ok (.iload_n 2, 1) := dk_28 (dk_at dksX4_noMoney_1 21 rfl rfl)
theorem dX4_noMoney_46 : decode cX4_noMoney 46 = .ok (.iadd, 1) := dk_96 (dk_at dksX4_noMoney_1 22 rfl rfl)
theorem dX4_noMoney_47 : decode cX4_noMoney 47 = .ok (.laload, 1) := dk_47 (dk_at dksX4_noMoney_1 23 rfl rfl)
theorem dX4_noMoney_48 : decode cX4_noMoney 48 = .ok (.lconst 0, 1) := dk_9 (dk_at dksX4_noMoney_2 0 rfl rfl)
theorem dX4_noMoney_49 : decode cX4_noMoney 49 = .ok (.lcmp, 1) := dk_148 (dk_at dksX4_noMoney_2 1 rfl rfl)
theorem dX4_noMoney_50 : decode cX4_noMoney 50 = .ok (.ifCond .ne 7, 3) := dk_154 0 7 (dk_at dksX4_noMoney_2 2 rfl rfl)
theorem dX4_noMoney_53 : decode cX4_noMoney 53 = .ok (.iconst 3, 1) := dk_6 (dk_at dksX4_noMoney_2 5 rfl rfl)
theorem dX4_noMoney_54 : decode cX4_noMoney 54 = .ok (.goto 4, 3) := dk_167 0 4 (dk_at dksX4_noMoney_2 6 rfl rfl)
theorem dX4_noMoney_57 : decode cX4_noMoney 57 = .ok (.iconst 0, 1) := dk_3 (dk_at dksX4_noMoney_2 9 rfl rfl)
theorem dX4_noMoney_58 : decode cX4_noMoney 58 = .ok (.ireturn, 1) := dk_172 (dk_at dksX4_noMoney_2 10 rfl rfl)
def dkwX4_changed_5 : List UInt8 := [167, 0, 8, 42, 5, 182, 0, 194, 173]
abbrev dktX4_changed_5 : List UInt8 := dkwX4_changed_5 ++ []
def dkwX4_changed_4 : List UInt8 := [46, 16, 18, 164, 0, 7, 4, 167, 0, 4, 3, 128, 181, 0, 47, 42, 180, 0, 47, 153, 0, 7, 9]
abbrev dktX4_changed_4 : List UInt8 := dkwX4_changed_4 ++ dktX4_changed_5
def dkwX4_changed_3 : List UInt8 := [182, 0, 24, 42, 3, 42, 180, 0, 77, 28, 52, 182, 1, 10, 42, 89, 180, 0, 47, 42, 180, 0, 1, 5]
abbrev dktX4_changed_3 : List UInt8 := dkwX4_changed_3 ++ dktX4_changed_4
def dkwX4_changed_2 : List UInt8 := [42, 3, 8, 182, 0, 241, 42, 3, 21, 6, 182, 0, 24, 42, 4, 10, 182, 0, 33, 42, 4, 21, 6, 116]
abbrev dktX4_changed_2 : List UInt8 := dkwX4_changed_2 ++ dktX4_changed_3
def dkwX4_changed_1 : List UInt8 := [21, 5, 46, 100, 54, 6, 42, 3, 33, 182, 0, 33, 42, 8, 42, 180, 0, 80, 21, 5, 47, 182, 0, 33]
abbrev dktX4_changed_1 : List UInt8 := dkwX4_changed_1 ++ dktX4_changed_2
def dkwX4_changed_0 : List UInt8 := [7, 27, 104, 28, 96, 54, 5, 42, 180, 0, 71, 28, 46, 42, 180, 0, 71, 27, 46, 100, 42, 180, 0, 83]
abbrev dktX4_changed_0 : List UInt8 := dkwX4_changed_0 ++ dktX4_changed_1
theorem dksX4_changed_0 : cX4_changed.data.toList.drop 0 = dktX4_changed_0 := by decide +kernel
theorem dksX4_changed_1 : cX4_changed.data.toList.drop 24 = dktX4_changed_1 := dk_seg dksX4_changed_0 24 rfl rfl
theorem dksX4_changed_2 : cX4_changed.data.toList.drop 48 = dktX4_changed_2 := dk_seg dksX4_changed_1 24 rfl rfl
theorem dksX4_changed_3 : cX4_changed.data.toList.drop 72 = dktX4_changed_3 := dk_seg dksX4_changed_2 24 rfl rfl
theorem dksX4_changed_4 : cX4_changed.data.toList.drop 96 = dktX4_changed_4 := dk_seg dksX4_changed_3 24 rfl rfl
theorem dksX4_changed_5 : cX4_changed.data.toList.drop 119 = dktX4_changed_5 := dk_seg dksX4_changed_4 23 rfl rfl
theorem dX4_changed_0 : decode cX4_changed 0 = .ok (.iconst 4, 1) := dk_7 (dk_at dksX4_changed_0 0 rfl rfl)
theorem dX4_changed_1 : decode cX4_changed 1 = .ok (.iload_n 1, 1) := dk_27 (dk_at dksX4_changed_0 1 rfl rfl)
theorem dX4_changed_2 : decode cX4_changed 2 = .ok (.imul, 1) := dk_104 (dk_at dksX4_changed_0 2 rfl rfl)
theorem dX4_changed_3 : decode cX4_changed 3 = .ok (.iload_n 2, 1) := dk_28 (dk_at dksX4_changed_0 3 rfl rfl)
theorem dX4_changed_4 : decode cX4_changed 4 = .ok (.iadd, 1) := dk_96 (dk_at dksX4_changed_0 4 rfl rfl)
theorem dX4_changed_5 : decode cX4_changed 5 = .ok (.istore 5, 2) := dk_54 5 (dk_at dksX4_changed_0 5 rfl rfl)
theorem dX4_changed_7 : decode cX4_changed 7 = .ok (.aload_n 0, 1) := dk_42 (dk_at dksX4_changed_0 7 rfl rfl)
theorem dX4_changed_8 : decode cX4_changed 8 = .ok (.getfield 71, 3) := dk_180 0 71 (dk_at dksX4_changed_0 8 rfl rfl)
theorem dX4_changed_11 : decode cX4_changed 11 = .ok (.iload_n 2, 1) := dk_28 (dk_at dksX4_changed_0 11 rfl rfl)
theorem dX4_changed_12 : decode cX4_changed 12 = .ok (.iaload, 1) := dk_46 (dk_at dksX4_changed_0 12 rfl rfl)
theorem dX4_changed_13 : decode cX4_changed 13 = .ok (.aload_n 0, 1) := dk_42 (dk_at dksX4_changed_0 13 rfl rfl)
theorem dX4_changed_14 : decode cX4_changed 14 = .ok (.getfield 71, 3) := dk_180 0 71 (dk_at dksX4_changed_0 14 rfl rfl)
theorem dX4_changed_17 : decode cX4_changed 17 = .ok (.iload_n 1, 1) := dk_27 (dk_at dksX4_changed_0 17 rfl rfl)
theorem dX4_changed_18 : decode cX4_changed 18 = .ok (.iaload, 1) := dk_46 (dk_at dksX4_changed_0 18 rfl rfl)
theorem dX4_changed_19 : decode cX4_changed 19 = .ok (.isub, 1) := dk_100 (dk_at dksX4_changed_0 19 rfl rfl)
theorem dX4_changed_20 : decode cX4_changed 20 = .ok (.aload_n 0, 1) := dk_42 (dk_at dksX4_changed_0 20 rfl rfl)
theorem dX4_changed_21 : decode cX4_changed 21 = .ok (.getfield 83, 3) := dk_180 0 83 (dk_at dksX4_changed_0 21 rfl rfl)
theorem dX4_changed_24 : decode cX4_changed 24 = .ok (.iload 5, 2) := dk_21 5 (dk_at dksX4_changed_1 0 rfl rfl)
theorem dX4_changed_26 : decode cX4_changed 26 = .ok (.iaload, 1) := dk_46 (dk_at dksX4_changed_1 2 rfl rfl)
theorem dX4_changed_27 : decode cX4_changed 27 = .ok (.isub, 1) := dk_100 (dk_at dksX4_changed_1 3 rfl rfl)
theorem dX4_changed_28 : decode cX4_changed 28 = .ok (.istore 6, 2) := dk_54 6 (dk_at dksX4_changed_1 4 rfl rfl)
theorem dX4_changed_30 : decode cX4_changed 30 = .ok (.aload_n 0, 1) := dk_42 (dk_at dksX4_changed_1 6 rfl rfl)
theorem dX4_changed_31 : decode cX4_changed 31 = .ok (.iconst 0, 1) := dk_3 (dk_at dksX4_changed_1 7 rfl rfl)
theorem dX4_changed_32 : decode cX4_changed 32 = .ok (.lload_n 3, 1) := dk_33 (dk_at dksX4_changed_1 8 rfl rfl)
theorem dX4_changed_33 : decode cX4_changed 33 = .ok (.invokevirtual 33, 3) := dk_182 0 33 (dk_at dksX4_changed_1 9 rfl rfl)
theorem dX4_changed_36 : decode cX4_changed 36 = .ok (.aload_n 0, 1) := dk_42 (dk_at dksX4_changed_1 12 rfl rfl)
theorem dX4_changed_37 : decode cX4_changed 37 = .ok (.iconst 5, 1) := dk_8 (dk_at dksX4_changed_1 13 rfl rfl)
theorem dX4_changed_38 : decode cX4_changed 38 = .ok (.aload_n 0, 1) := dk_42 (dk_at dksX4_changed_1 14 rfl rfl)
theorem dX4_changed_39 : decode cX4_changed 39 = .ok (.getfield 80, 3) := dk_180 0 80 (dk_at dksX4_changed_1 15 rfl rfl)
theorem dX4_changed_42 : decode cX4_changed 42 = .ok (.iload 5, 2) := dk_21 5 (dk_at dksX4_changed_1 18 rfl rfl)
theorem dX4_changed_44 : decode cX4_changed 44 = .ok (.laload, 1) := dk_47 (dk_at dksX4_changed_1 20 rfl rfl)
theorem dX4_changed_45 : decode cX4_changed 45 = .ok (.invokevirtual 33, 3) := dk_182 0 33 (dk_at dksX4_changed_1 21 rfl rfl)
theorem dX4_changed_48 : decode cX4_changed 48 = .ok (.aload_n 0, 1) := dk_42 (dk_at dksX4_changed_2 0 rfl rfl)
theorem dX4_changed_49 : decode cX4_changed 49 = .ok (.iconst 0, 1) := dk_3 (dk_at dksX4_changed_2 1 rfl rfl)
theorem dX4_changed_50 : decode cX4_changed 50 = .ok (.iconst 5, 1) := dk_8 (dk_at dksX4_changed_2 2 rfl rfl)
theorem dX4_changed_51 : decode cX4_changed 51 = .ok (.invokevirtual 241, 3) := dk_182 0 241 (dk_at dksX4_changed_2 3 rfl rfl)
theorem dX4_changed_54 : decode cX4_changed 54 = .ok (.aload_n 0, 1) := dk_42 (dk_at dksX4_changed_2 6 rfl rfl)
theorem dX4_changed_55 : decode cX4_changed 55 = .ok (.iconst 0, 1) := dk_3 (dk_at dksX4_changed_2 7 rfl rfl)
theorem dX4_changed_56 : decode cX4_changed 56 = .ok (.iload 6, 2) := dk_21 6 (dk_at dksX4_changed_2 8 rfl rfl)
theorem dX4_changed_58 : decode cX4_changed 58 = .ok (.invokevirtual 24, 3) := dk_182 0 24 (dk_at dksX4_changed_2 10 rfl rfl)
theorem dX4_changed_61 : decode cX4_changed 61 = .ok (.aload_n 0, 1) := dk_42 (dk_at dksX4_changed_2 13 rfl rfl)
theorem dX4_changed_62 : decode cX4_changed 62 = .ok (.iconst 1, 1) := dk_4 (dk_at dksX4_changed_2 14 rfl rfl)
theorem dX4_changed_63 : decode cX4_changed 63 = .ok (.lconst 1, 1) := dk_10 (dk_at dksX4_changed_2 15 rfl rfl)
theorem dX4_changed_64 : decode cX4_changed 64 = .ok (.invokevirtual 33, 3) := dk_182 0 33 (dk_at dksX4_changed_2 16 rfl rfl)
theorem dX4_changed_67 : decode cX4_changed 67 = .ok (.aload_n 0, 1) := dk_42 (dk_at dksX4_changed_2 19 rfl rfl)
theorem dX4_changed_68 : decode cX4_changed 68 = .ok (.iconst 1, 1) := dk_4 (dk_at dksX4_changed_2 20 rfl rfl)
theorem dX4_changed_69 : decode cX4_changed 69 = .ok (.iload 6, 2) := dk_21 6 (dk_at dksX4_changed_2 21 rfl rfl)
theorem dX4_changed_71 : decode cX4_changed 71 = .ok (.ineg, 1) := dk_116 (dk_at dksX4_changed_2 23 rfl rfl)
theorem dX4_changed_72 : decode cX4_changed 72 = .ok (.invokevirtual 24, 3) := dk_182 0 24 (dk_at dksX4_changed_3 0 rfl rfl)
theorem dX4_changed_75 : decode cX4_changed 75 = .ok (.aload_n 0, 1) := dk_42 (dk_at dksX4_changed_3 3 rfl rfl)
theorem dX4_changed_76 : decode cX4_changed 76 = .ok (.iconst 0, 1) := dk_3 (dk_at dksX4_changed_3 4 rfl rfl)
theorem dX4_changed_77 : decode cX4_changed 77 = .ok (.aload_n 0, 1) := dk_42 (dk_at dksX4_changed_3 5 rfl rfl)
theorem dX4_changed_78 : decode cX4_changed 78 = .ok (.getfield 77, 3) := dk_180 0 77 (dk_at dksX4_changed_3 6 rfl rfl)
theorem dX4_changed_81 : decode cX4_changed 81 = .ok (.iload_n 2, 1) := dk_28 (dk_at dksX4_changed_3 9 rfl rfl)
theorem dX4_changed_82 : decode cX4_changed 82 = .ok (.caload, 1) := dk_52 (dk_at dksX4_changed_3 10 rfl rfl)
theorem dX4_changed_83 : decode cX4_changed 83 = .ok (.invokevirtual 266, 3) := dk_182 1 10 (dk_at dksX4_changed_3 11 rfl rfl)
theorem dX4_changed_86 : decode cX4_changed 86 = .ok (.aload_n 0, 1) := dk_42 (dk_at dksX4_changed_3 14 rfl rfl)
theorem dX4_changed_87 : decode cX4_changed 87 = .ok (.dup, 1) := dk_89 (dk_at dksX4_changed_3 15 rfl rfl)
theorem dX4_changed_88 : decode cX4_changed 88 = .ok (.getfield 47, 3) := dk_180 0 47 (dk_at dksX4_changed_3 16 rfl rfl)
theorem dX4_changed_91 : decode cX4_changed 91 = .ok (.aload_n 0, 1) := dk_42 (dk_at dksX4_changed_3 19 rfl rfl)
theorem dX4_changed_92 : decode cX4_changed 92 = .ok (.getfield 1, 3) := dk_180 0 1 (dk_at dksX4_changed_3 20 rfl rfl)
theorem dX4_changed_95 : decode cX4_changed 95 = .ok (.iconst 2, 1) := dk_5 (dk_at dksX4_changed_3 23 rfl rfl)
theorem dX4_changed_96 : decode cX4_changed 96 = .ok (.iaload, 1) := dk_46 (dk_at dksX4_changed_4 0 rfl rfl)
theorem dX4_changed_97 : decode cX4_changed 97 = .ok (.bipush 18, 2) := dk_16 18 (dk_at dksX4_changed_4 1 rfl rfl)
theorem dX4_changed_99 : decode cX4_changed 99 = .ok (.if_icmp .le 7, 3) := dk_164 0 7 (dk_at dksX4_changed_4 3 rfl rfl)
theorem dX4_changed_102 : decode cX4_changed 102 = .ok (.iconst 1, 1) := dk_4 (dk_at dksX4_changed_4 6 rfl rfl)
theorem dX4_changed_103 : decode cX4_changed 103 = .ok (.goto 4, 3) := dk_167 0 4 (dk_at dksX4_changed_4 7 rfl rfl)
theorem dX4_changed_106 : decode cX4_changed 106 = .ok (.iconst 0, 1) := dk_3 (dk_at dksX4_changed_4 10 rfl rfl)
theorem dX4_changed_107 : decode cX4_changed 107 = .ok (.ior, 1) := dk_128 (dk_at dksX4_changed_4 11 rfl rfl)
theorem dX4_changed_108 : decode cX4_changed 108 = .ok (.putfield 47, 3) := dk_181 0 47 (dk_at dksX4_changed_4 12 rfl rfl)
theorem dX4_changed_111 : decode cX4_changed 111 = .ok (.aload_n 0, 1) := dk_42 (dk_at dksX4_changed_4 15 rfl rfl)
theorem dX4_changed_112 : decode cX4_changed 112 = .ok (.getfield 47, 3) := dk_180 0 47 (dk_at dksX4_changed_4 16 rfl rfl)
theorem dX4_changed_115 : decode cX4_changed 115 = .ok (.ifCond .eq 7, 3) := dk_153 0 7 (dk_at dksX4_changed_4 19 rfl rfl)
theorem dX4_changed_118 : decode cX4_changed 118 = .ok (.lconst 0, 1) := dk_9 (dk_at dksX4_changed_4 22 rfl rfl)
theorem dX4_changed_119 : decode cX4_changed 119 = .ok (.goto 8, 3) := dk_167 0 8 (dk_at dksX4_changed_5 0 rfl rfl)
theorem dX4_changed_122 : decode cX4_changed 122 = .ok (.aload_n 0, 1) := dk_42 (dk_at dksX4_changed_5 3 rfl rfl)
theorem dX4_changed_123 : decode cX4_changed 123 = .ok (.iconst 2, 1) := dk_5 (dk_at dksX4_changed_5 4 rfl rfl)
theorem dX4_changed_124 : decode cX4_changed 124 = .ok (.invokevirtual 194, 3) := dk_182 0 194 (dk_at dksX4_changed_5 5 rfl rfl)
theorem dX4_changed_127 : decode cX4_changed 127 = .ok (.lreturn, 1) := dk_173 (dk_at dksX4_changed_5 8 rfl rfl)
def dkwX4_lost_5 : List UInt8 := [101, 173]
abbrev dktX4_lost_5 : List UInt8 := dkwX4_lost_5 ++ []
def dkwX4_lost_4 : List UInt8 := [180, 0, 47, 153, 0, 7, 7, 167, 0, 4, 3, 182, 0, 205, 153, 0, 7, 9, 167, 0, 7, 33, 22, 8]
abbrev dktX4_lost_4 : List UInt8 := dkwX4_lost_4 ++ dktX4_lost_5
def dkwX4_lost_3 : List UInt8 := [167, 0, 4, 3, 182, 0, 205, 153, 0, 5, 9, 173, 42, 28, 27, 22, 6, 182, 1, 46, 55, 8, 42, 42]
abbrev dktX4_lost_3 : List UInt8 := dkwX4_lost_3 ++ dktX4_lost_4
def dkwX4_lost_2 : List UInt8 := [42, 3, 181, 0, 47, 42, 27, 28, 33, 182, 1, 46, 55, 6, 42, 42, 180, 0, 47, 153, 0, 7, 7]
abbrev dktX4_lost_2 : List UInt8 := dkwX4_lost_2 ++ dktX4_lost_3
def dkwX4_lost_1 : List UInt8 := [7, 28, 104, 27, 96, 47, 9, 148, 154, 0, 7, 6, 167, 0, 4, 3, 182, 0, 205, 153, 0, 5, 9, 173]
abbrev dktX4_lost_1 : List UInt8 := dkwX4_lost_1 ++ dktX4_lost_2
def dkwX4_lost_0 : List UInt8 := [42, 27, 28, 33, 182, 1, 42, 54, 5, 42, 21, 5, 158, 0, 8, 21, 5, 167, 0, 23, 42, 180, 0, 80]
abbrev dktX4_lost_0 : List UInt8 := dkwX4_lost_0 ++ dktX4_lost_1
theorem dksX4_lost_0 : cX4_lost.data.toList.drop 0 = dktX4_lost_0 := by decide +kernel
theorem dksX4_lost_1 : cX4_lost.data.toList.drop 24 = dktX4_lost_1 := dk_seg dksX4_lost_0 24 rfl rfl
theorem dksX4_lost_2 : cX4_lost.data.toList.drop 48 = dktX4_lost_2 := dk_seg dksX4_lost_1 24 rfl rfl
theorem dksX4_lost_3 : cX4_lost.data.toList.drop 71 = dktX4_lost_3 := dk_seg dksX4_lost_2 23 rfl rfl
theorem dksX4_lost_4 : cX4_lost.data.toList.drop 95 = dktX4_lost_4 := dk_seg dksX4_lost_3 24 rfl rfl
theorem dksX4_lost_5 : cX4_lost.data.toList.drop 119 = dktX4_lost_5 := dk_seg dksX4_lost_4 24 rfl rfl
theorem dX4_lost_0 : decode cX4_lost 0 = .ok (.aload_n 0, 1) := dk_42 (dk_at dksX4_lost_0 0 rfl rfl)
theorem dX4_lost_1 : decode cX4_lost 1 = .ok (.iload_n 1, 1) := dk_27 (dk_at dksX4_lost_0 1 rfl rfl)
theorem dX4_lost_2 : decode cX4_lost 2 = .ok (.iload_n 2, 1) := dk_28 (dk_at dksX4_lost_0 2 rfl rfl)
theorem dX4_lost_3 : decode cX4_lost 3 = .ok (.lload_n 3, 1) := dk_33 (dk_at dksX4_lost_0 3 rfl rfl)
theorem dX4_lost_4 : decode cX4_lost 4 = .ok (.invokevirtual 298, 3) := dk_182 1 42 (dk_at dksX4_lost_0 4 rfl rfl)
theorem dX4_lost_7 : decode cX4_lost 7 = .ok (.istore 5, 2) := dk_54 5 (dk_at dksX4_lost_0 7 rfl rfl)
theorem dX4_lost_9 : decode cX4_lost 9 = .ok (.aload_n 0, 1) := dk_42 (dk_at dksX4_lost_0 9 rfl rfl)
theorem dX4_lost_10 : decode cX4_lost 10 = .ok (.iload 5, 2) := dk_21 5 (dk_at dksX4_lost_0 10 rfl rfl)
theorem dX4_lost_12 : decode cX4_lost 12 = .ok (.ifCond .le 8, 3) := dk_158 0 8 (dk_at dksX4_lost_0 12 rfl rfl)
theorem dX4_lost_15 : decode cX4_lost 15 = .ok (.iload 5, 2) := dk_21 5 (dk_at dksX4_lost_0 15 rfl rfl)
theorem dX4_lost_17 : decode cX4_lost 17 = .ok (.goto 23, 3) := dk_167 0 23 (dk_at dksX4_lost_0 17 rfl rfl)
theorem dX4_lost_20 : decode cX4_lost 20 = .ok (.aload_n 0, 1) := dk_42 (dk_at dksX4_lost_0 20 rfl rfl)
theorem dX4_lost_21 : decode cX4_lost 21 = .ok (.getfield 80, 3) := dk_180 0 80 (dk_at dksX4_lost_0 21 rfl rfl)
theorem dX4_lost_24 : decode cX4_lost 24 = .ok (.iconst 4, 1) := dk_7 (dk_at dksX4_lost_1 0 rfl rfl)
theorem dX4_lost_25 : decode cX4_lost 25 = .ok (.iload_n 2, 1) := dk_28 (dk_at dksX4_lost_1 1 rfl rfl)
theorem dX4_lost_26 : decode cX4_lost 26 = .ok (.imul, 1) := dk_104 (dk_at dksX4_lost_1 2 rfl rfl)
theorem dX4_lost_27 : decode cX4_lost 27 = .ok (.iload_n 1, 1) := dk_27 (dk_at dksX4_lost_1 3 rfl rfl)
theorem dX4_lost_28 : decode cX4_lost 28 = .ok (.iadd, 1) := dk_96 (dk_at dksX4_lost_1 4 rfl rfl)
theorem dX4_lost_29 : decode cX4_lost 29 = .ok (.laload, 1) := dk_47 (dk_at dksX4_lost_1 5 rfl rfl)
theorem dX4_lost_30 : decode cX4_lost 30 = .ok (.lconst 0, 1) := dk_9 (dk_at dksX4_lost_1 6 rfl rfl)
theorem dX4_lost_31 : decode cX4_lost 31 = .ok (.lcmp, 1) := dk_148 (dk_at dksX4_lost_1 7 rfl rfl)
theorem dX4_lost_32 : decode cX4_lost 32 = .ok (.ifCond .ne 7, 3) := dk_154 0 7 (dk_at dksX4_lost_1 8 rfl rfl)
theorem dX4_lost_35 : decode cX4_lost 35 = .ok (.iconst 3, 1) := dk_6 (dk_at dksX4_lost_1 11 rfl rfl)
theorem dX4_lost_36 : decode cX4_lost 36 = .ok (.goto 4, 3) := dk_167 0 4 (dk_at dksX4_lost_1 12 rfl rfl)
theorem dX4_lost_39 : decode cX4_lost 39 = .ok (.iconst 0, 1) := dk_3 (dk_at dksX4_lost_1 15 rfl rfl)
theorem dX4_lost_40 : decode cX4_lost 40 = .ok (.invokevirtual 205, 3) := dk_182 0 205 (dk_at dksX4_lost_1 16 rfl rfl)
theorem dX4_lost_43 : decode cX4_lost 43 = .ok (.ifCond .eq 5, 3) := dk_153 0 5 (dk_at dksX4_lost_1 19 rfl rfl)
theorem dX4_lost_46 : decode cX4_lost 46 = .ok (.lconst 0, 1) := dk_9 (dk_at dksX4_lost_1 22 rfl rfl)
theorem dX4_lost_47 : decode cX4_lost 47 = .ok (.lreturn, 1) := dk_173 (dk_at dksX4_lost_1 23 rfl rfl)
theorem dX4_lost_48 : decode cX4_lost 48 = .ok (.aload_n 0, 1) := dk_42 (dk_at dksX4_lost_2 0 rfl rfl)
theorem dX4_lost_49 : decode cX4_lost 49 = .ok (.iconst 0, 1) := dk_3 (dk_at dksX4_lost_2 1 rfl rfl)
theorem dX4_lost_50 : decode cX4_lost 50 = .ok (.putfield 47, 3) := dk_181 0 47 (dk_at dksX4_lost_2 2 rfl rfl)
theorem dX4_lost_53 : decode cX4_lost 53 = .ok (.aload_n 0, 1) := dk_42 (dk_at dksX4_lost_2 5 rfl rfl)
theorem dX4_lost_54 : decode cX4_lost 54 = .ok (.iload_n 1, 1) := dk_27 (dk_at dksX4_lost_2 6 rfl rfl)
theorem dX4_lost_55 : decode cX4_lost 55 = .ok (.iload_n 2, 1) := dk_28 (dk_at dksX4_lost_2 7 rfl rfl)
theorem dX4_lost_56 : decode cX4_lost 56 = .ok (.lload_n 3, 1) := dk_33 (dk_at dksX4_lost_2 8 rfl rfl)
theorem dX4_lost_57 : decode cX4_lost 57 = .ok (.invokevirtual 302, 3) := dk_182 1 46 (dk_at dksX4_lost_2 9 rfl rfl)
theorem dX4_lost_60 : decode cX4_lost 60 = .ok (.lstore 6, 2) := dk_55 6 (dk_at dksX4_lost_2 12 rfl rfl)
theorem dX4_lost_62 : decode cX4_lost 62 = .ok (.aload_n 0, 1) := dk_42 (dk_at dksX4_lost_2 14 rfl rfl)
theorem dX4_lost_63 : decode cX4_lost 63 = .ok (.aload_n 0, 1) := dk_42 (dk_at dksX4_lost_2 15 rfl rfl)
theorem dX4_lost_64 : decode cX4_lost 64 = .ok (.getfield 47, 3) := dk_180 0 47 (dk_at dksX4_lost_2 16 rfl rfl)
theorem dX4_lost_67 : decode cX4_lost 67 = .ok (.ifCond .eq 7, 3) := dk_153 0 7 (dk_at dksX4_lost_2 19 rfl rfl)
theorem dX4_lost_70 : decode cX4_lost 70 = .ok (.iconst 4, 1) := dk_7 (dk_at dksX4_lost_2 22 rfl rfl)
theorem dX4_lost_71 : decode cX4_lost 71 = .ok (.goto 4, 3) := dk_167 0 4 (dk_at dksX4_lost_3 0 rfl rfl)
theorem dX4_lost_74 : decode cX4_lost 74 = .ok (.iconst 0, 1) := dk_3 (dk_at dksX4_lost_3 3 rfl rfl)
theorem dX4_lost_75 : decode cX4_lost 75 = .ok (.invokevirtual 205, 3) := dk_182 0 205 (dk_at dksX4_lost_3 4 rfl rfl)
theorem dX4_lost_78 : decode cX4_lost 78 = .ok (.ifCond .eq 5, 3) := dk_153 0 5 (dk_at dksX4_lost_3 7 rfl rfl)
theorem dX4_lost_81 : decode cX4_lost 81 = .ok (.lconst 0, 1) := dk_9 (dk_at dksX4_lost_3 10 rfl rfl)
theorem dX4_lost_82 : decode cX4_lost 82 = .ok (.lreturn, 1) := dk_173 (dk_at dksX4_lost_3 11 rfl rfl)
theorem dX4_lost_83 : decode cX4_lost 83 = .ok (.aload_n 0, 1) := dk_42 (dk_at dksX4_lost_3 12 rfl rfl)
theorem dX4_lost_84 : decode cX4_lost 84 = .ok (.iload_n 2, 1) := dk_28 (dk_at dksX4_lost_3 13 rfl rfl)
theorem dX4_lost_85 : decode cX4_lost 85 = .ok (.iload_n 1, 1) := dk_27 (dk_at dksX4_lost_3 14 rfl rfl)
theorem dX4_lost_86 : decode cX4_lost 86 = .ok (.lload 6, 2) := dk_22 6 (dk_at dksX4_lost_3 15 rfl rfl)
theorem dX4_lost_88 : decode cX4_lost 88 = .ok (.invokevirtual 302, 3) := dk_182 1 46 (dk_at dksX4_lost_3 17 rfl rfl)
theorem dX4_lost_91 : decode cX4_lost 91 = .ok (.lstore 8, 2) := dk_55 8 (dk_at dksX4_lost_3 20 rfl rfl)
theorem dX4_lost_93 : decode cX4_lost 93 = .ok (.aload_n 0, 1) := dk_42 (dk_at dksX4_lost_3 22 rfl rfl)
theorem dX4_lost_94 : decode cX4_lost 94 = .ok (.aload_n 0, 1) := dk_42 (dk_at dksX4_lost_3 23 rfl rfl)
theorem dX4_lost_95 : decode cX4_lost 95 = .ok (.getfield 47, 3) := dk_180 0 47 (dk_at dksX4_lost_4 0 rfl rfl)
theorem dX4_lost_98 : decode cX4_lost 98 = .ok (.ifCond .eq 7, 3) := dk_153 0 7 (dk_at dksX4_lost_4 3 rfl rfl)
theorem dX4_lost_101 : decode cX4_lost 101 = .ok (.iconst 4, 1) := dk_7 (dk_at dksX4_lost_4 6 rfl rfl)
theorem dX4_lost_102 : decode cX4_lost 102 = .ok (.goto 4, 3) := dk_167 0 4 (dk_at dksX4_lost_4 7 rfl rfl)
theorem dX4_lost_105 : decode cX4_lost 105 = .ok (.iconst 0, 1) := dk_3 (dk_at dksX4_lost_4 10 rfl rfl)
theorem dX4_lost_106 : decode cX4_lost 106 = .ok (.invokevirtual 205, 3) := dk_182 0 205 (dk_at dksX4_lost_4 11 rfl rfl)
theorem dX4_lost_109 : decode cX4_lost 109 = .ok (.ifCond .eq 7, 3) := dk_153 0 7 (dk_at dksX4_lost_4 14 rfl rfl)
theorem dX4_lost_112 : decode cX4_lost 112 = .ok (.lconst 0, 1) := dk_9 (dk_at dksX4_lost_4 17 rfl rfl)
theorem dX4_lost_113 : decode cX4_lost 113 = .ok (.goto 7, 3) := dk_167 0 7 (dk_at dksX4_lost_4 18 rfl rfl)
theorem dX4_lost_116 : decode cX4_lost 116 = .ok (.lload_n 3, 1) := dk_33 (dk_at dksX4_lost_4 21 rfl rfl)
theorem dX4_lost_117 : decode cX4_lost 117 = .ok (.lload 8, 2) := dk_22 8 (dk_at dksX4_lost_4 22 rfl rfl)
theorem dX4_lost_119 : decode cX4_lost 119 = .ok (.lsub, 1) := dk_101 (dk_at dksX4_lost_5 0 rfl rfl)
theorem dX4_lost_120 : decode cX4_lost 120 = .ok (.lreturn, 1) := dk_173 (dk_at dksX4_lost_5 1 rfl rfl)
def dkwX4_setTax_3 : List UInt8 := [184, 1, 55, 79, 42, 180, 0, 98, 27, 46, 172]
abbrev dktX4_setTax_3 : List UInt8 := dkwX4_setTax_3 ++ []
def dkwX4_setTax_2 : List UInt8 := [172, 42, 180, 0, 98, 27, 42, 180, 0, 86, 42, 180, 0, 89, 27, 42, 180, 0, 98, 27, 46, 28, 29]
abbrev dktX4_setTax_2 : List UInt8 := dkwX4_setTax_2 ++ dktX4_setTax_3
def dkwX4_setTax_1 : List UInt8 := [29, 133, 9, 20, 1, 53, 184, 0, 182, 154, 0, 7, 5, 167, 0, 4, 3, 182, 0, 205, 153, 0, 5, 3]
abbrev dktX4_setTax_1 : List UInt8 := dkwX4_setTax_1 ++ dktX4_setTax_2
def dkwX4_setTax_0 : List UInt8 := [42, 27, 184, 1, 50, 154, 0, 7, 4, 167, 0, 32, 28, 133, 9, 20, 1, 53, 184, 0, 182, 153, 0, 15]
abbrev dktX4_setTax_0 : List UInt8 := dkwX4_setTax_0 ++ dktX4_setTax_1
theorem dksX4_setTax_0 : cX4_setTax.data.toList.drop 0 = dktX4_setTax_0 := by decide +kernel
theorem dksX4_setTax_1 : cX4_setTax.data.toList.drop 24 = dktX4_setTax_1 := dk_seg dksX4_setTax_0 24 rfl rfl
theorem dksX4_setTax_2 : cX4_setTax.data.toList.drop 48 = dktX4_setTax_2 := dk_seg dksX4_setTax_1 24 rfl rfl
theorem dksX4_setTax_3 : cX4_setTax.data.toList.drop 71 = dktX4_setTax_3 := dk_seg dksX4_setTax_2 23 rfl rfl
theorem dX4_setTax_0 : decode cX4_setTax 0 = .ok (.aload_n 0, 1) := dk_42 (dk_at dksX4_setTax_0 0 rfl rfl)
theorem dX4_setTax_1 : decode cX4_setTax 1 = .ok (.iload_n 1, 1) := dk_27 (dk_at dksX4_setTax_0 1 rfl rfl)
theorem dX4_setTax_2 : decode cX4_setTax 2 = .ok (.invokestatic 306, 3) := dk_184 1 50 (dk_at dksX4_setTax_0 2 rfl rfl)
theorem dX4_setTax_5 : decode cX4_setTax 5 = .ok (.ifCond .ne 7, 3) := dk_154 0 7 (dk_at dksX4_setTax_0 5 rfl rfl)
theorem dX4_setTax_8 : decode cX4_setTax 8 = .ok (.iconst 1, 1) := dk_4 (dk_at dksX4_setTax_0 8 rfl rfl)
theorem dX4_setTax_9 : decode cX4_setTax 9 = .ok (.goto 32, 3) := dk_167 0 32 (dk_at dksX4_setTax_0 9 rfl rfl)
theorem dX4_setTax_12 : decode cX4_setTax 12 = .ok (.iload_n 2, 1) := dk_28 (dk_at dksX4_setTax_0 12 rfl rfl)
theorem dX4_setTax_13 : decode cX4_setTax 13 = .ok (.i2l, 1) := dk_133 (dk_at dksX4_setTax_0 13 rfl rfl)
theorem dX4_setTax_14 : decode cX4_setTax 14 = .ok (.lconst 0, 1) := dk_9 (dk_at dksX4_setTax_0 14 rfl rfl)
theorem dX4_setTax_15 : decode cX4_setTax 15 = .ok (.ldc2_w 309, 3) := dk_20 1 53 (dk_at dksX4_setTax_0 15 rfl rfl)
theorem dX4_setTax_18 : decode cX4_setTax 18 = .ok (.invokestatic 182, 3) := dk_184 0 182 (dk_at dksX4_setTax_0 18 rfl rfl)
theorem dX4_setTax_21 : decode cX4_setTax 21 = .ok (.ifCond .eq 15, 3) := dk_153 0 15 (dk_at dksX4_setTax_0 21 rfl rfl)
theorem dX4_setTax_24 : decode cX4_setTax 24 = .ok (.iload_n 3, 1) := dk_29 (dk_at dksX4_setTax_1 0 rfl rfl)
theorem dX4_setTax_25 : decode cX4_setTax 25 = .ok (.i2l, 1) := dk_133 (dk_at dksX4_setTax_1 1 rfl rfl)
theorem dX4_setTax_26 : decode cX4_setTax 26 = .ok (.lconst 0, 1) := dk_9 (dk_at dksX4_setTax_1 2 rfl rfl)
theorem dX4_setTax_27 : decode cX4_setTax 27 = .ok (.ldc2_w 309, 3) := dk_20 1 53 (dk_at dksX4_setTax_1 3 rfl rfl)
theorem dX4_setTax_30 : decode cX4_setTax 30 = .ok (.invokestatic 182, 3) := dk_184 0 182 (dk_at dksX4_setTax_1 6 rfl rfl)
theorem dX4_setTax_33 : decode cX4_setTax 33 = .ok (.ifCond .ne 7, 3) := dk_154 0 7 (dk_at dksX4_setTax_1 9 rfl rfl)
theorem dX4_setTax_36 : decode cX4_setTax 36 = .ok (.iconst 2, 1) := dk_5 (dk_at dksX4_setTax_1 12 rfl rfl)
theorem dX4_setTax_37 : decode cX4_setTax 37 = .ok (.goto 4, 3) := dk_167 0 4 (dk_at dksX4_setTax_1 13 rfl rfl)
theorem dX4_setTax_40 : decode cX4_setTax 40 = .ok (.iconst 0, 1) := dk_3 (dk_at dksX4_setTax_1 16 rfl rfl)
theorem dX4_setTax_41 : decode cX4_setTax 41 = .ok (.invokevirtual 205, 3) := dk_182 0 205 (dk_at dksX4_setTax_1 17 rfl rfl)
theorem dX4_setTax_44 : decode cX4_setTax 44 = .ok (.ifCond .eq 5, 3) := dk_153 0 5 (dk_at dksX4_setTax_1 20 rfl rfl)
theorem dX4_setTax_47 : decode cX4_setTax 47 = .ok (.iconst 0, 1) := dk_3 (dk_at dksX4_setTax_1 23 rfl rfl)
theorem dX4_setTax_48 : decode cX4_setTax 48 = .ok (.ireturn, 1) := dk_172 (dk_at dksX4_setTax_2 0 rfl rfl)
theorem dX4_setTax_49 : decode cX4_setTax 49 = .ok (.aload_n 0, 1) := dk_42 (dk_at dksX4_setTax_2 1 rfl rfl)
theorem dX4_setTax_50 : decode cX4_setTax 50 = .ok (.getfield 98, 3) := dk_180 0 98 (dk_at dksX4_setTax_2 2 rfl rfl)
theorem dX4_setTax_53 : decode cX4_setTax 53 = .ok (.iload_n 1, 1) := dk_27 (dk_at dksX4_setTax_2 5 rfl rfl)
theorem dX4_setTax_54 : decode cX4_setTax 54 = .ok (.aload_n 0, 1) := dk_42 (dk_at dksX4_setTax_2 6 rfl rfl)
theorem dX4_setTax_55 : decode cX4_setTax 55 = .ok (.getfield 86, 3) := dk_180 0 86 (dk_at dksX4_setTax_2 7 rfl rfl)
theorem dX4_setTax_58 : decode cX4_setTax 58 = .ok (.aload_n 0, 1) := dk_42 (dk_at dksX4_setTax_2 10 rfl rfl)
theorem dX4_setTax_59 : decode cX4_setTax 59 = .ok (.getfield 89, 3) := dk_180 0 89 (dk_at dksX4_setTax_2 11 rfl rfl)
theorem dX4_setTax_62 : decode cX4_setTax 62 = .ok (.iload_n 1, 1) := dk_27 (dk_at dksX4_setTax_2 14 rfl rfl)
theorem dX4_setTax_63 : decode cX4_setTax 63 = .ok (.aload_n 0, 1) := dk_42 (dk_at dksX4_setTax_2 15 rfl rfl)
theorem dX4_setTax_64 : decode cX4_setTax 64 = .ok (.getfield 98, 3) := dk_180 0 98 (dk_at dksX4_setTax_2 16 rfl rfl)
theorem dX4_setTax_67 : decode cX4_setTax 67 = .ok (.iload_n 1, 1) := dk_27 (dk_at dksX4_setTax_2 19 rfl rfl)
theorem dX4_setTax_68 : decode cX4_setTax 68 = .ok (.iaload, 1) := dk_46 (dk_at dksX4_setTax_2 20 rfl rfl)
theorem dX4_setTax_69 : decode cX4_setTax 69 = .ok (.iload_n 2, 1) := dk_28 (dk_at dksX4_setTax_2 21 rfl rfl)
theorem dX4_setTax_70 : decode cX4_setTax 70 = .ok (.iload_n 3, 1) := dk_29 (dk_at dksX4_setTax_2 22 rfl rfl)
theorem dX4_setTax_71 : decode cX4_setTax 71 = .ok (.invokestatic 311, 3) := dk_184 1 55 (dk_at dksX4_setTax_3 0 rfl rfl)
theorem dX4_setTax_74 : decode cX4_setTax 74 = .ok (.iastore, 1) := dk_79 (dk_at dksX4_setTax_3 3 rfl rfl)
theorem dX4_setTax_75 : decode cX4_setTax 75 = .ok (.aload_n 0, 1) := dk_42 (dk_at dksX4_setTax_3 4 rfl rfl)
theorem dX4_setTax_76 : decode cX4_setTax 76 = .ok (.getfield 98, 3) := dk_180 0 98 (dk_at dksX4_setTax_3 5 rfl rfl)
theorem dX4_setTax_79 : decode cX4_setTax 79 = .ok (.iload_n 1, 1) := dk_27 (dk_at dksX4_setTax_3 8 rfl rfl)
theorem dX4_setTax_80 : decode cX4_setTax 80 = .ok (.iaload, 1) := dk_46 (dk_at dksX4_setTax_3 9 rfl rfl)
theorem dX4_setTax_81 : decode cX4_setTax 81 = .ok (.ireturn, 1) := dk_172 (dk_at dksX4_setTax_3 10 rfl rfl)
def dkwX4_isKind_0 : List UInt8 := [26, 133, 9, 20, 1, 29, 184, 0, 182, 172]
abbrev dktX4_isKind_0 : List UInt8 := dkwX4_isKind_0 ++ []
theorem dksX4_isKind_0 : cX4_isKind.data.toList.drop 0 = dktX4_isKind_0 := by decide +kernel
theorem dX4_isKind_0 : decode cX4_isKind 0 = .ok (.iload_n 0, 1) := dk_26 (dk_at dksX4_isKind_0 0 rfl rfl)
theorem dX4_isKind_1 : decode cX4_isKind 1 = .ok (.i2l, 1) := dk_133 (dk_at dksX4_isKind_0 1 rfl rfl)
theorem dX4_isKind_2 : decode cX4_isKind 2 = .ok (.lconst 0, 1) := dk_9 (dk_at dksX4_isKind_0 2 rfl rfl)
theorem dX4_isKind_3 : decode cX4_isKind 3 = .ok (.ldc2_w 285, 3) := dk_20 1 29 (dk_at dksX4_isKind_0 3 rfl rfl)
theorem dX4_isKind_6 : decode cX4_isKind 6 = .ok (.invokestatic 182, 3) := dk_184 0 182 (dk_at dksX4_isKind_0 6 rfl rfl)
theorem dX4_isKind_9 : decode cX4_isKind 9 = .ok (.ireturn, 1) := dk_172 (dk_at dksX4_isKind_0 9 rfl rfl)
def dkwX4_tells_3 : List UInt8 := [29, 4, 96, 167, 0, 4, 29, 172]
abbrev dktX4_tells_3 : List UInt8 := dkwX4_tells_3 ++ []
def dkwX4_tells_2 : List UInt8 := [21, 6, 96, 21, 4, 79, 43, 17, 2, 88, 28, 104, 21, 6, 96, 21, 5, 79, 21, 6, 29, 160, 0, 9]
abbrev dktX4_tells_2 : List UInt8 := dkwX4_tells_2 ++ dktX4_tells_3
def dkwX4_tells_1 : List UInt8 := [160, 0, 8, 21, 7, 167, 0, 5, 21, 6, 54, 6, 132, 7, 1, 167, 255, 223, 42, 17, 2, 88, 28, 104]
abbrev dktX4_tells_1 : List UInt8 := dkwX4_tells_1 ++ dktX4_tells_2
def dkwX4_tells_0 : List UInt8 := [29, 54, 6, 3, 54, 7, 21, 7, 29, 162, 0, 33, 42, 17, 2, 88, 28, 104, 21, 7, 96, 46, 21, 4]
abbrev dktX4_tells_0 : List UInt8 := dkwX4_tells_0 ++ dktX4_tells_1
theorem dksX4_tells_0 : cX4_tells.data.toList.drop 0 = dktX4_tells_0 := by decide +kernel
theorem dksX4_tells_1 : cX4_tells.data.toList.drop 24 = dktX4_tells_1 := dk_seg dksX4_tells_0 24 rfl rfl
theorem dksX4_tells_2 : cX4_tells.data.toList.drop 48 = dktX4_tells_2 := dk_seg dksX4_tells_1 24 rfl rfl
theorem dksX4_tells_3 : cX4_tells.data.toList.drop 72 = dktX4_tells_3 := dk_seg dksX4_tells_2 24 rfl rfl
theorem dX4_tells_0 : decode cX4_tells 0 = .ok (.iload_n 3, 1) := dk_29 (dk_at dksX4_tells_0 0 rfl rfl)
theorem dX4_tells_1 : decode cX4_tells 1 = .ok (.istore 6, 2) := dk_54 6 (dk_at dksX4_tells_0 1 rfl rfl)
theorem dX4_tells_3 : decode cX4_tells 3 = .ok (.iconst 0, 1) := dk_3 (dk_at dksX4_tells_0 3 rfl rfl)
theorem dX4_tells_4 : decode cX4_tells 4 = .ok (.istore 7, 2) := dk_54 7 (dk_at dksX4_tells_0 4 rfl rfl)
theorem dX4_tells_6 : decode cX4_tells 6 = .ok (.iload 7, 2) := dk_21 7 (dk_at dksX4_tells_0 6 rfl rfl)
theorem dX4_tells_8 : decode cX4_tells 8 = .ok (.iload_n 3, 1) := dk_29 (dk_at dksX4_tells_0 8 rfl rfl)
theorem dX4_tells_9 : decode cX4_tells 9 = .ok (.if_icmp .ge 33, 3) := dk_162 0 33 (dk_at dksX4_tells_0 9 rfl rfl)
theorem dX4_tells_12 : decode cX4_tells 12 = .ok (.aload_n 0, 1) := dk_42 (dk_at dksX4_tells_0 12 rfl rfl)
theorem dX4_tells_13 : decode cX4_tells 13 = .ok (.sipush 600, 3) := dk_17 2 88 (dk_at dksX4_tells_0 13 rfl rfl)
theorem dX4_tells_16 : decode cX4_tells 16 = .ok (.iload_n 2, 1) := dk_28 (dk_at dksX4_tells_0 16 rfl rfl)
theorem dX4_tells_17 : decode cX4_tells 17 = .ok (.imul, 1) := dk_104 (dk_at dksX4_tells_0 17 rfl rfl)
theorem dX4_tells_18 : decode cX4_tells 18 = .ok (.iload 7, 2) := dk_21 7 (dk_at dksX4_tells_0 18 rfl rfl)
theorem dX4_tells_20 : decode cX4_tells 20 = .ok (.iadd, 1) := dk_96 (dk_at dksX4_tells_0 20 rfl rfl)
theorem dX4_tells_21 : decode cX4_tells 21 = .ok (.iaload, 1) := dk_46 (dk_at dksX4_tells_0 21 rfl rfl)
theorem dX4_tells_22 : decode cX4_tells 22 = .ok (.iload 4, 2) := dk_21 4 (dk_at dksX4_tells_0 22 rfl rfl)
theorem dX4_tells_24 : decode cX4_tells 24 = .ok (.if_icmp .ne 8, 3) := dk_160 0 8 (dk_at dksX4_tells_1 0 rfl rfl)
theorem dX4_tells_27 : decode cX4_tells 27 = .ok (.iload 7, 2) := dk_21 7 (dk_at dksX4_tells_1 3 rfl rfl)
theorem dX4_tells_29 : decode cX4_tells 29 = .ok (.goto 5, 3) := dk_167 0 5 (dk_at dksX4_tells_1 5 rfl rfl)
theorem dX4_tells_32 : decode cX4_tells 32 = .ok (.iload 6, 2) := dk_21 6 (dk_at dksX4_tells_1 8 rfl rfl)
theorem dX4_tells_34 : decode cX4_tells 34 = .ok (.istore 6, 2) := dk_54 6 (dk_at dksX4_tells_1 10 rfl rfl)
theorem dX4_tells_36 : decode cX4_tells 36 = .ok (.iinc 7 1, 3) := dk_132 7 1 (dk_at dksX4_tells_1 12 rfl rfl)
theorem dX4_tells_39 : decode cX4_tells 39 = .ok (.goto (-33), 3) := dk_167 255 223 (dk_at dksX4_tells_1 15 rfl rfl)
theorem dX4_tells_42 : decode cX4_tells 42 = .ok (.aload_n 0, 1) := dk_42 (dk_at dksX4_tells_1 18 rfl rfl)
theorem dX4_tells_43 : decode cX4_tells 43 = .ok (.sipush 600, 3) := dk_17 2 88 (dk_at dksX4_tells_1 19 rfl rfl)
theorem dX4_tells_46 : decode cX4_tells 46 = .ok (.iload_n 2, 1) := dk_28 (dk_at dksX4_tells_1 22 rfl rfl)
theorem dX4_tells_47 : decode cX4_tells 47 = .ok (.imul, 1) := dk_104 (dk_at dksX4_tells_1 23 rfl rfl)
theorem dX4_tells_48 : decode cX4_tells 48 = .ok (.iload 6, 2) := dk_21 6 (dk_at dksX4_tells_2 0 rfl rfl)
theorem dX4_tells_50 : decode cX4_tells 50 = .ok (.iadd, 1) := dk_96 (dk_at dksX4_tells_2 2 rfl rfl)
theorem dX4_tells_51 : decode cX4_tells 51 = .ok (.iload 4, 2) := dk_21 4 (dk_at dksX4_tells_2 3 rfl rfl)
theorem dX4_tells_53 : decode cX4_tells 53 = .ok (.iastore, 1) := dk_79 (dk_at dksX4_tells_2 5 rfl rfl)
theorem dX4_tells_54 : decode cX4_tells 54 = .ok (.aload_n 1, 1) := dk_43 (dk_at dksX4_tells_2 6 rfl rfl)
theorem dX4_tells_55 : decode cX4_tells 55 = .ok (.sipush 600, 3) := dk_17 2 88 (dk_at dksX4_tells_2 7 rfl rfl)
theorem dX4_tells_58 : decode cX4_tells 58 = .ok (.iload_n 2, 1) := dk_28 (dk_at dksX4_tells_2 10 rfl rfl)
theorem dX4_tells_59 : decode cX4_tells 59 = .ok (.imul, 1) := dk_104 (dk_at dksX4_tells_2 11 rfl rfl)
theorem dX4_tells_60 : decode cX4_tells 60 = .ok (.iload 6, 2) := dk_21 6 (dk_at dksX4_tells_2 12 rfl rfl)
theorem dX4_tells_62 : decode cX4_tells 62 = .ok (.iadd, 1) := dk_96 (dk_at dksX4_tells_2 14 rfl rfl)
theorem dX4_tells_63 : decode cX4_tells 63 = .ok (.iload 5, 2) := dk_21 5 (dk_at dksX4_tells_2 15 rfl rfl)
theorem dX4_tells_65 : decode cX4_tells 65 = .ok (.iastore, 1) := dk_79 (dk_at dksX4_tells_2 17 rfl rfl)
theorem dX4_tells_66 : decode cX4_tells 66 = .ok (.iload 6, 2) := dk_21 6 (dk_at dksX4_tells_2 18 rfl rfl)
theorem dX4_tells_68 : decode cX4_tells 68 = .ok (.iload_n 3, 1) := dk_29 (dk_at dksX4_tells_2 20 rfl rfl)
theorem dX4_tells_69 : decode cX4_tells 69 = .ok (.if_icmp .ne 9, 3) := dk_160 0 9 (dk_at dksX4_tells_2 21 rfl rfl)
theorem dX4_tells_72 : decode cX4_tells 72 = .ok (.iload_n 3, 1) := dk_29 (dk_at dksX4_tells_3 0 rfl rfl)
theorem dX4_tells_73 : decode cX4_tells 73 = .ok (.iconst 1, 1) := dk_4 (dk_at dksX4_tells_3 1 rfl rfl)
theorem dX4_tells_74 : decode cX4_tells 74 = .ok (.iadd, 1) := dk_96 (dk_at dksX4_tells_3 2 rfl rfl)
theorem dX4_tells_75 : decode cX4_tells 75 = .ok (.goto 4, 3) := dk_167 0 4 (dk_at dksX4_tells_3 3 rfl rfl)
theorem dX4_tells_78 : decode cX4_tells 78 = .ok (.iload_n 3, 1) := dk_29 (dk_at dksX4_tells_3 6 rfl rfl)
theorem dX4_tells_79 : decode cX4_tells 79 = .ok (.ireturn, 1) := dk_172 (dk_at dksX4_tells_3 7 rfl rfl)
def dkwX4_tax_1 : List UInt8 := [3, 167, 0, 4, 5, 182, 0, 205, 153, 0, 7, 3, 167, 0, 9, 42, 27, 28, 182, 1, 63, 172]
abbrev dktX4_tax_1 : List UInt8 := dkwX4_tax_1 ++ []
def dkwX4_tax_0 : List UInt8 := [42, 27, 184, 1, 50, 154, 0, 7, 4, 167, 0, 20, 28, 133, 9, 20, 1, 53, 184, 0, 182, 153, 0, 7]
abbrev dktX4_tax_0 : List UInt8 := dkwX4_tax_0 ++ dktX4_tax_1
theorem dksX4_tax_0 : cX4_tax.data.toList.drop 0 = dktX4_tax_0 := by decide +kernel
theorem dksX4_tax_1 : cX4_tax.data.toList.drop 24 = dktX4_tax_1 := dk_seg dksX4_tax_0 24 rfl rfl
theorem dX4_tax_0 : decode cX4_tax 0 = .ok (.aload_n 0, 1) := dk_42 (dk_at dksX4_tax_0 0 rfl rfl)
theorem dX4_tax_1 : decode cX4_tax 1 = .ok (.iload_n 1, 1) := dk_27 (dk_at dksX4_tax_0 1 rfl rfl)
theorem dX4_tax_2 : decode cX4_tax 2 = .ok (.invokestatic 306, 3) := dk_184 1 50 (dk_at dksX4_tax_0 2 rfl rfl)
theorem dX4_tax_5 : decode cX4_tax 5 = .ok (.ifCond .ne 7, 3) := dk_154 0 7 (dk_at dksX4_tax_0 5 rfl rfl)
theorem dX4_tax_8 : decode cX4_tax 8 = .ok (.iconst 1, 1) := dk_4 (dk_at dksX4_tax_0 8 rfl rfl)
theorem dX4_tax_9 : decode cX4_tax 9 = .ok (.goto 20, 3) := dk_167 0 20 (dk_at dksX4_tax_0 9 rfl rfl)
theorem dX4_tax_12 : decode cX4_tax 12 = .ok (.iload_n 2, 1) := dk_28 (dk_at dksX4_tax_0 12 rfl rfl)
theorem dX4_tax_13 : decode cX4_tax 13 = .ok (.i2l, 1) := dk_133 (dk_at dksX4_tax_0 13 rfl rfl)
theorem dX4_tax_14 : decode cX4_tax 14 = .ok (.lconst 0, 1) := dk_9 (dk_at dksX4_tax_0 14 rfl rfl)
theorem dX4_tax_15 : decode cX4_tax 15 = .ok (.ldc2_w 309, 3) := dk_20 1 53 (dk_at dksX4_tax_0 15 rfl rfl)
theorem dX4_tax_18 : decode cX4_tax 18 = .ok (.invokestatic 182, 3) := dk_184 0 182 (dk_at dksX4_tax_0 18 rfl rfl)
theorem dX4_tax_21 : decode cX4_tax 21 = .ok (.ifCond .eq 7, 3) := dk_153 0 7 (dk_at dksX4_tax_0 21 rfl rfl)
theorem dX4_tax_24 : decode cX4_tax 24 = .ok (.iconst 0, 1) := dk_3 (dk_at dksX4_tax_1 0 rfl rfl)
theorem dX4_tax_25 : decode cX4_tax 25 = .ok (.goto 4, 3) := dk_167 0 4 (dk_at dksX4_tax_1 1 rfl rfl)
theorem dX4_tax_28 : decode cX4_tax 28 = .ok (.iconst 2, 1) := dk_5 (dk_at dksX4_tax_1 4 rfl rfl)
theorem dX4_tax_29 : decode cX4_tax 29 = .ok (.invokevirtual 205, 3) := dk_182 0 205 (dk_at dksX4_tax_1 5 rfl rfl)
theorem dX4_tax_32 : decode cX4_tax 32 = .ok (.ifCond .eq 7, 3) := dk_153 0 7 (dk_at dksX4_tax_1 8 rfl rfl)
theorem dX4_tax_35 : decode cX4_tax 35 = .ok (.iconst 0, 1) := dk_3 (dk_at dksX4_tax_1 11 rfl rfl)
theorem dX4_tax_36 : decode cX4_tax 36 = .ok (.goto 9, 3) := dk_167 0 9 (dk_at dksX4_tax_1 12 rfl rfl)
theorem dX4_tax_39 : decode cX4_tax 39 = .ok (.aload_n 0, 1) := dk_42 (dk_at dksX4_tax_1 15 rfl rfl)
theorem dX4_tax_40 : decode cX4_tax 40 = .ok (.iload_n 1, 1) := dk_27 (dk_at dksX4_tax_1 16 rfl rfl)
theorem dX4_tax_41 : decode cX4_tax 41 = .ok (.iload_n 2, 1) := dk_28 (dk_at dksX4_tax_1 17 rfl rfl)
theorem dX4_tax_42 : decode cX4_tax 42 = .ok (.invokevirtual 319, 3) := dk_182 1 63 (dk_at dksX4_tax_1 18 rfl rfl)
theorem dX4_tax_45 : decode cX4_tax 45 = .ok (.ireturn, 1) := dk_172 (dk_at dksX4_tax_1 21 rfl rfl)
def dkwX4_taxAt_0 : List UInt8 := [42, 180, 0, 86, 42, 180, 0, 89, 27, 42, 180, 0, 98, 27, 46, 28, 184, 1, 59, 172]
abbrev dktX4_taxAt_0 : List UInt8 := dkwX4_taxAt_0 ++ []
theorem dksX4_taxAt_0 : cX4_taxAt.data.toList.drop 0 = dktX4_taxAt_0 := by decide +kernel
theorem dX4_taxAt_0 : decode cX4_taxAt 0 = .ok (.aload_n 0, 1) := dk_42 (dk_at dksX4_taxAt_0 0 rfl rfl)
theorem dX4_taxAt_1 : decode cX4_taxAt 1 = .ok (.getfield 86, 3) := dk_180 0 86 (dk_at dksX4_taxAt_0 1 rfl rfl)
theorem dX4_taxAt_4 : decode cX4_taxAt 4 = .ok (.aload_n 0, 1) := dk_42 (dk_at dksX4_taxAt_0 4 rfl rfl)
theorem dX4_taxAt_5 : decode cX4_taxAt 5 = .ok (.getfield 89, 3) := dk_180 0 89 (dk_at dksX4_taxAt_0 5 rfl rfl)
theorem dX4_taxAt_8 : decode cX4_taxAt 8 = .ok (.iload_n 1, 1) := dk_27 (dk_at dksX4_taxAt_0 8 rfl rfl)
theorem dX4_taxAt_9 : decode cX4_taxAt 9 = .ok (.aload_n 0, 1) := dk_42 (dk_at dksX4_taxAt_0 9 rfl rfl)
theorem dX4_taxAt_10 : decode cX4_taxAt 10 = .ok (.getfield 98, 3) := dk_180 0 98 (dk_at dksX4_taxAt_0 10 rfl rfl)
theorem dX4_taxAt_13 : decode cX4_taxAt 13 = .ok (.iload_n 1, 1) := dk_27 (dk_at dksX4_taxAt_0 13 rfl rfl)
theorem dX4_taxAt_14 : decode cX4_taxAt 14 = .ok (.iaload, 1) := dk_46 (dk_at dksX4_taxAt_0 14 rfl rfl)
theorem dX4_taxAt_15 : decode cX4_taxAt 15 = .ok (.iload_n 2, 1) := dk_28 (dk_at dksX4_taxAt_0 15 rfl rfl)
theorem dX4_taxAt_16 : decode cX4_taxAt 16 = .ok (.invokestatic 315, 3) := dk_184 1 59 (dk_at dksX4_taxAt_0 16 rfl rfl)
theorem dX4_taxAt_19 : decode cX4_taxAt 19 = .ok (.ireturn, 1) := dk_172 (dk_at dksX4_taxAt_0 19 rfl rfl)
def dkwX4_told_2 : List UInt8 := [21, 6, 54, 5, 132, 6, 1, 167, 255, 212, 21, 5, 156, 0, 7, 3, 167, 0, 7, 43, 21, 5, 46, 172]
abbrev dktX4_told_2 : List UInt8 := dkwX4_told_2 ++ []
def dkwX4_told_1 : List UInt8 := [21, 6, 46, 21, 4, 163, 0, 23, 21, 5, 155, 0, 14, 42, 21, 6, 46, 42, 21, 5, 46, 164, 0, 7]
abbrev dktX4_told_1 : List UInt8 := dkwX4_told_1 ++ dktX4_told_2
def dkwX4_told_0 : List UInt8 := [2, 54, 5, 17, 2, 88, 28, 104, 54, 6, 21, 6, 17, 2, 88, 28, 104, 29, 96, 162, 0, 38, 42]
abbrev dktX4_told_0 : List UInt8 := dkwX4_told_0 ++ dktX4_told_1
theorem dksX4_told_0 : cX4_told.data.toList.drop 0 = dktX4_told_0 := by decide +kernel
theorem dksX4_told_1 : cX4_told.data.toList.drop 23 = dktX4_told_1 := dk_seg dksX4_told_0 23 rfl rfl
theorem dksX4_told_2 : cX4_told.data.toList.drop 47 = dktX4_told_2 := dk_seg dksX4_told_1 24 rfl rfl
theorem dX4_told_0 : decode cX4_told 0 = .ok (.iconst (-1), 1) := dk_2 (dk_at dksX4_told_0 0 rfl rfl)
theorem dX4_told_1 : decode cX4_told 1 = .ok (.istore 5, 2) := dk_54 5 (dk_at dksX4_told_0 1 rfl rfl)
theorem dX4_told_3 : decode cX4_told 3 = .ok (.sipush 600, 3) := dk_17 2 88 (dk_at dksX4_told_0 3 rfl rfl)
theorem dX4_told_6 : decode cX4_told 6 = .ok (.iload_n 2, 1) := dk_28 (dk_at dksX4_told_0 6 rfl rfl)
theorem dX4_told_7 : decode cX4_told 7 = .ok (.imul, 1) := dk_104 (dk_at dksX4_told_0 7 rfl rfl)
theorem dX4_told_8 : decode cX4_told 8 = .ok (.istore 6, 2) := dk_54 6 (dk_at dksX4_told_0 8 rfl rfl)
theorem dX4_told_10 : decode cX4_told 10 = .ok (.iload 6, 2) := dk_21 6 (dk_at dksX4_told_0 10 rfl rfl)
theorem dX4_told_12 : decode cX4_told 12 = .ok (.sipush 600, 3) := dk_17 2 88 (dk_at dksX4_told_0 12 rfl rfl)
theorem dX4_told_15 : decode cX4_told 15 = .ok (.iload_n 2, 1) := dk_28 (dk_at dksX4_told_0 15 rfl rfl)
theorem dX4_told_16 : decode cX4_told 16 = .ok (.imul, 1) := dk_104 (dk_at dksX4_told_0 16 rfl rfl)
theorem dX4_told_17 : decode cX4_told 17 = .ok (.iload_n 3, 1) := dk_29 (dk_at dksX4_told_0 17 rfl rfl)
theorem dX4_told_18 : decode cX4_told 18 = .ok (.iadd, 1) := dk_96 (dk_at dksX4_told_0 18 rfl rfl)
theorem dX4_told_19 : decode cX4_told 19 = .ok (.if_icmp .ge 38, 3) := dk_162 0 38 (dk_at dksX4_told_0 19 rfl rfl)
theorem dX4_told_22 : decode cX4_told 22 = .ok (.aload_n 0, 1) := dk_42 (dk_at dksX4_told_0 22 rfl rfl)
theorem dX4_told_23 : decode cX4_told 23 = .ok (.iload 6, 2) := dk_21 6 (dk_at dksX4_told_1 0 rfl rfl)
theorem dX4_told_25 : decode cX4_told 25 = .ok (.iaload, 1) := dk_46 (dk_at dksX4_told_1 2 rfl rfl)
theorem dX4_told_26 : decode cX4_told 26 = .ok (.iload 4, 2) := dk_21 4 (dk_at dksX4_told_1 3 rfl rfl)
theorem dX4_told_28 : decode cX4_told 28 = .ok (.if_icmp .gt 23, 3) := dk_163 0 23 (dk_at dksX4_told_1 5 rfl rfl)
theorem dX4_told_31 : decode cX4_told 31 = .ok (.iload 5, 2) := dk_21 5 (dk_at dksX4_told_1 8 rfl rfl)
theorem dX4_told_33 : decode cX4_told 33 = .ok (.ifCond .lt 14, 3) := dk_155 0 14 (dk_at dksX4_told_1 10 rfl rfl)
theorem dX4_told_36 : decode cX4_told 36 = .ok (.aload_n 0, 1) := dk_42 (dk_at dksX4_told_1 13 rfl rfl)
theorem dX4_told_37 : decode cX4_told 37 = .ok (.iload 6, 2) := dk_21 6 (dk_at dksX4_told_1 14 rfl rfl)
theorem dX4_told_39 : decode cX4_told 39 = .ok (.iaload, 1) := dk_46 (dk_at dksX4_told_1 16 rfl rfl)
theorem dX4_told_40 : decode cX4_told 40 = .ok (.aload_n 0, 1) := dk_42 (dk_at dksX4_told_1 17 rfl rfl)
theorem dX4_told_41 : decode cX4_told 41 = .ok (.iload 5, 2) := dk_21 5 (dk_at dksX4_told_1 18 rfl rfl)
theorem dX4_told_43 : decode cX4_told 43 = .ok (.iaload, 1) := dk_46 (dk_at dksX4_told_1 20 rfl rfl)
theorem dX4_told_44 : decode cX4_told 44 = .ok (.if_icmp .le 7, 3) := dk_164 0 7 (dk_at dksX4_told_1 21 rfl rfl)
theorem dX4_told_47 : decode cX4_told 47 = .ok (.iload 6, 2) := dk_21 6 (dk_at dksX4_told_2 0 rfl rfl)
theorem dX4_told_49 : decode cX4_told 49 = .ok (.istore 5, 2) := dk_54 5 (dk_at dksX4_told_2 2 rfl rfl)
theorem dX4_told_51 : decode cX4_told 51 = .ok (.iinc 6 1, 3) := dk_132 6 1 (dk_at dksX4_told_2 4 rfl rfl)
theorem dX4_told_54 : decode cX4_told 54 = .ok (.goto (-44), 3) := dk_167 255 212 (dk_at dksX4_told_2 7 rfl rfl)
theorem dX4_told_57 : decode cX4_told 57 = .ok (.iload 5, 2) := dk_21 5 (dk_at dksX4_told_2 10 rfl rfl)
theorem dX4_told_59 : decode cX4_told 59 = .ok (.ifCond .ge 7, 3) := dk_156 0 7 (dk_at dksX4_told_2 12 rfl rfl)
theorem dX4_told_62 : decode cX4_told 62 = .ok (.iconst 0, 1) := dk_3 (dk_at dksX4_told_2 15 rfl rfl)
theorem dX4_told_63 : decode cX4_told 63 = .ok (.goto 7, 3) := dk_167 0 7 (dk_at dksX4_told_2 16 rfl rfl)
theorem dX4_told_66 : decode cX4_told 66 = .ok (.aload_n 1, 1) := dk_43 (dk_at dksX4_told_2 19 rfl rfl)
theorem dX4_told_67 : decode cX4_told 67 = .ok (.iload 5, 2) := dk_21 5 (dk_at dksX4_told_2 20 rfl rfl)
theorem dX4_told_69 : decode cX4_told 69 = .ok (.iaload, 1) := dk_46 (dk_at dksX4_told_2 22 rfl rfl)
theorem dX4_told_70 : decode cX4_told 70 = .ok (.ireturn, 1) := dk_172 (dk_at dksX4_told_2 23 rfl rfl)
def dkwX4_setDiscount_3 : List UInt8 := [184, 1, 55, 79, 42, 180, 0, 101, 27, 46, 172]
abbrev dktX4_setDiscount_3 : List UInt8 := dkwX4_setDiscount_3 ++ []
def dkwX4_setDiscount_2 : List UInt8 := [172, 42, 180, 0, 101, 27, 42, 180, 0, 92, 42, 180, 0, 95, 27, 42, 180, 0, 101, 27, 46, 28, 29]
abbrev dktX4_setDiscount_2 : List UInt8 := dkwX4_setDiscount_2 ++ dktX4_setDiscount_3
def dkwX4_setDiscount_1 : List UInt8 := [29, 133, 9, 20, 1, 68, 184, 0, 182, 154, 0, 7, 5, 167, 0, 4, 3, 182, 0, 205, 153, 0, 5, 3]
abbrev dktX4_setDiscount_1 : List UInt8 := dkwX4_setDiscount_1 ++ dktX4_setDiscount_2
def dkwX4_setDiscount_0 : List UInt8 := [42, 27, 184, 1, 50, 154, 0, 7, 4, 167, 0, 32, 28, 133, 10, 20, 1, 66, 184, 0, 182, 153, 0, 15]
abbrev dktX4_setDiscount_0 : List UInt8 := dkwX4_setDiscount_0 ++ dktX4_setDiscount_1
theorem dksX4_setDiscount_0 : cX4_setDiscount.data.toList.drop 0 = dktX4_setDiscount_0 := by decide +kernel
theorem dksX4_setDiscount_1 : cX4_setDiscount.data.toList.drop 24 = dktX4_setDiscount_1 := dk_seg dksX4_setDiscount_0 24 rfl rfl
theorem dksX4_setDiscount_2 : cX4_setDiscount.data.toList.drop 48 = dktX4_setDiscount_2 := dk_seg dksX4_setDiscount_1 24 rfl rfl
theorem dksX4_setDiscount_3 : cX4_setDiscount.data.toList.drop 71 = dktX4_setDiscount_3 := dk_seg dksX4_setDiscount_2 23 rfl rfl
theorem dX4_setDiscount_0 : decode cX4_setDiscount 0 = .ok (.aload_n 0, 1) := dk_42 (dk_at dksX4_setDiscount_0 0 rfl rfl)
theorem dX4_setDiscount_1 : decode cX4_setDiscount 1 = .ok (.iload_n 1, 1) := dk_27 (dk_at dksX4_setDiscount_0 1 rfl rfl)
theorem dX4_setDiscount_2 : decode cX4_setDiscount 2 = .ok (.invokestatic 306, 3) := dk_184 1 50 (dk_at dksX4_setDiscount_0 2 rfl rfl)
theorem dX4_setDiscount_5 : decode cX4_setDiscount 5 = .ok (.ifCond .ne 7, 3) := dk_154 0 7 (dk_at dksX4_setDiscount_0 5 rfl rfl)
theorem dX4_setDiscount_8 : decode cX4_setDiscount 8 = .ok (.iconst 1, 1) := dk_4 (dk_at dksX4_setDiscount_0 8 rfl rfl)
theorem dX4_setDiscount_9 : decode cX4_setDiscount 9 = .ok (.goto 32, 3) := dk_167 0 32 (dk_at dksX4_setDiscount_0 9 rfl rfl)
theorem dX4_setDiscount_12 : decode cX4_setDiscount 12 = .ok (.iload_n 2, 1) := dk_28 (dk_at dksX4_setDiscount_0 12 rfl rfl)
theorem dX4_setDiscount_13 : decode cX4_setDiscount 13 = .ok (.i2l, 1) := dk_133 (dk_at dksX4_setDiscount_0 13 rfl rfl)
theorem dX4_setDiscount_14 : decode cX4_setDiscount 14 = .ok (.lconst 1, 1) := dk_10 (dk_at dksX4_setDiscount_0 14 rfl rfl)
theorem dX4_setDiscount_15 : decode cX4_setDiscount 15 = .ok (.ldc2_w 322, 3) := dk_20 1 66 (dk_at dksX4_setDiscount_0 15 rfl rfl)
theorem dX4_setDiscount_18 : decode cX4_setDiscount 18 = .ok (.invokestatic 182, 3) := dk_184 0 182 (dk_at dksX4_setDiscount_0 18 rfl rfl)
theorem dX4_setDiscount_21 : decode cX4_setDiscount 21 = .ok (.ifCond .eq 15, 3) := dk_153 0 15 (dk_at dksX4_setDiscount_0 21 rfl rfl)
theorem dX4_setDiscount_24 : decode cX4_setDiscount 24 = .ok (.iload_n 3, 1) := dk_29 (dk_at dksX4_setDiscount_1 0 rfl rfl)
theorem dX4_setDiscount_25 : decode cX4_setDiscount 25 = .ok (.i2l, 1) := dk_133 (dk_at dksX4_setDiscount_1 1 rfl rfl)
theorem dX4_setDiscount_26 : decode cX4_setDiscount 26 = .ok (.lconst 0, 1) := dk_9 (dk_at dksX4_setDiscount_1 2 rfl rfl)
theorem dX4_setDiscount_27 : decode cX4_setDiscount 27 = .ok (.ldc2_w 324, 3) := dk_20 1 68 (dk_at dksX4_setDiscount_1 3 rfl rfl)
theorem dX4_setDiscount_30 : decode cX4_setDiscount 30 = .ok (.invokestatic 182, 3) := dk_184 0 182 (dk_at dksX4_setDiscount_1 6 rfl rfl)
theorem dX4_setDiscount_33 : decode cX4_setDiscount 33 = .ok (.ifCond .ne 7, 3) := dk_154 0 7 (dk_at dksX4_setDiscount_1 9 rfl rfl)
theorem dX4_setDiscount_36 : decode cX4_setDiscount 36 = .ok (.iconst 2, 1) := dk_5 (dk_at dksX4_setDiscount_1 12 rfl rfl)
theorem dX4_setDiscount_37 : decode cX4_setDiscount 37 = .ok (.goto 4, 3) := dk_167 0 4 (dk_at dksX4_setDiscount_1 13 rfl rfl)
theorem dX4_setDiscount_40 : decode cX4_setDiscount 40 = .ok (.iconst 0, 1) := dk_3 (dk_at dksX4_setDiscount_1 16 rfl rfl)
theorem dX4_setDiscount_41 : decode cX4_setDiscount 41 = .ok (.invokevirtual 205, 3) := dk_182 0 205 (dk_at dksX4_setDiscount_1 17 rfl rfl)
theorem dX4_setDiscount_44 : decode cX4_setDiscount 44 = .ok (.ifCond .eq 5, 3) := dk_153 0 5 (dk_at dksX4_setDiscount_1 20 rfl rfl)
theorem dX4_setDiscount_47 : decode cX4_setDiscount 47 = .ok (.iconst 0, 1) := dk_3 (dk_at dksX4_setDiscount_1 23 rfl rfl)
theorem dX4_setDiscount_48 : decode cX4_setDiscount 48 = .ok (.ireturn, 1) := dk_172 (dk_at dksX4_setDiscount_2 0 rfl rfl)
theorem dX4_setDiscount_49 : decode cX4_setDiscount 49 = .ok (.aload_n 0, 1) := dk_42 (dk_at dksX4_setDiscount_2 1 rfl rfl)
theorem dX4_setDiscount_50 : decode cX4_setDiscount 50 = .ok (.getfield 101, 3) := dk_180 0 101 (dk_at dksX4_setDiscount_2 2 rfl rfl)
theorem dX4_setDiscount_53 : decode cX4_setDiscount 53 = .ok (.iload_n 1, 1) := dk_27 (dk_at dksX4_setDiscount_2 5 rfl rfl)
theorem dX4_setDiscount_54 : decode cX4_setDiscount 54 = .ok (.aload_n 0, 1) := dk_42 (dk_at dksX4_setDiscount_2 6 rfl rfl)
theorem dX4_setDiscount_55 : decode cX4_setDiscount 55 = .ok (.getfield 92, 3) := dk_180 0 92 (dk_at dksX4_setDiscount_2 7 rfl rfl)
theorem dX4_setDiscount_58 : decode cX4_setDiscount 58 = .ok (.aload_n 0, 1) := dk_42 (dk_at dksX4_setDiscount_2 10 rfl rfl)
theorem dX4_setDiscount_59 : decode cX4_setDiscount 59 = .ok (.getfield 95, 3) := dk_180 0 95 (dk_at dksX4_setDiscount_2 11 rfl rfl)
theorem dX4_setDiscount_62 : decode cX4_setDiscount 62 = .ok (.iload_n 1, 1) := dk_27 (dk_at dksX4_setDiscount_2 14 rfl rfl)
theorem dX4_setDiscount_63 : decode cX4_setDiscount 63 = .ok (.aload_n 0, 1) := dk_42 (dk_at dksX4_setDiscount_2 15 rfl rfl)
theorem dX4_setDiscount_64 : decode cX4_setDiscount 64 = .ok (.getfield 101, 3) := dk_180 0 101 (dk_at dksX4_setDiscount_2 16 rfl rfl)
theorem dX4_setDiscount_67 : decode cX4_setDiscount 67 = .ok (.iload_n 1, 1) := dk_27 (dk_at dksX4_setDiscount_2 19 rfl rfl)
theorem dX4_setDiscount_68 : decode cX4_setDiscount 68 = .ok (.iaload, 1) := dk_46 (dk_at dksX4_setDiscount_2 20 rfl rfl)
theorem dX4_setDiscount_69 : decode cX4_setDiscount 69 = .ok (.iload_n 2, 1) := dk_28 (dk_at dksX4_setDiscount_2 21 rfl rfl)
theorem dX4_setDiscount_70 : decode cX4_setDiscount 70 = .ok (.iload_n 3, 1) := dk_29 (dk_at dksX4_setDiscount_2 22 rfl rfl)
theorem dX4_setDiscount_71 : decode cX4_setDiscount 71 = .ok (.invokestatic 311, 3) := dk_184 1 55 (dk_at dksX4_setDiscount_3 0 rfl rfl)
theorem dX4_setDiscount_74 : decode cX4_setDiscount 74 = .ok (.iastore, 1) := dk_79 (dk_at dksX4_setDiscount_3 3 rfl rfl)
theorem dX4_setDiscount_75 : decode cX4_setDiscount 75 = .ok (.aload_n 0, 1) := dk_42 (dk_at dksX4_setDiscount_3 4 rfl rfl)
theorem dX4_setDiscount_76 : decode cX4_setDiscount 76 = .ok (.getfield 101, 3) := dk_180 0 101 (dk_at dksX4_setDiscount_3 5 rfl rfl)
theorem dX4_setDiscount_79 : decode cX4_setDiscount 79 = .ok (.iload_n 1, 1) := dk_27 (dk_at dksX4_setDiscount_3 8 rfl rfl)
theorem dX4_setDiscount_80 : decode cX4_setDiscount 80 = .ok (.iaload, 1) := dk_46 (dk_at dksX4_setDiscount_3 9 rfl rfl)
theorem dX4_setDiscount_81 : decode cX4_setDiscount 81 = .ok (.ireturn, 1) := dk_172 (dk_at dksX4_setDiscount_3 10 rfl rfl)
def dkwX4_open_4 : List UInt8 := [100, 172]
abbrev dktX4_open_4 : List UInt8 := dkwX4_open_4 ++ []
def dkwX4_open_3 : List UInt8 := [180, 0, 113, 42, 180, 1, 70, 29, 84, 42, 89, 180, 1, 70, 4, 96, 181, 1, 70, 42, 180, 1, 70, 4]
abbrev dktX4_open_3 : List UInt8 := dkwX4_open_3 ++ dktX4_open_4
def dkwX4_open_2 : List UInt8 := [3, 172, 42, 180, 0, 104, 42, 180, 1, 70, 27, 79, 42, 180, 0, 107, 42, 180, 1, 70, 28, 79, 42]
abbrev dktX4_open_2 : List UInt8 := dkwX4_open_2 ++ dktX4_open_3
def dkwX4_open_1 : List UInt8 := [5, 167, 0, 17, 42, 180, 1, 70, 16, 20, 160, 0, 7, 6, 167, 0, 4, 3, 182, 0, 205, 153, 0, 5]
abbrev dktX4_open_1 : List UInt8 := dkwX4_open_1 ++ dktX4_open_2
def dkwX4_open_0 : List UInt8 := [42, 28, 184, 1, 35, 154, 0, 7, 4, 167, 0, 33, 27, 133, 9, 20, 1, 53, 184, 0, 182, 154, 0, 7]
abbrev dktX4_open_0 : List UInt8 := dkwX4_open_0 ++ dktX4_open_1
theorem dksX4_open_0 : cX4_open.data.toList.drop 0 = dktX4_open_0 := by decide +kernel
theorem dksX4_open_1 : cX4_open.data.toList.drop 24 = dktX4_open_1 := dk_seg dksX4_open_0 24 rfl rfl
theorem dksX4_open_2 : cX4_open.data.toList.drop 48 = dktX4_open_2 := dk_seg dksX4_open_1 24 rfl rfl
theorem dksX4_open_3 : cX4_open.data.toList.drop 71 = dktX4_open_3 := dk_seg dksX4_open_2 23 rfl rfl
theorem dksX4_open_4 : cX4_open.data.toList.drop 95 = dktX4_open_4 := dk_seg dksX4_open_3 24 rfl rfl
theorem dX4_open_0 : decode cX4_open 0 = .ok (.aload_n 0, 1) := dk_42 (dk_at dksX4_open_0 0 rfl rfl)
theorem dX4_open_1 : decode cX4_open 1 = .ok (.iload_n 2, 1) := dk_28 (dk_at dksX4_open_0 1 rfl rfl)
theorem dX4_open_2 : decode cX4_open 2 = .ok (.invokestatic 291, 3) := dk_184 1 35 (dk_at dksX4_open_0 2 rfl rfl)
theorem dX4_open_5 : decode cX4_open 5 = .ok (.ifCond .ne 7, 3) := dk_154 0 7 (dk_at dksX4_open_0 5 rfl rfl)
theorem dX4_open_8 : decode cX4_open 8 = .ok (.iconst 1, 1) := dk_4 (dk_at dksX4_open_0 8 rfl rfl)
theorem dX4_open_9 : decode cX4_open 9 = .ok (.goto 33, 3) := dk_167 0 33 (dk_at dksX4_open_0 9 rfl rfl)
theorem dX4_open_12 : decode cX4_open 12 = .ok (.iload_n 1, 1) := dk_27 (dk_at dksX4_open_0 12 rfl rfl)
theorem dX4_open_13 : decode cX4_open 13 = .ok (.i2l, 1) := dk_133 (dk_at dksX4_open_0 13 rfl rfl)
theorem dX4_open_14 : decode cX4_open 14 = .ok (.lconst 0, 1) := dk_9 (dk_at dksX4_open_0 14 rfl rfl)
theorem dX4_open_15 : decode cX4_open 15 = .ok (.ldc2_w 309, 3) := dk_20 1 53 (dk_at dksX4_open_0 15 rfl rfl)
theorem dX4_open_18 : decode cX4_open 18 = .ok (.invokestatic 182, 3) := dk_184 0 182 (dk_at dksX4_open_0 18 rfl rfl)
theorem dX4_open_21 : decode cX4_open 21 = .ok (.ifCond .ne 7, 3) := dk_154 0 7 (dk_at dksX4_open_0 21 rfl rfl)
theorem dX4_open_24 : decode cX4_open 24 = .ok (.iconst 2, 1) := dk_5 (dk_at dksX4_open_1 0 rfl rfl)
theorem dX4_open_25 : decode cX4_open 25 = .ok (.goto 17, 3) := dk_167 0 17 (dk_at dksX4_open_1 1 rfl rfl)
theorem dX4_open_28 : decode cX4_open 28 = .ok (.aload_n 0, 1) := dk_42 (dk_at dksX4_open_1 4 rfl rfl)
theorem dX4_open_29 : decode cX4_open 29 = .ok (.getfield 326, 3) := dk_180 1 70 (dk_at dksX4_open_1 5 rfl rfl)
theorem dX4_open_32 : decode cX4_open 32 = .ok (.bipush 20, 2) := dk_16 20 (dk_at dksX4_open_1 8 rfl rfl)
theorem dX4_open_34 : decode cX4_open 34 = .ok (.if_icmp .ne 7, 3) := dk_160 0 7 (dk_at dksX4_open_1 10 rfl rfl)
theorem dX4_open_37 : decode cX4_open 37 = .ok (.iconst 3, 1) := dk_6 (dk_at dksX4_open_1 13 rfl rfl)
theorem dX4_open_38 : decode cX4_open 38 = .ok (.goto 4, 3) := dk_167 0 4 (dk_at dksX4_open_1 14 rfl rfl)
theorem dX4_open_41 : decode cX4_open 41 = .ok (.iconst 0, 1) := dk_3 (dk_at dksX4_open_1 17 rfl rfl)
theorem dX4_open_42 : decode cX4_open 42 = .ok (.invokevirtual 205, 3) := dk_182 0 205 (dk_at dksX4_open_1 18 rfl rfl)
theorem dX4_open_45 : decode cX4_open 45 = .ok (.ifCond .eq 5, 3) := dk_153 0 5 (dk_at dksX4_open_1 21 rfl rfl)
theorem dX4_open_48 : decode cX4_open 48 = .ok (.iconst 0, 1) := dk_3 (dk_at dksX4_open_2 0 rfl rfl)
theorem dX4_open_49 : decode cX4_open 49 = .ok (.ireturn, 1) := dk_172 (dk_at dksX4_open_2 1 rfl rfl)
theorem dX4_open_50 : decode cX4_open 50 = .ok (.aload_n 0, 1) := dk_42 (dk_at dksX4_open_2 2 rfl rfl)
theorem dX4_open_51 : decode cX4_open 51 = .ok (.getfield 104, 3) := dk_180 0 104 (dk_at dksX4_open_2 3 rfl rfl)
theorem dX4_open_54 : decode cX4_open 54 = .ok (.aload_n 0, 1) := dk_42 (dk_at dksX4_open_2 6 rfl rfl)
theorem dX4_open_55 : decode cX4_open 55 = .ok (.getfield 326, 3) := dk_180 1 70 (dk_at dksX4_open_2 7 rfl rfl)
theorem dX4_open_58 : decode cX4_open 58 = .ok (.iload_n 1, 1) := dk_27 (dk_at dksX4_open_2 10 rfl rfl)
theorem dX4_open_59 : decode cX4_open 59 = .ok (.iastore, 1) := dk_79 (dk_at dksX4_open_2 11 rfl rfl)
theorem dX4_open_60 : decode cX4_open 60 = .ok (.aload_n 0, 1) := dk_42 (dk_at dksX4_open_2 12 rfl rfl)
theorem dX4_open_61 : decode cX4_open 61 = .ok (.getfield 107, 3) := dk_180 0 107 (dk_at dksX4_open_2 13 rfl rfl)
theorem dX4_open_64 : decode cX4_open 64 = .ok (.aload_n 0, 1) := dk_42 (dk_at dksX4_open_2 16 rfl rfl)
theorem dX4_open_65 : decode cX4_open 65 = .ok (.getfield 326, 3) := dk_180 1 70 (dk_at dksX4_open_2 17 rfl rfl)
theorem dX4_open_68 : decode cX4_open 68 = .ok (.iload_n 2, 1) := dk_28 (dk_at dksX4_open_2 20 rfl rfl)
theorem dX4_open_69 : decode cX4_open 69 = .ok (.iastore, 1) := dk_79 (dk_at dksX4_open_2 21 rfl rfl)
theorem dX4_open_70 : decode cX4_open 70 = .ok (.aload_n 0, 1) := dk_42 (dk_at dksX4_open_2 22 rfl rfl)
theorem dX4_open_71 : decode cX4_open 71 = .ok (.getfield 113, 3) := dk_180 0 113 (dk_at dksX4_open_3 0 rfl rfl)
theorem dX4_open_74 : decode cX4_open 74 = .ok (.aload_n 0, 1) := dk_42 (dk_at dksX4_open_3 3 rfl rfl)
theorem dX4_open_75 : decode cX4_open 75 = .ok (.getfield 326, 3) := dk_180 1 70 (dk_at dksX4_open_3 4 rfl rfl)
theorem dX4_open_78 : decode cX4_open 78 = .ok (.iload_n 3, 1) := dk_29 (dk_at dksX4_open_3 7 rfl rfl)
theorem dX4_open_79 : decode cX4_open 79 = .ok (.bastore, 1) := dk_84 (dk_at dksX4_open_3 8 rfl rfl)
theorem dX4_open_80 : decode cX4_open 80 = .ok (.aload_n 0, 1) := dk_42 (dk_at dksX4_open_3 9 rfl rfl)
theorem dX4_open_81 : decode cX4_open 81 = .ok (.dup, 1) := dk_89 (dk_at dksX4_open_3 10 rfl rfl)
theorem dX4_open_82 : decode cX4_open 82 = .ok (.getfield 326, 3) := dk_180 1 70 (dk_at dksX4_open_3 11 rfl rfl)
theorem dX4_open_85 : decode cX4_open 85 = .ok (.iconst 1, 1) := dk_4 (dk_at dksX4_open_3 14 rfl rfl)
theorem dX4_open_86 : decode cX4_open 86 = .ok (.iadd, 1) := dk_96 (dk_at dksX4_open_3 15 rfl rfl)
theorem dX4_open_87 : decode cX4_open 87 = .ok (.putfield 326, 3) := dk_181 1 70 (dk_at dksX4_open_3 16 rfl rfl)
theorem dX4_open_90 : decode cX4_open 90 = .ok (.aload_n 0, 1) := dk_42 (dk_at dksX4_open_3 19 rfl rfl)
theorem dX4_open_91 : decode cX4_open 91 = .ok (.getfield 326, 3) := dk_180 1 70 (dk_at dksX4_open_3 20 rfl rfl)
theorem dX4_open_94 : decode cX4_open 94 = .ok (.iconst 1, 1) := dk_4 (dk_at dksX4_open_3 23 rfl rfl)
theorem dX4_open_95 : decode cX4_open 95 = .ok (.isub, 1) := dk_100 (dk_at dksX4_open_4 0 rfl rfl)
theorem dX4_open_96 : decode cX4_open 96 = .ok (.ireturn, 1) := dk_172 (dk_at dksX4_open_4 1 rfl rfl)
def dkwX4_line_7 : List UInt8 := [42, 180, 0, 110, 27, 46, 4, 100, 172]
abbrev dktX4_line_7 : List UInt8 := dkwX4_line_7 ++ []
def dkwX4_line_6 : List UInt8 := [21, 5, 42, 28, 42, 180, 0, 104, 27, 46, 182, 1, 63, 79, 42, 180, 0, 110, 27, 92, 46, 4, 96, 79]
abbrev dktX4_line_6 : List UInt8 := dkwX4_line_6 ++ dktX4_line_7
def dkwX4_line_5 : List UInt8 := [42, 180, 0, 95, 28, 42, 180, 0, 101, 28, 46, 29, 184, 1, 59, 100, 133, 105, 80, 42, 180, 0, 122]
abbrev dktX4_line_5 : List UInt8 := dkwX4_line_5 ++ dktX4_line_6
def dkwX4_line_4 : List UInt8 := [27, 46, 96, 54, 5, 42, 180, 0, 119, 21, 5, 21, 4, 133, 29, 133, 105, 17, 3, 232, 42, 180, 0, 92]
abbrev dktX4_line_4 : List UInt8 := dkwX4_line_4 ++ dktX4_line_5
def dkwX4_line_3 : List UInt8 := [160, 0, 7, 7, 167, 0, 4, 3, 182, 0, 205, 153, 0, 5, 3, 172, 16, 12, 27, 104, 42, 180, 0, 110]
abbrev dktX4_line_3 : List UInt8 := dkwX4_line_3 ++ dktX4_line_4
def dkwX4_line_2 : List UInt8 := [167, 0, 32, 42, 180, 0, 116, 27, 51, 153, 0, 7, 6, 167, 0, 19, 42, 180, 0, 110, 27, 46, 16, 12]
abbrev dktX4_line_2 : List UInt8 := dkwX4_line_2 ++ dktX4_line_3
def dkwX4_line_1 : List UInt8 := [20, 1, 66, 184, 0, 182, 153, 0, 16, 21, 4, 133, 9, 20, 1, 76, 184, 0, 182, 154, 0, 7, 5]
abbrev dktX4_line_1 : List UInt8 := dkwX4_line_1 ++ dktX4_line_2
def dkwX4_line_0 : List UInt8 := [42, 42, 27, 182, 1, 73, 153, 0, 10, 28, 184, 1, 50, 154, 0, 7, 4, 167, 0, 61, 29, 133, 10]
abbrev dktX4_line_0 : List UInt8 := dkwX4_line_0 ++ dktX4_line_1
theorem dksX4_line_0 : cX4_line.data.toList.drop 0 = dktX4_line_0 := by decide +kernel
theorem dksX4_line_1 : cX4_line.data.toList.drop 23 = dktX4_line_1 := dk_seg dksX4_line_0 23 rfl rfl
theorem dksX4_line_2 : cX4_line.data.toList.drop 46 = dktX4_line_2 := dk_seg dksX4_line_1 23 rfl rfl
theorem dksX4_line_3 : cX4_line.data.toList.drop 70 = dktX4_line_3 := dk_seg dksX4_line_2 24 rfl rfl
theorem dksX4_line_4 : cX4_line.data.toList.drop 94 = dktX4_line_4 := dk_seg dksX4_line_3 24 rfl rfl
theorem dksX4_line_5 : cX4_line.data.toList.drop 118 = dktX4_line_5 := dk_seg dksX4_line_4 24 rfl rfl
theorem dksX4_line_6 : cX4_line.data.toList.drop 141 = dktX4_line_6 := dk_seg dksX4_line_5 23 rfl rfl
theorem dksX4_line_7 : cX4_line.data.toList.drop 165 = dktX4_line_7 := dk_seg dksX4_line_6 24 rfl rfl
theorem dX4_line_0 : decode cX4_line 0 = .ok (.aload_n 0, 1) := dk_42 (dk_at dksX4_line_0 0 rfl rfl)
theorem dX4_line_1 : decode cX4_line 1 = .ok (.aload_n 0, 1) := dk_42 (dk_at dksX4_line_0 1 rfl rfl)
theorem dX4_line_2 : decode cX4_line 2 = .ok (.iload_n 1, 1) := dk_27 (dk_at dksX4_line_0 2 rfl rfl)
theorem dX4_line_3 : decode cX4_line 3 = .ok (.invokevirtual 329, 3) := dk_182 1 73 (dk_at dksX4_line_0 3 rfl rfl)
theorem dX4_line_6 : decode cX4_line 6 = .ok (.ifCond .eq 10, 3) := dk_153 0 10 (dk_at dksX4_line_0 6 rfl rfl)
theorem dX4_line_9 : decode cX4_line 9 = .ok (.iload_n 2, 1) := dk_28 (dk_at dksX4_line_0 9 rfl rfl)
theorem dX4_line_10 : decode cX4_line 10 = .ok (.invokestatic 306, 3) := dk_184 1 50 (dk_at dksX4_line_0 10 rfl rfl)
theorem dX4_line_13 : decode cX4_line 13 = .ok (.ifCond .ne 7, 3) := dk_154 0 7 (dk_at dksX4_line_0 13 rfl rfl)
theorem dX4_line_16 : decode cX4_line 16 = .ok (.iconst 1, 1) := dk_4 (dk_at dksX4_line_0 16 rfl rfl)
theorem dX4_line_17 : decode cX4_line 17 = .ok (.goto 61, 3) := dk_167 0 61 (dk_at dksX4_line_0 17 rfl rfl)
theorem dX4_line_20 : decode cX4_line 20 = .ok (.iload_n 3, 1) := dk_29 (dk_at dksX4_line_0 20 rfl rfl)
theorem dX4_line_21 : decode cX4_line 21 = .ok (.i2l, 1) := dk_133 (dk_at dksX4_line_0 21 rfl rfl)
theorem dX4_line_22 : decode cX4_line 22 = .ok (.lconst 1, 1) := dk_10 (dk_at dksX4_line_0 22 rfl rfl)
theorem dX4_line_23 : decode cX4_line 23 = .ok (.ldc2_w 322, 3) := dk_20 1 66 (dk_at dksX4_line_1 0 rfl rfl)
theorem dX4_line_26 : decode cX4_line 26 = .ok (.invokestatic 182, 3) := dk_184 0 182 (dk_at dksX4_line_1 3 rfl rfl)
theorem dX4_line_29 : decode cX4_line 29 = .ok (.ifCond .eq 16, 3) := dk_153 0 16 (dk_at dksX4_line_1 6 rfl rfl)
theorem dX4_line_32 : decode cX4_line 32 = .ok (.iload 4, 2) := dk_21 4 (dk_at dksX4_line_1 9 rfl rfl)
theorem dX4_line_34 : decode cX4_line 34 = .ok (.i2l, 1) := dk_133 (dk_at dksX4_line_1 11 rfl rfl)
theorem dX4_line_35 : decode cX4_line 35 = .ok (.lconst 0, 1) := dk_9 (dk_at dksX4_line_1 12 rfl rfl)
theorem dX4_line_36 : decode cX4_line 36 = .ok (.ldc2_w 332, 3) := dk_20 1 76 (dk_at dksX4_line_1 13 rfl rfl)
theorem dX4_line_39 : decode cX4_line 39 = .ok (.invokestatic 182, 3) := dk_184 0 182 (dk_at dksX4_line_1 16 rfl rfl)
theorem dX4_line_42 : decode cX4_line 42 = .ok (.ifCond .ne 7, 3) := dk_154 0 7 (dk_at dksX4_line_1 19 rfl rfl)
theorem dX4_line_45 : decode cX4_line 45 = .ok (.iconst 2, 1) := dk_5 (dk_at dksX4_line_1 22 rfl rfl)
theorem dX4_line_46 : decode cX4_line 46 = .ok (.goto 32, 3) := dk_167 0 32 (dk_at dksX4_line_2 0 rfl rfl)
theorem dX4_line_49 : decode cX4_line 49 = .ok (.aload_n 0, 1) := dk_42 (dk_at dksX4_line_2 3 rfl rfl)
theorem dX4_line_50 : decode cX4_line 50 = .ok (.getfield 116, 3) := dk_180 0 116 (dk_at dksX4_line_2 4 rfl rfl)
theorem dX4_line_53 : decode cX4_line 53 = .ok (.iload_n 1, 1) := dk_27 (dk_at dksX4_line_2 7 rfl rfl)
theorem dX4_line_54 : decode cX4_line 54 = .ok (.baload, 1) := dk_51 (dk_at dksX4_line_2 8 rfl rfl)
theorem dX4_line_55 : decode cX4_line 55 = .ok (.ifCond .eq 7, 3) := dk_153 0 7 (dk_at dksX4_line_2 9 rfl rfl)
theorem dX4_line_58 : decode cX4_line 58 = .ok (.iconst 3, 1) := dk_6 (dk_at dksX4_line_2 12 rfl rfl)
theorem dX4_line_59 : decode cX4_line 59 = .ok (.goto 19, 3) := dk_167 0 19 (dk_at dksX4_line_2 13 rfl rfl)
theorem dX4_line_62 : decode cX4_line 62 = .ok (.aload_n 0, 1) := dk_42 (dk_at dksX4_line_2 16 rfl rfl)
theorem dX4_line_63 : decode cX4_line 63 = .ok (.getfield 110, 3) := dk_180 0 110 (dk_at dksX4_line_2 17 rfl rfl)
theorem dX4_line_66 : decode cX4_line 66 = .ok (.iload_n 1, 1) := dk_27 (dk_at dksX4_line_2 20 rfl rfl)
theorem dX4_line_67 : decode cX4_line 67 = .ok (.iaload, 1) := dk_46 (dk_at dksX4_line_2 21 rfl rfl)
theorem dX4_line_68 : decode cX4_line 68 = .ok (.bipush 12, 2) := dk_16 12 (dk_at dksX4_line_2 22 rfl rfl)
theorem dX4_line_70 : decode cX4_line 70 = .ok (.if_icmp .ne 7, 3) := dk_160 0 7 (dk_at dksX4_line_3 0 rfl rfl)
theorem dX4_line_73 : decode cX4_line 73 = .ok (.iconst 4, 1) := dk_7 (dk_at dksX4_line_3 3 rfl rfl)
theorem dX4_line_74 : decode cX4_line 74 = .ok (.goto 4, 3) := dk_167 0 4 (dk_at dksX4_line_3 4 rfl rfl)
theorem dX4_line_77 : decode cX4_line 77 = .ok (.iconst 0, 1) := dk_3 (dk_at dksX4_line_3 7 rfl rfl)
theorem dX4_line_78 : decode cX4_line 78 = .ok (.invokevirtual 205, 3) := dk_182 0 205 (dk_at dksX4_line_3 8 rfl rfl)
theorem dX4_line_81 : decode cX4_line 81 = .ok (.ifCond .eq 5, 3) := dk_153 0 5 (dk_at dksX4_line_3 11 rfl rfl)
theorem dX4_line_84 : decode cX4_line 84 = .ok (.iconst 0, 1) := dk_3 (dk_at dksX4_line_3 14 rfl rfl)
theorem dX4_line_85 : decode cX4_line 85 = .ok (.ireturn, 1) := dk_172 (dk_at dksX4_line_3 15 rfl rfl)
theorem dX4_line_86 : decode cX4_line 86 = .ok (.bipush 12, 2) := dk_16 12 (dk_at dksX4_line_3 16 rfl rfl)
theorem dX4_line_88 : decode cX4_line 88 = .ok (.iload_n 1, 1) := dk_27 (dk_at dksX4_line_3 18 rfl rfl)
theorem dX4_line_89 : decode cX4_line 89 = .ok (.imul, 1) := dk_104 (dk_at dksX4_line_3 19 rfl rfl)
theorem dX4_line_90 : decode cX4_line 90 = .ok (.aload_n 0, 1) := dk_42 (dk_at dksX4_line_3 20 rfl rfl)
theorem dX4_line_91 : decode cX4_line 91 = .ok (.getfield 110, 3) := dk_180 0 110 (dk_at dksX4_line_3 21 rfl rfl)
theorem dX4_line_94 : decode cX4_line 94 = .ok (.iload_n 1, 1) := dk_27 (dk_at dksX4_line_4 0 rfl rfl)
theorem dX4_line_95 : decode cX4_line 95 = .ok (.iaload, 1) := dk_46 (dk_at dksX4_line_4 1 rfl rfl)
theorem dX4_line_96 : decode cX4_line 96 = .ok (.iadd, 1) := dk_96 (dk_at dksX4_line_4 2 rfl rfl)
theorem dX4_line_97 : decode cX4_line 97 = .ok (.istore 5, 2) := dk_54 5 (dk_at dksX4_line_4 3 rfl rfl)
theorem dX4_line_99 : decode cX4_line 99 = .ok (.aload_n 0, 1) := dk_42 (dk_at dksX4_line_4 5 rfl rfl)
theorem dX4_line_100 : decode cX4_line 100 = .ok (.getfield 119, 3) := dk_180 0 119 (dk_at dksX4_line_4 6 rfl rfl)
theorem dX4_line_103 : decode cX4_line 103 = .ok (.iload 5, 2) := dk_21 5 (dk_at dksX4_line_4 9 rfl rfl)
theorem dX4_line_105 : decode cX4_line 105 = .ok (.iload 4, 2) := dk_21 4 (dk_at dksX4_line_4 11 rfl rfl)
theorem dX4_line_107 : decode cX4_line 107 = .ok (.i2l, 1) := dk_133 (dk_at dksX4_line_4 13 rfl rfl)
theorem dX4_line_108 : decode cX4_line 108 = .ok (.iload_n 3, 1) := dk_29 (dk_at dksX4_line_4 14 rfl rfl)
theorem dX4_line_109 : decode cX4_line 109 = .ok (.i2l, 1) := dk_133 (dk_at dksX4_line_4 15 rfl rfl)
theorem dX4_line_110 : decode cX4_line 110 = .ok (.lmul, 1) := dk_105 (dk_at dksX4_line_4 16 rfl rfl)
theorem dX4_line_111 : decode cX4_line 111 = .ok (.sipush 1000, 3) := dk_17 3 232 (dk_at dksX4_line_4 17 rfl rfl)
theorem dX4_line_114 : decode cX4_line 114 = .ok (.aload_n 0, 1) := dk_42 (dk_at dksX4_line_4 20 rfl rfl)
theorem dX4_line_115 : decode cX4_line 115 = .ok (.getfield 92, 3) := dk_180 0 92 (dk_at dksX4_line_4 21 rfl rfl)
theorem dX4_line_118 : decode cX4_line 118 = .ok (.aload_n 0, 1) := dk_42 (dk_at dksX4_line_5 0 rfl rfl)
theorem dX4_line_119 : decode cX4_line 119 = .ok (.getfield 95, 3) := dk_180 0 95 (dk_at dksX4_line_5 1 rfl rfl)
theorem dX4_line_122 : decode cX4_line 122 = .ok (.iload_n 2, 1) := dk_28 (dk_at dksX4_line_5 4 rfl rfl)
theorem dX4_line_123 : decode cX4_line 123 = .ok (.aload_n 0, 1) := dk_42 (dk_at dksX4_line_5 5 rfl rfl)
theorem dX4_line_124 : decode cX4_line 124 = .ok (.getfield 101, 3) := dk_180 0 101 (dk_at dksX4_line_5 6 rfl rfl)
theorem dX4_line_127 : decode cX4_line 127 = .ok (.iload_n 2, 1) := dk_28 (dk_at dksX4_line_5 9 rfl rfl)
theorem dX4_line_128 : decode cX4_line 128 = .ok (.iaload, 1) := dk_46 (dk_at dksX4_line_5 10 rfl rfl)
theorem dX4_line_129 : decode cX4_line 129 = .ok (.iload_n 3, 1) := dk_29 (dk_at dksX4_line_5 11 rfl rfl)
theorem dX4_line_130 : decode cX4_line 130 = .ok (.invokestatic 315, 3) := dk_184 1 59 (dk_at dksX4_line_5 12 rfl rfl)
theorem dX4_line_133 : decode cX4_line 133 = .ok (.isub, 1) := dk_100 (dk_at dksX4_line_5 15 rfl rfl)
theorem dX4_line_134 : decode cX4_line 134 = .ok (.i2l, 1) := dk_133 (dk_at dksX4_line_5 16 rfl rfl)
theorem dX4_line_135 : decode cX4_line 135 = .ok (.lmul, 1) := dk_105 (dk_at dksX4_line_5 17 rfl rfl)
theorem dX4_line_136 : decode cX4_line 136 = .ok (.lastore, 1) := dk_80 (dk_at dksX4_line_5 18 rfl rfl)
theorem dX4_line_137 : decode cX4_line 137 = .ok (.aload_n 0, 1) := dk_42 (dk_at dksX4_line_5 19 rfl rfl)
theorem dX4_line_138 : decode cX4_line 138 = .ok (.getfield 122, 3) := dk_180 0 122 (dk_at dksX4_line_5 20 rfl rfl)
theorem dX4_line_141 : decode cX4_line 141 = .ok (.iload 5, 2) := dk_21 5 (dk_at dksX4_line_6 0 rfl rfl)
theorem dX4_line_143 : decode cX4_line 143 = .ok (.aload_n 0, 1) := dk_42 (dk_at dksX4_line_6 2 rfl rfl)
theorem dX4_line_144 : decode cX4_line 144 = .ok (.iload_n 2, 1) := dk_28 (dk_at dksX4_line_6 3 rfl rfl)
theorem dX4_line_145 : decode cX4_line 145 = .ok (.aload_n 0, 1) := dk_42 (dk_at dksX4_line_6 4 rfl rfl)
theorem dX4_line_146 : decode cX4_line 146 = .ok (.getfield 104, 3) := dk_180 0 104 (dk_at dksX4_line_6 5 rfl rfl)
theorem dX4_line_149 : decode cX4_line 149 = .ok (.iload_n 1, 1) := dk_27 (dk_at dksX4_line_6 8 rfl rfl)
theorem dX4_line_150 : decode cX4_line 150 = .ok (.iaload, 1) := dk_46 (dk_at dksX4_line_6 9 rfl rfl)
theorem dX4_line_151 : decode cX4_line 151 = .ok (.invokevirtual 319, 3) := dk_182 1 63 (dk_at dksX4_line_6 10 rfl rfl)
theorem dX4_line_154 : decode cX4_line 154 = .ok (.iastore, 1) := dk_79 (dk_at dksX4_line_6 13 rfl rfl)
theorem dX4_line_155 : decode cX4_line 155 = .ok (.aload_n 0, 1) := dk_42 (dk_at dksX4_line_6 14 rfl rfl)
theorem dX4_line_156 : decode cX4_line 156 = .ok (.getfield 110, 3) := dk_180 0 110 (dk_at dksX4_line_6 15 rfl rfl)
theorem dX4_line_159 : decode cX4_line 159 = .ok (.iload_n 1, 1) := dk_27 (dk_at dksX4_line_6 18 rfl rfl)
theorem dX4_line_160 : decode cX4_line 160 = .ok (.dup2, 1) := dk_92 (dk_at dksX4_line_6 19 rfl rfl)
theorem dX4_line_161 : decode cX4_line 161 = .ok (.iaload, 1) := dk_46 (dk_at dksX4_line_6 20 rfl rfl)
theorem dX4_line_162 : decode cX4_line 162 = .ok (.iconst 1, 1) := dk_4 (dk_at dksX4_line_6 21 rfl rfl)
theorem dX4_line_163 : decode cX4_line 163 = .ok (.iadd, 1) := dk_96 (dk_at dksX4_line_6 22 rfl rfl)
theorem dX4_line_164 : decode cX4_line 164 = .ok (.iastore, 1) := dk_79 (dk_at dksX4_line_6 23 rfl rfl)
theorem dX4_line_165 : decode cX4_line 165 = .ok (.aload_n 0, 1) := dk_42 (dk_at dksX4_line_7 0 rfl rfl)
theorem dX4_line_166 : decode cX4_line 166 = .ok (.getfield 110, 3) := dk_180 0 110 (dk_at dksX4_line_7 1 rfl rfl)
theorem dX4_line_169 : decode cX4_line 169 = .ok (.iload_n 1, 1) := dk_27 (dk_at dksX4_line_7 4 rfl rfl)
theorem dX4_line_170 : decode cX4_line 170 = .ok (.iaload, 1) := dk_46 (dk_at dksX4_line_7 5 rfl rfl)
theorem dX4_line_171 : decode cX4_line 171 = .ok (.iconst 1, 1) := dk_4 (dk_at dksX4_line_7 6 rfl rfl)
theorem dX4_line_172 : decode cX4_line 172 = .ok (.isub, 1) := dk_100 (dk_at dksX4_line_7 7 rfl rfl)
theorem dX4_line_173 : decode cX4_line 173 = .ok (.ireturn, 1) := dk_172 (dk_at dksX4_line_7 8 rfl rfl)
def dkwX4_isInvoice_0 : List UInt8 := [27, 133, 9, 42, 180, 1, 70, 4, 100, 133, 184, 0, 182, 172]
abbrev dktX4_isInvoice_0 : List UInt8 := dkwX4_isInvoice_0 ++ []
theorem dksX4_isInvoice_0 : cX4_isInvoice.data.toList.drop 0 = dktX4_isInvoice_0 := by decide +kernel
theorem dX4_isInvoice_0 : decode cX4_isInvoice 0 = .ok (.iload_n 1, 1) := dk_27 (dk_at dksX4_isInvoice_0 0 rfl rfl)
theorem dX4_isInvoice_1 : decode cX4_isInvoice 1 = .ok (.i2l, 1) := dk_133 (dk_at dksX4_isInvoice_0 1 rfl rfl)
theorem dX4_isInvoice_2 : decode cX4_isInvoice 2 = .ok (.lconst 0, 1) := dk_9 (dk_at dksX4_isInvoice_0 2 rfl rfl)
theorem dX4_isInvoice_3 : decode cX4_isInvoice 3 = .ok (.aload_n 0, 1) := dk_42 (dk_at dksX4_isInvoice_0 3 rfl rfl)
theorem dX4_isInvoice_4 : decode cX4_isInvoice 4 = .ok (.getfield 326, 3) := dk_180 1 70 (dk_at dksX4_isInvoice_0 4 rfl rfl)
theorem dX4_isInvoice_7 : decode cX4_isInvoice 7 = .ok (.iconst 1, 1) := dk_4 (dk_at dksX4_isInvoice_0 7 rfl rfl)
theorem dX4_isInvoice_8 : decode cX4_isInvoice 8 = .ok (.isub, 1) := dk_100 (dk_at dksX4_isInvoice_0 8 rfl rfl)
theorem dX4_isInvoice_9 : decode cX4_isInvoice 9 = .ok (.i2l, 1) := dk_133 (dk_at dksX4_isInvoice_0 9 rfl rfl)
theorem dX4_isInvoice_10 : decode cX4_isInvoice 10 = .ok (.invokestatic 182, 3) := dk_184 0 182 (dk_at dksX4_isInvoice_0 10 rfl rfl)
theorem dX4_isInvoice_13 : decode cX4_isInvoice 13 = .ok (.ireturn, 1) := dk_172 (dk_at dksX4_isInvoice_0 13 rfl rfl)
def dkwX4_netOfLine_3 : List UInt8 := [167, 0, 4, 3, 182, 0, 205, 153, 0, 7, 9, 167, 0, 4, 33, 173]
abbrev dktX4_netOfLine_3 : List UInt8 := dkwX4_netOfLine_3 ++ []
def dkwX4_netOfLine_2 : List UInt8 := [180, 0, 119, 16, 12, 27, 104, 28, 96, 47, 27, 182, 1, 84, 66, 42, 42, 180, 0, 47, 153, 0, 7, 5]
abbrev dktX4_netOfLine_2 : List UInt8 := dkwX4_netOfLine_2 ++ dktX4_netOfLine_3
def dkwX4_netOfLine_1 : List UInt8 := [154, 0, 7, 4, 167, 0, 4, 3, 182, 0, 205, 153, 0, 5, 9, 173, 42, 3, 181, 0, 47, 42, 42]
abbrev dktX4_netOfLine_1 : List UInt8 := dkwX4_netOfLine_1 ++ dktX4_netOfLine_2
def dkwX4_netOfLine_0 : List UInt8 := [42, 42, 27, 182, 1, 73, 153, 0, 21, 28, 133, 9, 42, 180, 0, 110, 27, 46, 4, 100, 133, 184, 0, 182]
abbrev dktX4_netOfLine_0 : List UInt8 := dkwX4_netOfLine_0 ++ dktX4_netOfLine_1
theorem dksX4_netOfLine_0 : cX4_netOfLine.data.toList.drop 0 = dktX4_netOfLine_0 := by decide +kernel
theorem dksX4_netOfLine_1 : cX4_netOfLine.data.toList.drop 24 = dktX4_netOfLine_1 := dk_seg dksX4_netOfLine_0 24 rfl rfl
theorem dksX4_netOfLine_2 : cX4_netOfLine.data.toList.drop 47 = dktX4_netOfLine_2 := dk_seg dksX4_netOfLine_1 23 rfl rfl
theorem dksX4_netOfLine_3 : cX4_netOfLine.data.toList.drop 71 = dktX4_netOfLine_3 := dk_seg dksX4_netOfLine_2 24 rfl rfl
theorem dX4_netOfLine_0 : decode cX4_netOfLine 0 = .ok (.aload_n 0, 1) := dk_42 (dk_at dksX4_netOfLine_0 0 rfl rfl)
theorem dX4_netOfLine_1 : decode cX4_netOfLine 1 = .ok (.aload_n 0, 1) := dk_42 (dk_at dksX4_netOfLine_0 1 rfl rfl)
theorem dX4_netOfLine_2 : decode cX4_netOfLine 2 = .ok (.iload_n 1, 1) := dk_27 (dk_at dksX4_netOfLine_0 2 rfl rfl)
theorem dX4_netOfLine_3 : decode cX4_netOfLine 3 = .ok (.invokevirtual 329, 3) := dk_182 1 73 (dk_at dksX4_netOfLine_0 3 rfl rfl)
theorem dX4_netOfLine_6 : decode cX4_netOfLine 6 = .ok (.ifCond .eq 21, 3) := dk_153 0 21 (dk_at dksX4_netOfLine_0 6 rfl rfl)
theorem dX4_netOfLine_9 : decode cX4_netOfLine 9 = .ok (.iload_n 2, 1) := dk_28 (dk_at dksX4_netOfLine_0 9 rfl rfl)
theorem dX4_netOfLine_10 : decode cX4_netOfLine 10 = .ok (.i2l, 1) := dk_133 (dk_at dksX4_netOfLine_0 10 rfl rfl)
theorem dX4_netOfLine_11 : decode cX4_netOfLine 11 = .ok (.lconst 0, 1) := dk_9 (dk_at dksX4_netOfLine_0 11 rfl rfl)
theorem dX4_netOfLine_12 : decode cX4_netOfLine 12 = .ok (.aload_n 0, 1) := dk_42 (dk_at dksX4_netOfLine_0 12 rfl rfl)
theorem dX4_netOfLine_13 : decode cX4_netOfLine 13 = .ok (.getfield 110, 3) := dk_180 0 110 (dk_at dksX4_netOfLine_0 13 rfl rfl)
theorem dX4_netOfLine_16 : decode cX4_netOfLine 16 = .ok (.iload_n 1, 1) := dk_27 (dk_at dksX4_netOfLine_0 16 rfl rfl)
theorem dX4_netOfLine_17 : decode cX4_netOfLine 17 = .ok (.iaload, 1) := dk_46 (dk_at dksX4_netOfLine_0 17 rfl rfl)
theorem dX4_netOfLine_18 : decode cX4_netOfLine 18 = .ok (.iconst 1, 1) := dk_4 (dk_at dksX4_netOfLine_0 18 rfl rfl)
theorem dX4_netOfLine_19 : decode cX4_netOfLine 19 = .ok (.isub, 1) := dk_100 (dk_at dksX4_netOfLine_0 19 rfl rfl)
theorem dX4_netOfLine_20 : decode cX4_netOfLine 20 = .ok (.i2l, 1) := dk_133 (dk_at dksX4_netOfLine_0 20 rfl rfl)
theorem dX4_netOfLine_21 : decode cX4_netOfLine 21 = .ok (.invokestatic 182, 3) := dk_184 0 182 (dk_at dksX4_netOfLine_0 21 rfl rfl)
theorem dX4_netOfLine_24 : decode cX4_netOfLine 24 = .ok (.ifCond .ne 7, 3) := dk_154 0 7 (dk_at dksX4_netOfLine_1 0 rfl rfl)
theorem dX4_netOfLine_27 : decode cX4_netOfLine 27 = .ok (.iconst 1, 1) := dk_4 (dk_at dksX4_netOfLine_1 3 rfl rfl)
theorem dX4_netOfLine_28 : decode cX4_netOfLine 28 = .ok (.goto 4, 3) := dk_167 0 4 (dk_at dksX4_netOfLine_1 4 rfl rfl)
theorem dX4_netOfLine_31 : decode cX4_netOfLine 31 = .ok (.iconst 0, 1) := dk_3 (dk_at dksX4_netOfLine_1 7 rfl rfl)
theorem dX4_netOfLine_32 : decode cX4_netOfLine 32 = .ok (.invokevirtual 205, 3) := dk_182 0 205 (dk_at dksX4_netOfLine_1 8 rfl rfl)
theorem dX4_netOfLine_35 : decode cX4_netOfLine 35 = .ok (.ifCond .eq 5, 3) := dk_153 0 5 (dk_at dksX4_netOfLine_1 11 rfl rfl)
theorem dX4_netOfLine_38 : decode cX4_netOfLine 38 = .ok (.lconst 0, 1) := dk_9 (dk_at dksX4_netOfLine_1 14 rfl rfl)
theorem dX4_netOfLine_39 : decode cX4_netOfLine 39 = .ok (.lreturn, 1) := dk_173 (dk_at dksX4_netOfLine_1 15 rfl rfl)
theorem dX4_netOfLine_40 : decode cX4_netOfLine 40 = .ok (.aload_n 0, 1) := dk_42 (dk_at dksX4_netOfLine_1 16 rfl rfl)
theorem dX4_netOfLine_41 : decode cX4_netOfLine 41 = .ok (.iconst 0, 1) := dk_3 (dk_at dksX4_netOfLine_1 17 rfl rfl)
theorem dX4_netOfLine_42 : decode cX4_netOfLine 42 = .ok (.putfield 47, 3) := dk_181 0 47 (dk_at dksX4_netOfLine_1 18 rfl rfl)
theorem dX4_netOfLine_45 : decode cX4_netOfLine 45 = .ok (.aload_n 0, 1) := dk_42 (dk_at dksX4_netOfLine_1 21 rfl rfl)
theorem dX4_netOfLine_46 : decode cX4_netOfLine 46 = .ok (.aload_n 0, 1) := dk_42 (dk_at dksX4_netOfLine_1 22 rfl rfl)
theorem dX4_netOfLine_47 : decode cX4_netOfLine 47 = .ok (.getfield 119, 3) := dk_180 0 119 (dk_at dksX4_netOfLine_2 0 rfl rfl)
theorem dX4_netOfLine_50 : decode cX4_netOfLine 50 = .ok (.bipush 12, 2) := dk_16 12 (dk_at dksX4_netOfLine_2 3 rfl rfl)
theorem dX4_netOfLine_52 : decode cX4_netOfLine 52 = .ok (.iload_n 1, 1) := dk_27 (dk_at dksX4_netOfLine_2 5 rfl rfl)
theorem dX4_netOfLine_53 : decode cX4_netOfLine 53 = .ok (.imul, 1) := dk_104 (dk_at dksX4_netOfLine_2 6 rfl rfl)
theorem dX4_netOfLine_54 : decode cX4_netOfLine 54 = .ok (.iload_n 2, 1) := dk_28 (dk_at dksX4_netOfLine_2 7 rfl rfl)
theorem dX4_netOfLine_55 : decode cX4_netOfLine 55 = .ok (.iadd, 1) := dk_96 (dk_at dksX4_netOfLine_2 8 rfl rfl)
theorem dX4_netOfLine_56 : decode cX4_netOfLine 56 = .ok (.laload, 1) := dk_47 (dk_at dksX4_netOfLine_2 9 rfl rfl)
theorem dX4_netOfLine_57 : decode cX4_netOfLine 57 = .ok (.iload_n 1, 1) := dk_27 (dk_at dksX4_netOfLine_2 10 rfl rfl)
theorem dX4_netOfLine_58 : decode cX4_netOfLine 58 = .ok (.invokevirtual 340, 3) := dk_182 1 84 (dk_at dksX4_netOfLine_2 11 rfl rfl)
theorem dX4_netOfLine_61 : decode cX4_netOfLine 61 = .ok (.lstore_n 3, 1) := dk_66 (dk_at dksX4_netOfLine_2 14 rfl rfl)
theorem dX4_netOfLine_62 : decode cX4_netOfLine 62 = .ok (.aload_n 0, 1) := dk_42 (dk_at dksX4_netOfLine_2 15 rfl rfl)
theorem dX4_netOfLine_63 : decode cX4_netOfLine 63 = .ok (.aload_n 0, 1) := dk_42 (dk_at dksX4_netOfLine_2 16 rfl rfl)
theorem dX4_netOfLine_64 : decode cX4_netOfLine 64 = .ok (.getfield 47, 3) := dk_180 0 47 (dk_at dksX4_netOfLine_2 17 rfl rfl)
theorem dX4_netOfLine_67 : decode cX4_netOfLine 67 = .ok (.ifCond .eq 7, 3) := dk_153 0 7 (dk_at dksX4_netOfLine_2 20 rfl rfl)
theorem dX4_netOfLine_70 : decode cX4_netOfLine 70 = .ok (.iconst 2, 1) := dk_5 (dk_at dksX4_netOfLine_2 23 rfl rfl)
theorem dX4_netOfLine_71 : decode cX4_netOfLine 71 = .ok (.goto 4, 3) := dk_167 0 4 (dk_at dksX4_netOfLine_3 0 rfl rfl)
theorem dX4_netOfLine_74 : decode cX4_netOfLine 74 = .ok (.iconst 0, 1) := dk_3 (dk_at dksX4_netOfLine_3 3 rfl rfl)
theorem dX4_netOfLine_75 : decode cX4_netOfLine 75 = .ok (.invokevirtual 205, 3) := dk_182 0 205 (dk_at dksX4_netOfLine_3 4 rfl rfl)
theorem dX4_netOfLine_78 : decode cX4_netOfLine 78 = .ok (.ifCond .eq 7, 3) := dk_153 0 7 (dk_at dksX4_netOfLine_3 7 rfl rfl)
theorem dX4_netOfLine_81 : decode cX4_netOfLine 81 = .ok (.lconst 0, 1) := dk_9 (dk_at dksX4_netOfLine_3 10 rfl rfl)
theorem dX4_netOfLine_82 : decode cX4_netOfLine 82 = .ok (.goto 4, 3) := dk_167 0 4 (dk_at dksX4_netOfLine_3 11 rfl rfl)
theorem dX4_netOfLine_85 : decode cX4_netOfLine 85 = .ok (.lload_n 3, 1) := dk_33 (dk_at dksX4_netOfLine_3 14 rfl rfl)
theorem dX4_netOfLine_86 : decode cX4_netOfLine 86 = .ok (.lreturn, 1) := dk_173 (dk_at dksX4_netOfLine_3 15 rfl rfl)
def dkwX4_roundedNet_0 : List UInt8 := [42, 31, 4, 20, 1, 78, 29, 182, 1, 80, 173]
abbrev dktX4_roundedNet_0 : List UInt8 := dkwX4_roundedNet_0 ++ []
theorem dksX4_roundedNet_0 : cX4_roundedNet.data.toList.drop 0 = dktX4_roundedNet_0 := by decide +kernel
theorem dX4_roundedNet_0 : decode cX4_roundedNet 0 = .ok (.aload_n 0, 1) := dk_42 (dk_at dksX4_roundedNet_0 0 rfl rfl)
theorem dX4_roundedNet_1 : decode cX4_roundedNet 1 = .ok (.lload_n 1, 1) := dk_31 (dk_at dksX4_roundedNet_0 1 rfl rfl)
theorem dX4_roundedNet_2 : decode cX4_roundedNet 2 = .ok (.iconst 1, 1) := dk_4 (dk_at dksX4_roundedNet_0 2 rfl rfl)
theorem dX4_roundedNet_3 : decode cX4_roundedNet 3 = .ok (.ldc2_w 334, 3) := dk_20 1 78 (dk_at dksX4_roundedNet_0 3 rfl rfl)
theorem dX4_roundedNet_6 : decode cX4_roundedNet 6 = .ok (.iload_n 3, 1) := dk_29 (dk_at dksX4_roundedNet_0 6 rfl rfl)
theorem dX4_roundedNet_7 : decode cX4_roundedNet 7 = .ok (.invokevirtual 336, 3) := dk_182 1 80 (dk_at dksX4_roundedNet_0 7 rfl rfl)
theorem dX4_roundedNet_10 : decode cX4_roundedNet 10 = .ok (.lreturn, 1) := dk_173 (dk_at dksX4_roundedNet_0 10 rfl rfl)
def dkwX4_part_2 : List UInt8 := [182, 0, 194, 173]
abbrev dktX4_part_2 : List UInt8 := dkwX4_part_2 ++ []
def dkwX4_part_1 : List UInt8 := [182, 0, 33, 42, 3, 42, 180, 0, 77, 42, 180, 0, 107, 21, 6, 46, 52, 182, 1, 10, 42, 5]
abbrev dktX4_part_1 : List UInt8 := dkwX4_part_1 ++ dktX4_part_2
def dkwX4_part_0 : List UInt8 := [42, 3, 31, 182, 0, 33, 42, 8, 29, 133, 182, 0, 33, 42, 3, 8, 182, 0, 241, 42, 4, 22, 4]
abbrev dktX4_part_0 : List UInt8 := dkwX4_part_0 ++ dktX4_part_1
theorem dksX4_part_0 : cX4_part.data.toList.drop 0 = dktX4_part_0 := by decide +kernel
theorem dksX4_part_1 : cX4_part.data.toList.drop 23 = dktX4_part_1 := dk_seg dksX4_part_0 23 rfl rfl
theorem dksX4_part_2 : cX4_part.data.toList.drop 45 = dktX4_part_2 := dk_seg dksX4_part_1 22 rfl rfl
theorem dX4_part_0 : decode cX4_part 0 = .ok (.aload_n 0, 1) := dk_42 (dk_at dksX4_part_0 0 rfl rfl)
theorem dX4_part_1 : decode cX4_part 1 = .ok (.iconst 0, 1) := dk_3 (dk_at dksX4_part_0 1 rfl rfl)
theorem dX4_part_2 : decode cX4_part 2 = .ok (.lload_n 1, 1) := dk_31 (dk_at dksX4_part_0 2 rfl rfl)
theorem dX4_part_3 : decode cX4_part 3 = .ok (.invokevirtual 33, 3) := dk_182 0 33 (dk_at dksX4_part_0 3 rfl rfl)
theorem dX4_part_6 : decode cX4_part 6 = .ok (.aload_n 0, 1) := dk_42 (dk_at dksX4_part_0 6 rfl rfl)
theorem dX4_part_7 : decode cX4_part 7 = .ok (.iconst 5, 1) := dk_8 (dk_at dksX4_part_0 7 rfl rfl)
theorem dX4_part_8 : decode cX4_part 8 = .ok (.iload_n 3, 1) := dk_29 (dk_at dksX4_part_0 8 rfl rfl)
theorem dX4_part_9 : decode cX4_part 9 = .ok (.i2l, 1) := dk_133 (dk_at dksX4_part_0 9 rfl rfl)
theorem dX4_part_10 : decode cX4_part 10 = .ok (.invokevirtual 33, 3) := dk_182 0 33 (dk_at dksX4_part_0 10 rfl rfl)
theorem dX4_part_13 : decode cX4_part 13 = .ok (.aload_n 0, 1) := dk_42 (dk_at dksX4_part_0 13 rfl rfl)
theorem dX4_part_14 : decode cX4_part 14 = .ok (.iconst 0, 1) := dk_3 (dk_at dksX4_part_0 14 rfl rfl)
theorem dX4_part_15 : decode cX4_part 15 = .ok (.iconst 5, 1) := dk_8 (dk_at dksX4_part_0 15 rfl rfl)
theorem dX4_part_16 : decode cX4_part 16 = .ok (.invokevirtual 241, 3) := dk_182 0 241 (dk_at dksX4_part_0 16 rfl rfl)
theorem dX4_part_19 : decode cX4_part 19 = .ok (.aload_n 0, 1) := dk_42 (dk_at dksX4_part_0 19 rfl rfl)
theorem dX4_part_20 : decode cX4_part 20 = .ok (.iconst 1, 1) := dk_4 (dk_at dksX4_part_0 20 rfl rfl)
theorem dX4_part_21 : decode cX4_part 21 = .ok (.lload 4, 2) := dk_22 4 (dk_at dksX4_part_0 21 rfl rfl)
theorem dX4_part_23 : decode cX4_part 23 = .ok (.invokevirtual 33, 3) := dk_182 0 33 (dk_at dksX4_part_1 0 rfl rfl)
theorem dX4_part_26 : decode cX4_part 26 = .ok (.aload_n 0, 1) := dk_42 (dk_at dksX4_part_1 3 rfl rfl)
theorem dX4_part_27 : decode cX4_part 27 = .ok (.iconst 0, 1) := dk_3 (dk_at dksX4_part_1 4 rfl rfl)
theorem dX4_part_28 : decode cX4_part 28 = .ok (.aload_n 0, 1) := dk_42 (dk_at dksX4_part_1 5 rfl rfl)
theorem dX4_part_29 : decode cX4_part 29 = .ok (.getfield 77, 3) := dk_180 0 77 (dk_at dksX4_part_1 6 rfl rfl)
theorem dX4_part_32 : decode cX4_part 32 = .ok (.aload_n 0, 1) := dk_42 (dk_at dksX4_part_1 9 rfl rfl)
theorem dX4_part_33 : decode cX4_part 33 = .ok (.getfield 107, 3) := dk_180 0 107 (dk_at dksX4_part_1 10 rfl rfl)
theorem dX4_part_36 : decode cX4_part 36 = .ok (.iload 6, 2) := dk_21 6 (dk_at dksX4_part_1 13 rfl rfl)
theorem dX4_part_38 : decode cX4_part 38 = .ok (.iaload, 1) := dk_46 (dk_at dksX4_part_1 15 rfl rfl)
theorem dX4_part_39 : decode cX4_part 39 = .ok (.caload, 1) := dk_52 (dk_at dksX4_part_1 16 rfl rfl)
theorem dX4_part_40 : decode cX4_part 40 = .ok (.invokevirtual 266, 3) := dk_182 1 10 (dk_at dksX4_part_1 17 rfl rfl)
theorem dX4_part_43 : decode cX4_part 43 = .ok (.aload_n 0, 1) := dk_42 (dk_at dksX4_part_1 20 rfl rfl)
theorem dX4_part_44 : decode cX4_part 44 = .ok (.iconst 2, 1) := dk_5 (dk_at dksX4_part_1 21 rfl rfl)
theorem dX4_part_45 : decode cX4_part 45 = .ok (.invokevirtual 194, 3) := dk_182 0 194 (dk_at dksX4_part_2 0 rfl rfl)
theorem dX4_part_48 : decode cX4_part 48 = .ok (.lreturn, 1) := dk_173 (dk_at dksX4_part_2 3 rfl rfl)
def dkwX4_net_2 : List UInt8 := [182, 0, 205, 153, 0, 7, 9, 167, 0, 4, 32, 173]
abbrev dktX4_net_2 : List UInt8 := dkwX4_net_2 ++ []
def dkwX4_net_1 : List UInt8 := [181, 0, 47, 42, 27, 182, 1, 92, 65, 42, 42, 180, 0, 47, 153, 0, 7, 5, 167, 0, 4, 3]
abbrev dktX4_net_1 : List UInt8 := dkwX4_net_1 ++ dktX4_net_2
def dkwX4_net_0 : List UInt8 := [42, 42, 27, 182, 1, 73, 153, 0, 7, 3, 167, 0, 4, 4, 182, 0, 205, 153, 0, 5, 9, 173, 42, 3]
abbrev dktX4_net_0 : List UInt8 := dkwX4_net_0 ++ dktX4_net_1
theorem dksX4_net_0 : cX4_net.data.toList.drop 0 = dktX4_net_0 := by decide +kernel
theorem dksX4_net_1 : cX4_net.data.toList.drop 24 = dktX4_net_1 := dk_seg dksX4_net_0 24 rfl rfl
theorem dksX4_net_2 : cX4_net.data.toList.drop 46 = dktX4_net_2 := dk_seg dksX4_net_1 22 rfl rfl
theorem dX4_net_0 : decode cX4_net 0 = .ok (.aload_n 0, 1) := dk_42 (dk_at dksX4_net_0 0 rfl rfl)
theorem dX4_net_1 : decode cX4_net 1 = .ok (.aload_n 0, 1) := dk_42 (dk_at dksX4_net_0 1 rfl rfl)
theorem dX4_net_2 : decode cX4_net 2 = .ok (.iload_n 1, 1) := dk_27 (dk_at dksX4_net_0 2 rfl rfl)
theorem dX4_net_3 : decode cX4_net 3 = .ok (.invokevirtual 329, 3) := dk_182 1 73 (dk_at dksX4_net_0 3 rfl rfl)
theorem dX4_net_6 : decode cX4_net 6 = .ok (.ifCond .eq 7, 3) := dk_153 0 7 (dk_at dksX4_net_0 6 rfl rfl)
theorem dX4_net_9 : decode cX4_net 9 = .ok (.iconst 0, 1) := dk_3 (dk_at dksX4_net_0 9 rfl rfl)
theorem dX4_net_10 : decode cX4_net 10 = .ok (.goto 4, 3) := dk_167 0 4 (dk_at dksX4_net_0 10 rfl rfl)
theorem dX4_net_13 : decode cX4_net 13 = .ok (.iconst 1, 1) := dk_4 (dk_at dksX4_net_0 13 rfl rfl)
theorem dX4_net_14 : decode cX4_net 14 = .ok (.invokevirtual 205, 3) := dk_182 0 205 (dk_at dksX4_net_0 14 rfl rfl)
theorem dX4_net_17 : decode cX4_net 17 = .ok (.ifCond .eq 5, 3) := dk_153 0 5 (dk_at dksX4_net_0 17 rfl rfl)
theorem dX4_net_20 : decode cX4_net 20 = .ok (.lconst 0, 1) := dk_9 (dk_at dksX4_net_0 20 rfl rfl)
theorem dX4_net_21 : decode cX4_net 21 = .ok (.lreturn, 1) := dk_173 (dk_at dksX4_net_0 21 rfl rfl)
theorem dX4_net_22 : decode cX4_net 22 = .ok (.aload_n 0, 1) := dk_42 (dk_at dksX4_net_0 22 rfl rfl)
theorem dX4_net_23 : decode cX4_net 23 = .ok (.iconst 0, 1) := dk_3 (dk_at dksX4_net_0 23 rfl rfl)
theorem dX4_net_24 : decode cX4_net 24 = .ok (.putfield 47, 3) := dk_181 0 47 (dk_at dksX4_net_1 0 rfl rfl)
theorem dX4_net_27 : decode cX4_net 27 = .ok (.aload_n 0, 1) := dk_42 (dk_at dksX4_net_1 3 rfl rfl)
theorem dX4_net_28 : decode cX4_net 28 = .ok (.iload_n 1, 1) := dk_27 (dk_at dksX4_net_1 4 rfl rfl)
theorem dX4_net_29 : decode cX4_net 29 = .ok (.invokevirtual 348, 3) := dk_182 1 92 (dk_at dksX4_net_1 5 rfl rfl)
theorem dX4_net_32 : decode cX4_net 32 = .ok (.lstore_n 2, 1) := dk_65 (dk_at dksX4_net_1 8 rfl rfl)
theorem dX4_net_33 : decode cX4_net 33 = .ok (.aload_n 0, 1) := dk_42 (dk_at dksX4_net_1 9 rfl rfl)
theorem dX4_net_34 : decode cX4_net 34 = .ok (.aload_n 0, 1) := dk_42 (dk_at dksX4_net_1 10 rfl rfl)
theorem dX4_net_35 : decode cX4_net 35 = .ok (.getfield 47, 3) := dk_180 0 47 (dk_at dksX4_net_1 11 rfl rfl)
theorem dX4_net_38 : decode cX4_net 38 = .ok (.ifCond .eq 7, 3) := dk_153 0 7 (dk_at dksX4_net_1 14 rfl rfl)
theorem dX4_net_41 : decode cX4_net 41 = .ok (.iconst 2, 1) := dk_5 (dk_at dksX4_net_1 17 rfl rfl)
theorem dX4_net_42 : decode cX4_net 42 = .ok (.goto 4, 3) := dk_167 0 4 (dk_at dksX4_net_1 18 rfl rfl)
theorem dX4_net_45 : decode cX4_net 45 = .ok (.iconst 0, 1) := dk_3 (dk_at dksX4_net_1 21 rfl rfl)
theorem dX4_net_46 : decode cX4_net 46 = .ok (.invokevirtual 205, 3) := dk_182 0 205 (dk_at dksX4_net_2 0 rfl rfl)
theorem dX4_net_49 : decode cX4_net 49 = .ok (.ifCond .eq 7, 3) := dk_153 0 7 (dk_at dksX4_net_2 3 rfl rfl)
theorem dX4_net_52 : decode cX4_net 52 = .ok (.lconst 0, 1) := dk_9 (dk_at dksX4_net_2 6 rfl rfl)
theorem dX4_net_53 : decode cX4_net 53 = .ok (.goto 4, 3) := dk_167 0 4 (dk_at dksX4_net_2 7 rfl rfl)
theorem dX4_net_56 : decode cX4_net 56 = .ok (.lload_n 2, 1) := dk_32 (dk_at dksX4_net_2 10 rfl rfl)
theorem dX4_net_57 : decode cX4_net 57 = .ok (.lreturn, 1) := dk_173 (dk_at dksX4_net_2 11 rfl rfl)
def dkwX4_netOf_4 : List UInt8 := [182, 1, 84, 173]
abbrev dktX4_netOf_4 : List UInt8 := dkwX4_netOf_4 ++ []
def dkwX4_netOf_3 : List UInt8 := [132, 6, 1, 167, 255, 192, 42, 180, 0, 113, 27, 51, 153, 0, 7, 32, 167, 0, 10, 42, 22, 4, 27]
abbrev dktX4_netOf_3 : List UInt8 := dkwX4_netOf_3 ++ dktX4_netOf_4
def dkwX4_netOf_2 : List UInt8 := [42, 42, 180, 0, 119, 16, 12, 27, 104, 21, 6, 96, 47, 27, 182, 1, 84, 167, 0, 4, 9, 97, 65]
abbrev dktX4_netOf_2 : List UInt8 := dkwX4_netOf_2 ++ dktX4_netOf_3
def dkwX4_netOf_1 : List UInt8 := [180, 0, 119, 16, 12, 27, 104, 21, 6, 96, 47, 97, 55, 4, 32, 42, 180, 0, 113, 27, 51, 153, 0, 23]
abbrev dktX4_netOf_1 : List UInt8 := dkwX4_netOf_1 ++ dktX4_netOf_2
def dkwX4_netOf_0 : List UInt8 := [9, 65, 9, 55, 4, 3, 54, 6, 21, 6, 42, 180, 0, 110, 27, 46, 162, 0, 59, 22, 4, 42]
abbrev dktX4_netOf_0 : List UInt8 := dkwX4_netOf_0 ++ dktX4_netOf_1
theorem dksX4_netOf_0 : cX4_netOf.data.toList.drop 0 = dktX4_netOf_0 := by decide +kernel
theorem dksX4_netOf_1 : cX4_netOf.data.toList.drop 22 = dktX4_netOf_1 := dk_seg dksX4_netOf_0 22 rfl rfl
theorem dksX4_netOf_2 : cX4_netOf.data.toList.drop 46 = dktX4_netOf_2 := dk_seg dksX4_netOf_1 24 rfl rfl
theorem dksX4_netOf_3 : cX4_netOf.data.toList.drop 69 = dktX4_netOf_3 := dk_seg dksX4_netOf_2 23 rfl rfl
theorem dksX4_netOf_4 : cX4_netOf.data.toList.drop 92 = dktX4_netOf_4 := dk_seg dksX4_netOf_3 23 rfl rfl
theorem dX4_netOf_0 : decode cX4_netOf 0 = .ok (.lconst 0, 1) := dk_9 (dk_at dksX4_netOf_0 0 rfl rfl)
theorem dX4_netOf_1 : decode cX4_netOf 1 = .ok (.lstore_n 2, 1) := dk_65 (dk_at dksX4_netOf_0 1 rfl rfl)
theorem dX4_netOf_2 : decode cX4_netOf 2 = .ok (.lconst 0, 1) := dk_9 (dk_at dksX4_netOf_0 2 rfl rfl)
theorem dX4_netOf_3 : decode cX4_netOf 3 = .ok (.lstore 4, 2) := dk_55 4 (dk_at dksX4_netOf_0 3 rfl rfl)
theorem dX4_netOf_5 : decode cX4_netOf 5 = .ok (.iconst 0, 1) := dk_3 (dk_at dksX4_netOf_0 5 rfl rfl)
theorem dX4_netOf_6 : decode cX4_netOf 6 = .ok (.istore 6, 2) := dk_54 6 (dk_at dksX4_netOf_0 6 rfl rfl)
theorem dX4_netOf_8 : decode cX4_netOf 8 = .ok (.iload 6, 2) := dk_21 6 (dk_at dksX4_netOf_0 8 rfl rfl)
theorem dX4_netOf_10 : decode cX4_netOf 10 = .ok (.aload_n 0, 1) := dk_42 (dk_at dksX4_netOf_0 10 rfl rfl)
theorem dX4_netOf_11 : decode cX4_netOf 11 = .ok (.getfield 110, 3) := dk_180 0 110 (dk_at dksX4_netOf_0 11 rfl rfl)
theorem dX4_netOf_14 : decode cX4_netOf 14 = .ok (.iload_n 1, 1) := dk_27 (dk_at dksX4_netOf_0 14 rfl rfl)
theorem dX4_netOf_15 : decode cX4_netOf 15 = .ok (.iaload, 1) := dk_46 (dk_at dksX4_netOf_0 15 rfl rfl)
theorem dX4_netOf_16 : decode cX4_netOf 16 = .ok (.if_icmp .ge 59, 3) := dk_162 0 59 (dk_at dksX4_netOf_0 16 rfl rfl)
theorem dX4_netOf_19 : decode cX4_netOf 19 = .ok (.lload 4, 2) := dk_22 4 (dk_at dksX4_netOf_0 19 rfl rfl)
theorem dX4_netOf_21 : decode cX4_netOf 21 = .ok (.aload_n 0, 1) := dk_42 (dk_at dksX4_netOf_0 21 rfl rfl)
theorem dX4_netOf_22 : decode cX4_netOf 22 = .ok (.getfield 119, 3) := dk_180 0 119 (dk_at dksX4_netOf_1 0 rfl rfl)
theorem dX4_netOf_25 : decode cX4_netOf 25 = .ok (.bipush 12, 2) := dk_16 12 (dk_at dksX4_netOf_1 3 rfl rfl)
theorem dX4_netOf_27 : decode cX4_netOf 27 = .ok (.iload_n 1, 1) := dk_27 (dk_at dksX4_netOf_1 5 rfl rfl)
theorem dX4_netOf_28 : decode cX4_netOf 28 = .ok (.imul, 1) := dk_104 (dk_at dksX4_netOf_1 6 rfl rfl)
theorem dX4_netOf_29 : decode cX4_netOf 29 = .ok (.iload 6, 2) := dk_21 6 (dk_at dksX4_netOf_1 7 rfl rfl)
theorem dX4_netOf_31 : decode cX4_netOf 31 = .ok (.iadd, 1) := dk_96 (dk_at dksX4_netOf_1 9 rfl rfl)
theorem dX4_netOf_32 : decode cX4_netOf 32 = .ok (.laload, 1) := dk_47 (dk_at dksX4_netOf_1 10 rfl rfl)
theorem dX4_netOf_33 : decode cX4_netOf 33 = .ok (.ladd, 1) := dk_97 (dk_at dksX4_netOf_1 11 rfl rfl)
theorem dX4_netOf_34 : decode cX4_netOf 34 = .ok (.lstore 4, 2) := dk_55 4 (dk_at dksX4_netOf_1 12 rfl rfl)
theorem dX4_netOf_36 : decode cX4_netOf 36 = .ok (.lload_n 2, 1) := dk_32 (dk_at dksX4_netOf_1 14 rfl rfl)
theorem dX4_netOf_37 : decode cX4_netOf 37 = .ok (.aload_n 0, 1) := dk_42 (dk_at dksX4_netOf_1 15 rfl rfl)
theorem dX4_netOf_38 : decode cX4_netOf 38 = .ok (.getfield 113, 3) := dk_180 0 113 (dk_at dksX4_netOf_1 16 rfl rfl)
theorem dX4_netOf_41 : decode cX4_netOf 41 = .ok (.iload_n 1, 1) := dk_27 (dk_at dksX4_netOf_1 19 rfl rfl)
theorem dX4_netOf_42 : decode cX4_netOf 42 = .ok (.baload, 1) := dk_51 (dk_at dksX4_netOf_1 20 rfl rfl)
theorem dX4_netOf_43 : decode cX4_netOf 43 = .ok (.ifCond .eq 23, 3) := dk_153 0 23 (dk_at dksX4_netOf_1 21 rfl rfl)
theorem dX4_netOf_46 : decode cX4_netOf 46 = .ok (.aload_n 0, 1) := dk_42 (dk_at dksX4_netOf_2 0 rfl rfl)
theorem dX4_netOf_47 : decode cX4_netOf 47 = .ok (.aload_n 0, 1) := dk_42 (dk_at dksX4_netOf_2 1 rfl rfl)
theorem dX4_netOf_48 : decode cX4_netOf 48 = .ok (.getfield 119, 3) := dk_180 0 119 (dk_at dksX4_netOf_2 2 rfl rfl)
theorem dX4_netOf_51 : decode cX4_netOf 51 = .ok (.bipush 12, 2) := dk_16 12 (dk_at dksX4_netOf_2 5 rfl rfl)
theorem dX4_netOf_53 : decode cX4_netOf 53 = .ok (.iload_n 1, 1) := dk_27 (dk_at dksX4_netOf_2 7 rfl rfl)
theorem dX4_netOf_54 : decode cX4_netOf 54 = .ok (.imul, 1) := dk_104 (dk_at dksX4_netOf_2 8 rfl rfl)
theorem dX4_netOf_55 : decode cX4_netOf 55 = .ok (.iload 6, 2) := dk_21 6 (dk_at dksX4_netOf_2 9 rfl rfl)
theorem dX4_netOf_57 : decode cX4_netOf 57 = .ok (.iadd, 1) := dk_96 (dk_at dksX4_netOf_2 11 rfl rfl)
theorem dX4_netOf_58 : decode cX4_netOf 58 = .ok (.laload, 1) := dk_47 (dk_at dksX4_netOf_2 12 rfl rfl)
theorem dX4_netOf_59 : decode cX4_netOf 59 = .ok (.iload_n 1, 1) := dk_27 (dk_at dksX4_netOf_2 13 rfl rfl)
theorem dX4_netOf_60 : decode cX4_netOf 60 = .ok (.invokevirtual 340, 3) := dk_182 1 84 (dk_at dksX4_netOf_2 14 rfl rfl)
theorem dX4_netOf_63 : decode cX4_netOf 63 = .ok (.goto 4, 3) := dk_167 0 4 (dk_at dksX4_netOf_2 17 rfl rfl)
theorem dX4_netOf_66 : decode cX4_netOf 66 = .ok (.lconst 0, 1) := dk_9 (dk_at dksX4_netOf_2 20 rfl rfl)
theorem dX4_netOf_67 : decode cX4_netOf 67 = .ok (.ladd, 1) := dk_97 (dk_at dksX4_netOf_2 21 rfl rfl)
theorem dX4_netOf_68 : decode cX4_netOf 68 = .ok (.lstore_n 2, 1) := dk_65 (dk_at dksX4_netOf_2 22 rfl rfl)
theorem dX4_netOf_69 : decode cX4_netOf 69 = .ok (.iinc 6 1, 3) := dk_132 6 1 (dk_at dksX4_netOf_3 0 rfl rfl)
theorem dX4_netOf_72 : decode cX4_netOf 72 = .ok (.goto (-64), 3) := dk_167 255 192 (dk_at dksX4_netOf_3 3 rfl rfl)
theorem dX4_netOf_75 : decode cX4_netOf 75 = .ok (.aload_n 0, 1) := dk_42 (dk_at dksX4_netOf_3 6 rfl rfl)
theorem dX4_netOf_76 : decode cX4_netOf 76 = .ok (.getfield 113, 3) := dk_180 0 113 (dk_at dksX4_netOf_3 7 rfl rfl)
theorem dX4_netOf_79 : decode cX4_netOf 79 = .ok (.iload_n 1, 1) := dk_27 (dk_at dksX4_netOf_3 10 rfl rfl)
theorem dX4_netOf_80 : decode cX4_netOf 80 = .ok (.baload, 1) := dk_51 (dk_at dksX4_netOf_3 11 rfl rfl)
theorem dX4_netOf_81 : decode cX4_netOf 81 = .ok (.ifCond .eq 7, 3) := dk_153 0 7 (dk_at dksX4_netOf_3 12 rfl rfl)
theorem dX4_netOf_84 : decode cX4_netOf 84 = .ok (.lload_n 2, 1) := dk_32 (dk_at dksX4_netOf_3 15 rfl rfl)
theorem dX4_netOf_85 : decode cX4_netOf 85 = .ok (.goto 10, 3) := dk_167 0 10 (dk_at dksX4_netOf_3 16 rfl rfl)
theorem dX4_netOf_88 : decode cX4_netOf 88 = .ok (.aload_n 0, 1) := dk_42 (dk_at dksX4_netOf_3 19 rfl rfl)
theorem dX4_netOf_89 : decode cX4_netOf 89 = .ok (.lload 4, 2) := dk_22 4 (dk_at dksX4_netOf_3 20 rfl rfl)
theorem dX4_netOf_91 : decode cX4_netOf 91 = .ok (.iload_n 1, 1) := dk_27 (dk_at dksX4_netOf_3 22 rfl rfl)
theorem dX4_netOf_92 : decode cX4_netOf 92 = .ok (.invokevirtual 340, 3) := dk_182 1 84 (dk_at dksX4_netOf_4 0 rfl rfl)
theorem dX4_netOf_95 : decode cX4_netOf 95 = .ok (.lreturn, 1) := dk_173 (dk_at dksX4_netOf_4 3 rfl rfl)
def dkwX4_taxOf_2 : List UInt8 := [182, 0, 205, 153, 0, 7, 9, 167, 0, 4, 32, 173]
abbrev dktX4_taxOf_2 : List UInt8 := dkwX4_taxOf_2 ++ []
def dkwX4_taxOf_1 : List UInt8 := [181, 0, 47, 42, 27, 182, 1, 95, 65, 42, 42, 180, 0, 47, 153, 0, 7, 5, 167, 0, 4, 3]
abbrev dktX4_taxOf_1 : List UInt8 := dkwX4_taxOf_1 ++ dktX4_taxOf_2
def dkwX4_taxOf_0 : List UInt8 := [42, 42, 27, 182, 1, 73, 153, 0, 7, 3, 167, 0, 4, 4, 182, 0, 205, 153, 0, 5, 9, 173, 42, 3]
abbrev dktX4_taxOf_0 : List UInt8 := dkwX4_taxOf_0 ++ dktX4_taxOf_1
theorem dksX4_taxOf_0 : cX4_taxOf.data.toList.drop 0 = dktX4_taxOf_0 := by decide +kernel
theorem dksX4_taxOf_1 : cX4_taxOf.data.toList.drop 24 = dktX4_taxOf_1 := dk_seg dksX4_taxOf_0 24 rfl rfl
theorem dksX4_taxOf_2 : cX4_taxOf.data.toList.drop 46 = dktX4_taxOf_2 := dk_seg dksX4_taxOf_1 22 rfl rfl
theorem dX4_taxOf_0 : decode cX4_taxOf 0 = .ok (.aload_n 0, 1) := dk_42 (dk_at dksX4_taxOf_0 0 rfl rfl)
theorem dX4_taxOf_1 : decode cX4_taxOf 1 = .ok (.aload_n 0, 1) := dk_42 (dk_at dksX4_taxOf_0 1 rfl rfl)
theorem dX4_taxOf_2 : decode cX4_taxOf 2 = .ok (.iload_n 1, 1) := dk_27 (dk_at dksX4_taxOf_0 2 rfl rfl)
theorem dX4_taxOf_3 : decode cX4_taxOf 3 = .ok (.invokevirtual 329, 3) := dk_182 1 73 (dk_at dksX4_taxOf_0 3 rfl rfl)
theorem dX4_taxOf_6 : decode cX4_taxOf 6 = .ok (.ifCond .eq 7, 3) := dk_153 0 7 (dk_at dksX4_taxOf_0 6 rfl rfl)
theorem dX4_taxOf_9 : decode cX4_taxOf 9 = .ok (.iconst 0, 1) := dk_3 (dk_at dksX4_taxOf_0 9 rfl rfl)
theorem dX4_taxOf_10 : decode cX4_taxOf 10 = .ok (.goto 4, 3) := dk_167 0 4 (dk_at dksX4_taxOf_0 10 rfl rfl)
theorem dX4_taxOf_13 : decode cX4_taxOf 13 = .ok (.iconst 1, 1) := dk_4 (dk_at dksX4_taxOf_0 13 rfl rfl)
theorem dX4_taxOf_14 : decode cX4_taxOf 14 = .ok (.invokevirtual 205, 3) := dk_182 0 205 (dk_at dksX4_taxOf_0 14 rfl rfl)
theorem dX4_taxOf_17 : decode cX4_taxOf 17 = .ok (.ifCond .eq 5, 3) := dk_153 0 5 (dk_at dksX4_taxOf_0 17 rfl rfl)
theorem dX4_taxOf_20 : decode cX4_taxOf 20 = .ok (.lconst 0, 1) := dk_9 (dk_at dksX4_taxOf_0 20 rfl rfl)
theorem dX4_taxOf_21 : decode cX4_taxOf 21 = .ok (.lreturn, 1) := dk_173 (dk_at dksX4_taxOf_0 21 rfl rfl)
theorem dX4_taxOf_22 : decode cX4_taxOf 22 = .ok (.aload_n 0, 1) := dk_42 (dk_at dksX4_taxOf_0 22 rfl rfl)
theorem dX4_taxOf_23 : decode cX4_taxOf 23 = .ok (.iconst 0, 1) := dk_3 (dk_at dksX4_taxOf_0 23 rfl rfl)
theorem dX4_taxOf_24 : decode cX4_taxOf 24 = .ok (.putfield 47, 3) := dk_181 0 47 (dk_at dksX4_taxOf_1 0 rfl rfl)
theorem dX4_taxOf_27 : decode cX4_taxOf 27 = .ok (.aload_n 0, 1) := dk_42 (dk_at dksX4_taxOf_1 3 rfl rfl)
theorem dX4_taxOf_28 : decode cX4_taxOf 28 = .ok (.iload_n 1, 1) := dk_27 (dk_at dksX4_taxOf_1 4 rfl rfl)
theorem dX4_taxOf_29 : decode cX4_taxOf 29 = .ok (.invokevirtual 351, 3) := dk_182 1 95 (dk_at dksX4_taxOf_1 5 rfl rfl)
theorem dX4_taxOf_32 : decode cX4_taxOf 32 = .ok (.lstore_n 2, 1) := dk_65 (dk_at dksX4_taxOf_1 8 rfl rfl)
theorem dX4_taxOf_33 : decode cX4_taxOf 33 = .ok (.aload_n 0, 1) := dk_42 (dk_at dksX4_taxOf_1 9 rfl rfl)
theorem dX4_taxOf_34 : decode cX4_taxOf 34 = .ok (.aload_n 0, 1) := dk_42 (dk_at dksX4_taxOf_1 10 rfl rfl)
theorem dX4_taxOf_35 : decode cX4_taxOf 35 = .ok (.getfield 47, 3) := dk_180 0 47 (dk_at dksX4_taxOf_1 11 rfl rfl)
theorem dX4_taxOf_38 : decode cX4_taxOf 38 = .ok (.ifCond .eq 7, 3) := dk_153 0 7 (dk_at dksX4_taxOf_1 14 rfl rfl)
theorem dX4_taxOf_41 : decode cX4_taxOf 41 = .ok (.iconst 2, 1) := dk_5 (dk_at dksX4_taxOf_1 17 rfl rfl)
theorem dX4_taxOf_42 : decode cX4_taxOf 42 = .ok (.goto 4, 3) := dk_167 0 4 (dk_at dksX4_taxOf_1 18 rfl rfl)
theorem dX4_taxOf_45 : decode cX4_taxOf 45 = .ok (.iconst 0, 1) := dk_3 (dk_at dksX4_taxOf_1 21 rfl rfl)
theorem dX4_taxOf_46 : decode cX4_taxOf 46 = .ok (.invokevirtual 205, 3) := dk_182 0 205 (dk_at dksX4_taxOf_2 0 rfl rfl)
theorem dX4_taxOf_49 : decode cX4_taxOf 49 = .ok (.ifCond .eq 7, 3) := dk_153 0 7 (dk_at dksX4_taxOf_2 3 rfl rfl)
theorem dX4_taxOf_52 : decode cX4_taxOf 52 = .ok (.lconst 0, 1) := dk_9 (dk_at dksX4_taxOf_2 6 rfl rfl)
theorem dX4_taxOf_53 : decode cX4_taxOf 53 = .ok (.goto 4, 3) := dk_167 0 4 (dk_at dksX4_taxOf_2 7 rfl rfl)
theorem dX4_taxOf_56 : decode cX4_taxOf 56 = .ok (.lload_n 2, 1) := dk_32 (dk_at dksX4_taxOf_2 10 rfl rfl)
theorem dX4_taxOf_57 : decode cX4_taxOf 57 = .ok (.lreturn, 1) := dk_173 (dk_at dksX4_taxOf_2 11 rfl rfl)
def dkwX4_taxesOf_8 : List UInt8 := [32, 173]
abbrev dktX4_taxesOf_8 : List UInt8 := dkwX4_taxesOf_8 ++ []
def dkwX4_taxesOf_7 : List UInt8 := [153, 0, 18, 32, 42, 22, 7, 21, 5, 20, 1, 90, 27, 182, 1, 80, 97, 65, 132, 4, 1, 167, 255, 77]
abbrev dktX4_taxesOf_7 : List UInt8 := dkwX4_taxesOf_7 ++ dktX4_taxesOf_8
def dkwX4_taxesOf_6 : List UInt8 := [180, 0, 119, 16, 12, 27, 104, 21, 9, 96, 47, 97, 55, 7, 132, 9, 1, 167, 255, 188, 21, 6]
abbrev dktX4_taxesOf_6 : List UInt8 := dkwX4_taxesOf_6 ++ dktX4_taxesOf_7
def dkwX4_taxesOf_5 : List UInt8 := [167, 0, 37, 21, 6, 21, 9, 21, 4, 161, 0, 7, 4, 167, 0, 4, 3, 126, 54, 6, 22, 7, 42]
abbrev dktX4_taxesOf_5 : List UInt8 := dkwX4_taxesOf_5 ++ dktX4_taxesOf_6
def dkwX4_taxesOf_4 : List UInt8 := [27, 46, 162, 0, 63, 42, 180, 0, 122, 16, 12, 27, 104, 21, 9, 96, 46, 21, 5, 159, 0, 6]
abbrev dktX4_taxesOf_4 : List UInt8 := dkwX4_taxesOf_4 ++ dktX4_taxesOf_5
def dkwX4_taxesOf_3 : List UInt8 := [21, 5, 158, 0, 7, 4, 167, 0, 4, 3, 54, 6, 9, 55, 7, 3, 54, 9, 21, 9, 42, 180, 0, 110]
abbrev dktX4_taxesOf_3 : List UInt8 := dkwX4_taxesOf_3 ++ dktX4_taxesOf_4
def dkwX4_taxesOf_2 : List UInt8 := [27, 104, 21, 4, 96, 47, 27, 182, 1, 84, 21, 5, 20, 1, 88, 27, 182, 1, 80, 97, 65, 167, 0, 112]
abbrev dktX4_taxesOf_2 : List UInt8 := dkwX4_taxesOf_2 ++ dktX4_taxesOf_3
def dkwX4_taxesOf_1 : List UInt8 := [21, 4, 96, 46, 54, 5, 42, 180, 0, 113, 27, 51, 153, 0, 36, 32, 42, 42, 42, 180, 0, 119, 16, 12]
abbrev dktX4_taxesOf_1 : List UInt8 := dkwX4_taxesOf_1 ++ dktX4_taxesOf_2
def dkwX4_taxesOf_0 : List UInt8 := [9, 65, 3, 54, 4, 21, 4, 42, 180, 0, 110, 27, 46, 162, 0, 174, 42, 180, 0, 122, 16, 12, 27, 104]
abbrev dktX4_taxesOf_0 : List UInt8 := dkwX4_taxesOf_0 ++ dktX4_taxesOf_1
theorem dksX4_taxesOf_0 : cX4_taxesOf.data.toList.drop 0 = dktX4_taxesOf_0 := by decide +kernel
theorem dksX4_taxesOf_1 : cX4_taxesOf.data.toList.drop 24 = dktX4_taxesOf_1 := dk_seg dksX4_taxesOf_0 24 rfl rfl
theorem dksX4_taxesOf_2 : cX4_taxesOf.data.toList.drop 48 = dktX4_taxesOf_2 := dk_seg dksX4_taxesOf_1 24 rfl rfl
theorem dksX4_taxesOf_3 : cX4_taxesOf.data.toList.drop 72 = dktX4_taxesOf_3 := dk_seg dksX4_taxesOf_2 24 rfl rfl
theorem dksX4_taxesOf_4 : cX4_taxesOf.data.toList.drop 96 = dktX4_taxesOf_4 := dk_seg dksX4_taxesOf_3 24 rfl rfl
theorem dksX4_taxesOf_5 : cX4_taxesOf.data.toList.drop 118 = dktX4_taxesOf_5 := dk_seg dksX4_taxesOf_4 22 rfl rfl
theorem dksX4_taxesOf_6 : cX4_taxesOf.data.toList.drop 141 = dktX4_taxesOf_6 := dk_seg dksX4_taxesOf_5 23 rfl rfl
theorem dksX4_taxesOf_7 : cX4_taxesOf.data.toList.drop 163 = dktX4_taxesOf_7 := dk_seg dksX4_taxesOf_6 22 rfl rfl
theorem dksX4_taxesOf_8 : cX4_taxesOf.data.toList.drop 187 = dktX4_taxesOf_8 := dk_seg dksX4_taxesOf_7 24 rfl rfl
theorem dX4_taxesOf_0 : decode cX4_taxesOf 0 = .ok (.lconst 0, 1) := dk_9 (dk_at dksX4_taxesOf_0 0 rfl rfl)
theorem dX4_taxesOf_1 : decode cX4_taxesOf 1 = .ok (.lstore_n 2, 1) := dk_65 (dk_at dksX4_taxesOf_0 1 rfl rfl)
theorem dX4_taxesOf_2 : decode cX4_taxesOf 2 = .ok (.iconst 0, 1) := dk_3 (dk_at dksX4_taxesOf_0 2 rfl rfl)
theorem dX4_taxesOf_3 : decode cX4_taxesOf 3 = .ok (.istore 4, 2) := dk_54 4 (dk_at dksX4_taxesOf_0 3 rfl rfl)
theorem dX4_taxesOf_5 : decode cX4_taxesOf 5 = .ok (.iload 4, 2) := dk_21 4 (dk_at dksX4_taxesOf_0 5 rfl rfl)
theorem dX4_taxesOf_7 : decode cX4_taxesOf 7 = .ok (.aload_n 0, 1) := dk_42 (dk_at dksX4_taxesOf_0 7 rfl rfl)
theorem dX4_taxesOf_8 : decode cX4_taxesOf 8 = .ok (.getfield 110, 3) := dk_180 0 110 (dk_at dksX4_taxesOf_0 8 rfl rfl)
theorem dX4_taxesOf_11 : decode cX4_taxesOf 11 = .ok (.iload_n 1, 1) := dk_27 (dk_at dksX4_taxesOf_0 11 rfl rfl)
theorem dX4_taxesOf_12 : decode cX4_taxesOf 12 = .ok (.iaload, 1) := dk_46 (dk_at dksX4_taxesOf_0 12 rfl rfl)
theorem dX4_taxesOf_13 : decode cX4_taxesOf 13 = .ok (.if_icmp .ge 174, 3) := dk_162 0 174 (dk_at dksX4_taxesOf_0 13 rfl rfl)
theorem dX4_taxesOf_16 : decode cX4_taxesOf 16 = .ok (.aload_n 0, 1) := dk_42 (dk_at dksX4_taxesOf_0 16 rfl rfl)
theorem dX4_taxesOf_17 : decode cX4_taxesOf 17 = .ok (.getfield 122, 3) := dk_180 0 122 (dk_at dksX4_taxesOf_0 17 rfl rfl)
theorem dX4_taxesOf_20 : decode cX4_taxesOf 20 = .ok (.bipush 12, 2) := dk_16 12 (dk_at dksX4_taxesOf_0 20 rfl rfl)
theorem dX4_taxesOf_22 : decode cX4_taxesOf 22 = .ok (.iload_n 1, 1) := dk_27 (dk_at dksX4_taxesOf_0 22 rfl rfl)
theorem dX4_taxesOf_23 : decode cX4_taxesOf 23 = .ok (.imul, 1) := dk_104 (dk_at dksX4_taxesOf_0 23 rfl rfl)
theorem dX4_taxesOf_24 : decode cX4_taxesOf 24 = .ok (.iload 4, 2) := dk_21 4 (dk_at dksX4_taxesOf_1 0 rfl rfl)
theorem dX4_taxesOf_26 : decode cX4_taxesOf 26 = .ok (.iadd, 1) := dk_96 (dk_at dksX4_taxesOf_1 2 rfl rfl)
theorem dX4_taxesOf_27 : decode cX4_taxesOf 27 = .ok (.iaload, 1) := dk_46 (dk_at dksX4_taxesOf_1 3 rfl rfl)
theorem dX4_taxesOf_28 : decode cX4_taxesOf 28 = .ok (.istore 5, 2) := dk_54 5 (dk_at dksX4_taxesOf_1 4 rfl rfl)
theorem dX4_taxesOf_30 : decode cX4_taxesOf 30 = .ok (.aload_n 0, 1) := dk_42 (dk_at dksX4_taxesOf_1 6 rfl rfl)
theorem dX4_taxesOf_31 : decode cX4_taxesOf 31 = .ok (.getfield 113, 3) := dk_180 0 113 (dk_at dksX4_taxesOf_1 7 rfl rfl)
theorem dX4_taxesOf_34 : decode cX4_taxesOf 34 = .ok (.iload_n 1, 1) := dk_27 (dk_at dksX4_taxesOf_1 10 rfl rfl)
theorem dX4_taxesOf_35 : decode cX4_taxesOf 35 = .ok (.baload, 1) := dk_51 (dk_at dksX4_taxesOf_1 11 rfl rfl)
theorem dX4_taxesOf_36 : decode cX4_taxesOf 36 = .ok (.ifCond .eq 36, 3) := dk_153 0 36 (dk_at dksX4_taxesOf_1 12 rfl rfl)
theorem dX4_taxesOf_39 : decode cX4_taxesOf 39 = .ok (.lload_n 2, 1) := dk_32 (dk_at dksX4_taxesOf_1 15 rfl rfl)
theorem dX4_taxesOf_40 : decode cX4_taxesOf 40 = .ok (.aload_n 0, 1) := dk_42 (dk_at dksX4_taxesOf_1 16 rfl rfl)
theorem dX4_taxesOf_41 : decode cX4_taxesOf 41 = .ok (.aload_n 0, 1) := dk_42 (dk_at dksX4_taxesOf_1 17 rfl rfl)
theorem dX4_taxesOf_42 : decode cX4_taxesOf 42 = .ok (.aload_n 0, 1) := dk_42 (dk_at dksX4_taxesOf_1 18 rfl rfl)
theorem dX4_taxesOf_43 : decode cX4_taxesOf 43 = .ok (.getfield 119, 3) := dk_180 0 119 (dk_at dksX4_taxesOf_1 19 rfl rfl)
theorem dX4_taxesOf_46 : decode cX4_taxesOf 46 = .ok (.bipush 12, 2) := dk_16 12 (dk_at dksX4_taxesOf_1 22 rfl rfl)
theorem dX4_taxesOf_48 : decode cX4_taxesOf 48 = .ok (.iload_n 1, 1) := dk_27 (dk_at dksX4_taxesOf_2 0 rfl rfl)
theorem dX4_taxesOf_49 : decode cX4_taxesOf 49 = .ok (.imul, 1) := dk_104 (dk_at dksX4_taxesOf_2 1 rfl rfl)
theorem dX4_taxesOf_50 : decode cX4_taxesOf 50 = .ok (.iload 4, 2) := dk_21 4 (dk_at dksX4_taxesOf_2 2 rfl rfl)
theorem dX4_taxesOf_52 : decode cX4_taxesOf 52 = .ok (.iadd, 1) := dk_96 (dk_at dksX4_taxesOf_2 4 rfl rfl)
theorem dX4_taxesOf_53 : decode cX4_taxesOf 53 = .ok (.laload, 1) := dk_47 (dk_at dksX4_taxesOf_2 5 rfl rfl)
theorem dX4_taxesOf_54 : decode cX4_taxesOf 54 = .ok (.iload_n 1, 1) := dk_27 (dk_at dksX4_taxesOf_2 6 rfl rfl)
theorem dX4_taxesOf_55 : decode cX4_taxesOf 55 = .ok (.invokevirtual 340, 3) := dk_182 1 84 (dk_at dksX4_taxesOf_2 7 rfl rfl)
theorem dX4_taxesOf_58 : decode cX4_taxesOf 58 = .ok (.iload 5, 2) := dk_21 5 (dk_at dksX4_taxesOf_2 10 rfl rfl)
theorem dX4_taxesOf_60 : decode cX4_taxesOf 60 = .ok (.ldc2_w 344, 3) := dk_20 1 88 (dk_at dksX4_taxesOf_2 12 rfl rfl)
theorem dX4_taxesOf_63 : decode cX4_taxesOf 63 = .ok (.iload_n 1, 1) := dk_27 (dk_at dksX4_taxesOf_2 15 rfl rfl)
theorem dX4_taxesOf_64 : decode cX4_taxesOf 64 = .ok (.invokevirtual 336, 3) := dk_182 1 80 (dk_at dksX4_taxesOf_2 16 rfl rfl)
theorem dX4_taxesOf_67 : decode cX4_taxesOf 67 = .ok (.ladd, 1) := dk_97 (dk_at dksX4_taxesOf_2 19 rfl rfl)
theorem dX4_taxesOf_68 : decode cX4_taxesOf 68 = .ok (.lstore_n 2, 1) := dk_65 (dk_at dksX4_taxesOf_2 20 rfl rfl)
theorem dX4_taxesOf_69 : decode cX4_taxesOf 69 = .ok (.goto 112, 3) := dk_167 0 112 (dk_at dksX4_taxesOf_2 21 rfl rfl)
theorem dX4_taxesOf_72 : decode cX4_taxesOf 72 = .ok (.iload 5, 2) := dk_21 5 (dk_at dksX4_taxesOf_3 0 rfl rfl)
theorem dX4_taxesOf_74 : decode cX4_taxesOf 74 = .ok (.ifCond .le 7, 3) := dk_158 0 7 (dk_at dksX4_taxesOf_3 2 rfl rfl)
theorem dX4_taxesOf_77 : decode cX4_taxesOf 77 = .ok (.iconst 1, 1) := dk_4 (dk_at dksX4_taxesOf_3 5 rfl rfl)
theorem dX4_taxesOf_78 : decode cX4_taxesOf 78 = .ok (.goto 4, 3) := dk_167 0 4 (dk_at dksX4_taxesOf_3 6 rfl rfl)
theorem dX4_taxesOf_81 : decode cX4_taxesOf 81 = .ok (.iconst 0, 1) := dk_3 (dk_at dksX4_taxesOf_3 9 rfl rfl)
theorem dX4_taxesOf_82 : decode cX4_taxesOf 82 = .ok (.istore 6, 2) := dk_54 6 (dk_at dksX4_taxesOf_3 10 rfl rfl)
theorem dX4_taxesOf_84 : decode cX4_taxesOf 84 = .ok (.lconst 0, 1) := dk_9 (dk_at dksX4_taxesOf_3 12 rfl rfl)
theorem dX4_taxesOf_85 : decode cX4_taxesOf 85 = .ok (.lstore 7, 2) := dk_55 7 (dk_at dksX4_taxesOf_3 13 rfl rfl)
theorem dX4_taxesOf_87 : decode cX4_taxesOf 87 = .ok (.iconst 0, 1) := dk_3 (dk_at dksX4_taxesOf_3 15 rfl rfl)
theorem dX4_taxesOf_88 : decode cX4_taxesOf 88 = .ok (.istore 9, 2) := dk_54 9 (dk_at dksX4_taxesOf_3 16 rfl rfl)
theorem dX4_taxesOf_90 : decode cX4_taxesOf 90 = .ok (.iload 9, 2) := dk_21 9 (dk_at dksX4_taxesOf_3 18 rfl rfl)
theorem dX4_taxesOf_92 : decode cX4_taxesOf 92 = .ok (.aload_n 0, 1) := dk_42 (dk_at dksX4_taxesOf_3 20 rfl rfl)
theorem dX4_taxesOf_93 : decode cX4_taxesOf 93 = .ok (.getfield 110, 3) := dk_180 0 110 (dk_at dksX4_taxesOf_3 21 rfl rfl)
theorem dX4_taxesOf_96 : decode cX4_taxesOf 96 = .ok (.iload_n 1, 1) := dk_27 (dk_at dksX4_taxesOf_4 0 rfl rfl)
theorem dX4_taxesOf_97 : decode cX4_taxesOf 97 = .ok (.iaload, 1) := dk_46 (dk_at dksX4_taxesOf_4 1 rfl rfl)
theorem dX4_taxesOf_98 : decode cX4_taxesOf 98 = .ok (.if_icmp .ge 63, 3) := dk_162 0 63 (dk_at dksX4_taxesOf_4 2 rfl rfl)
theorem dX4_taxesOf_101 : decode cX4_taxesOf 101 = .ok (.aload_n 0, 1) := dk_42 (dk_at dksX4_taxesOf_4 5 rfl rfl)
theorem dX4_taxesOf_102 : decode cX4_taxesOf 102 = .ok (.getfield 122, 3) := dk_180 0 122 (dk_at dksX4_taxesOf_4 6 rfl rfl)
theorem dX4_taxesOf_105 : decode cX4_taxesOf 105 = .ok (.bipush 12, 2) := dk_16 12 (dk_at dksX4_taxesOf_4 9 rfl rfl)
theorem dX4_taxesOf_107 : decode cX4_taxesOf 107 = .ok (.iload_n 1, 1) := dk_27 (dk_at dksX4_taxesOf_4 11 rfl rfl)
theorem dX4_taxesOf_108 : decode cX4_taxesOf 108 = .ok (.imul, 1) := dk_104 (dk_at dksX4_taxesOf_4 12 rfl rfl)
theorem dX4_taxesOf_109 : decode cX4_taxesOf 109 = .ok (.iload 9, 2) := dk_21 9 (dk_at dksX4_taxesOf_4 13 rfl rfl)
theorem dX4_taxesOf_111 : decode cX4_taxesOf 111 = .ok (.iadd, 1) := dk_96 (dk_at dksX4_taxesOf_4 15 rfl rfl)
theorem dX4_taxesOf_112 : decode cX4_taxesOf 112 = .ok (.iaload, 1) := dk_46 (dk_at dksX4_taxesOf_4 16 rfl rfl)
theorem dX4_taxesOf_113 : decode cX4_taxesOf 113 = .ok (.iload 5, 2) := dk_21 5 (dk_at dksX4_taxesOf_4 17 rfl rfl)
theorem dX4_taxesOf_115 : decode cX4_taxesOf 115 = .ok (.if_icmp .eq 6, 3) := dk_159 0 6 (dk_at dksX4_taxesOf_4 19 rfl rfl)
theorem dX4_taxesOf_118 : decode cX4_taxesOf 118 = .ok (.goto 37, 3) := dk_167 0 37 (dk_at dksX4_taxesOf_5 0 rfl rfl)
theorem dX4_taxesOf_121 : decode cX4_taxesOf 121 = .ok (.iload 6, 2) := dk_21 6 (dk_at dksX4_taxesOf_5 3 rfl rfl)
theorem dX4_taxesOf_123 : decode cX4_taxesOf 123 = .ok (.iload 9, 2) := dk_21 9 (dk_at dksX4_taxesOf_5 5 rfl rfl)
theorem dX4_taxesOf_125 : decode cX4_taxesOf 125 = .ok (.iload 4, 2) := dk_21 4 (dk_at dksX4_taxesOf_5 7 rfl rfl)
theorem dX4_taxesOf_127 : decode cX4_taxesOf 127 = .ok (.if_icmp .lt 7, 3) := dk_161 0 7 (dk_at dksX4_taxesOf_5 9 rfl rfl)
theorem dX4_taxesOf_130 : decode cX4_taxesOf 130 = .ok (.iconst 1, 1) := dk_4 (dk_at dksX4_taxesOf_5 12 rfl rfl)
theorem dX4_taxesOf_131 : decode cX4_taxesOf 131 = .ok (.goto 4, 3) := dk_167 0 4 (dk_at dksX4_taxesOf_5 13 rfl rfl)
theorem dX4_taxesOf_134 : decode cX4_taxesOf 134 = .ok (.iconst 0, 1) := dk_3 (dk_at dksX4_taxesOf_5 16 rfl rfl)
theorem dX4_taxesOf_135 : decode cX4_taxesOf 135 = .ok (.iand, 1) := dk_126 (dk_at dksX4_taxesOf_5 17 rfl rfl)
theorem dX4_taxesOf_136 : decode cX4_taxesOf 136 = .ok (.istore 6, 2) := dk_54 6 (dk_at dksX4_taxesOf_5 18 rfl rfl)
theorem dX4_taxesOf_138 : decode cX4_taxesOf 138 = .ok (.lload 7, 2) := dk_22 7 (dk_at dksX4_taxesOf_5 20 rfl rfl)
theorem dX4_taxesOf_140 : decode cX4_taxesOf 140 = .ok (.aload_n 0, 1) := dk_42 (dk_at dksX4_taxesOf_5 22 rfl rfl)
theorem dX4_taxesOf_141 : decode cX4_taxesOf 141 = .ok (.getfield 119, 3) := dk_180 0 119 (dk_at dksX4_taxesOf_6 0 rfl rfl)
theorem dX4_taxesOf_144 : decode cX4_taxesOf 144 = .ok (.bipush 12, 2) := dk_16 12 (dk_at dksX4_taxesOf_6 3 rfl rfl)
theorem dX4_taxesOf_146 : decode cX4_taxesOf 146 = .ok (.iload_n 1, 1) := dk_27 (dk_at dksX4_taxesOf_6 5 rfl rfl)
theorem dX4_taxesOf_147 : decode cX4_taxesOf 147 = .ok (.imul, 1) := dk_104 (dk_at dksX4_taxesOf_6 6 rfl rfl)
theorem dX4_taxesOf_148 : decode cX4_taxesOf 148 = .ok (.iload 9, 2) := dk_21 9 (dk_at dksX4_taxesOf_6 7 rfl rfl)
theorem dX4_taxesOf_150 : decode cX4_taxesOf 150 = .ok (.iadd, 1) := dk_96 (dk_at dksX4_taxesOf_6 9 rfl rfl)
theorem dX4_taxesOf_151 : decode cX4_taxesOf 151 = .ok (.laload, 1) := dk_47 (dk_at dksX4_taxesOf_6 10 rfl rfl)
theorem dX4_taxesOf_152 : decode cX4_taxesOf 152 = .ok (.ladd, 1) := dk_97 (dk_at dksX4_taxesOf_6 11 rfl rfl)
theorem dX4_taxesOf_153 : decode cX4_taxesOf 153 = .ok (.lstore 7, 2) := dk_55 7 (dk_at dksX4_taxesOf_6 12 rfl rfl)
theorem dX4_taxesOf_155 : decode cX4_taxesOf 155 = .ok (.iinc 9 1, 3) := dk_132 9 1 (dk_at dksX4_taxesOf_6 14 rfl rfl)
theorem dX4_taxesOf_158 : decode cX4_taxesOf 158 = .ok (.goto (-68), 3) := dk_167 255 188 (dk_at dksX4_taxesOf_6 17 rfl rfl)
theorem dX4_taxesOf_161 : decode cX4_taxesOf 161 = .ok (.iload 6, 2) := dk_21 6 (dk_at dksX4_taxesOf_6 20 rfl rfl)
theorem dX4_taxesOf_163 : decode cX4_taxesOf 163 = .ok (.ifCond .eq 18, 3) := dk_153 0 18 (dk_at dksX4_taxesOf_7 0 rfl rfl)
theorem dX4_taxesOf_166 : decode cX4_taxesOf 166 = .ok (.lload_n 2, 1) := dk_32 (dk_at dksX4_taxesOf_7 3 rfl rfl)
theorem dX4_taxesOf_167 : decode cX4_taxesOf 167 = .ok (.aload_n 0, 1) := dk_42 (dk_at dksX4_taxesOf_7 4 rfl rfl)
theorem dX4_taxesOf_168 : decode cX4_taxesOf 168 = .ok (.lload 7, 2) := dk_22 7 (dk_at dksX4_taxesOf_7 5 rfl rfl)
theorem dX4_taxesOf_170 : decode cX4_taxesOf 170 = .ok (.iload 5, 2) := dk_21 5 (dk_at dksX4_taxesOf_7 7 rfl rfl)
theorem dX4_taxesOf_172 : decode cX4_taxesOf 172 = .ok (.ldc2_w 346, 3) := dk_20 1 90 (dk_at dksX4_taxesOf_7 9 rfl rfl)
theorem dX4_taxesOf_175 : decode cX4_taxesOf 175 = .ok (.iload_n 1, 1) := dk_27 (dk_at dksX4_taxesOf_7 12 rfl rfl)
theorem dX4_taxesOf_176 : decode cX4_taxesOf 176 = .ok (.invokevirtual 336, 3) := dk_182 1 80 (dk_at dksX4_taxesOf_7 13 rfl rfl)
theorem dX4_taxesOf_179 : decode cX4_taxesOf 179 = .ok (.ladd, 1) := dk_97 (dk_at dksX4_taxesOf_7 16 rfl rfl)
theorem dX4_taxesOf_180 : decode cX4_taxesOf 180 = .ok (.lstore_n 2, 1) := dk_65 (dk_at dksX4_taxesOf_7 17 rfl rfl)
theorem dX4_taxesOf_181 : decode cX4_taxesOf 181 = .ok (.iinc 4 1, 3) := dk_132 4 1 (dk_at dksX4_taxesOf_7 18 rfl rfl)
theorem dX4_taxesOf_184 : decode cX4_taxesOf 184 = .ok (.goto (-179), 3) := dk_167 255 77 (dk_at dksX4_taxesOf_7 21 rfl rfl)
theorem dX4_taxesOf_187 : decode cX4_taxesOf 187 = .ok (.lload_n 2, 1) := dk_32 (dk_at dksX4_taxesOf_8 0 rfl rfl)
theorem dX4_taxesOf_188 : decode cX4_taxesOf 188 = .ok (.lreturn, 1) := dk_173 (dk_at dksX4_taxesOf_8 1 rfl rfl)
def dkwX4_cash_4 : List UInt8 := [155, 0, 9, 21, 4, 133, 167, 0, 4, 9, 97, 173]
abbrev dktX4_cash_4 : List UInt8 := dkwX4_cash_4 ++ []
def dkwX4_cash_3 : List UInt8 := [54, 4, 32, 21, 4, 133, 113, 55, 5, 32, 22, 5, 101, 20, 1, 27, 22, 5, 105, 21, 4, 133, 148]
abbrev dktX4_cash_3 : List UInt8 := dkwX4_cash_3 ++ dktX4_cash_4
def dkwX4_cash_2 : List UInt8 := [167, 0, 4, 3, 182, 0, 205, 153, 0, 5, 9, 173, 42, 180, 0, 74, 42, 180, 0, 107, 27, 46, 46]
abbrev dktX4_cash_2 : List UInt8 := dkwX4_cash_2 ++ dktX4_cash_3
def dkwX4_cash_1 : List UInt8 := [181, 0, 47, 42, 27, 182, 1, 92, 42, 27, 182, 1, 95, 97, 65, 42, 42, 180, 0, 47, 153, 0, 7, 5]
abbrev dktX4_cash_1 : List UInt8 := dkwX4_cash_1 ++ dktX4_cash_2
def dkwX4_cash_0 : List UInt8 := [42, 42, 27, 182, 1, 73, 153, 0, 7, 3, 167, 0, 4, 4, 182, 0, 205, 153, 0, 5, 9, 173, 42, 3]
abbrev dktX4_cash_0 : List UInt8 := dkwX4_cash_0 ++ dktX4_cash_1
theorem dksX4_cash_0 : cX4_cash.data.toList.drop 0 = dktX4_cash_0 := by decide +kernel
theorem dksX4_cash_1 : cX4_cash.data.toList.drop 24 = dktX4_cash_1 := dk_seg dksX4_cash_0 24 rfl rfl
theorem dksX4_cash_2 : cX4_cash.data.toList.drop 48 = dktX4_cash_2 := dk_seg dksX4_cash_1 24 rfl rfl
theorem dksX4_cash_3 : cX4_cash.data.toList.drop 71 = dktX4_cash_3 := dk_seg dksX4_cash_2 23 rfl rfl
theorem dksX4_cash_4 : cX4_cash.data.toList.drop 94 = dktX4_cash_4 := dk_seg dksX4_cash_3 23 rfl rfl
theorem dX4_cash_0 : decode cX4_cash 0 = .ok (.aload_n 0, 1) := dk_42 (dk_at dksX4_cash_0 0 rfl rfl)
theorem dX4_cash_1 : decode cX4_cash 1 = .ok (.aload_n 0, 1) := dk_42 (dk_at dksX4_cash_0 1 rfl rfl)
theorem dX4_cash_2 : decode cX4_cash 2 = .ok (.iload_n 1, 1) := dk_27 (dk_at dksX4_cash_0 2 rfl rfl)
theorem dX4_cash_3 : decode cX4_cash 3 = .ok (.invokevirtual 329, 3) := dk_182 1 73 (dk_at dksX4_cash_0 3 rfl rfl)
theorem dX4_cash_6 : decode cX4_cash 6 = .ok (.ifCond .eq 7, 3) := dk_153 0 7 (dk_at dksX4_cash_0 6 rfl rfl)
theorem dX4_cash_9 : decode cX4_cash 9 = .ok (.iconst 0, 1) := dk_3 (dk_at dksX4_cash_0 9 rfl rfl)
theorem dX4_cash_10 : decode cX4_cash 10 = .ok (.goto 4, 3) := dk_167 0 4 (dk_at dksX4_cash_0 10 rfl rfl)
theorem dX4_cash_13 : decode cX4_cash 13 = .ok (.iconst 1, 1) := dk_4 (dk_at dksX4_cash_0 13 rfl rfl)
theorem dX4_cash_14 : decode cX4_cash 14 = .ok (.invokevirtual 205, 3) := dk_182 0 205 (dk_at dksX4_cash_0 14 rfl rfl)
theorem dX4_cash_17 : decode cX4_cash 17 = .ok (.ifCond .eq 5, 3) := dk_153 0 5 (dk_at dksX4_cash_0 17 rfl rfl)
theorem dX4_cash_20 : decode cX4_cash 20 = .ok (.lconst 0, 1) := dk_9 (dk_at dksX4_cash_0 20 rfl rfl)
theorem dX4_cash_21 : decode cX4_cash 21 = .ok (.lreturn, 1) := dk_173 (dk_at dksX4_cash_0 21 rfl rfl)
theorem dX4_cash_22 : decode cX4_cash 22 = .ok (.aload_n 0, 1) := dk_42 (dk_at dksX4_cash_0 22 rfl rfl)
theorem dX4_cash_23 : decode cX4_cash 23 = .ok (.iconst 0, 1) := dk_3 (dk_at dksX4_cash_0 23 rfl rfl)
theorem dX4_cash_24 : decode cX4_cash 24 = .ok (.putfield 47, 3) := dk_181 0 47 (dk_at dksX4_cash_1 0 rfl rfl)
theorem dX4_cash_27 : decode cX4_cash 27 = .ok (.aload_n 0, 1) := dk_42 (dk_at dksX4_cash_1 3 rfl rfl)
theorem dX4_cash_28 : decode cX4_cash 28 = .ok (.iload_n 1, 1) := dk_27 (dk_at dksX4_cash_1 4 rfl rfl)
theorem dX4_cash_29 : decode cX4_cash 29 = .ok (.invokevirtual 348, 3) := dk_182 1 92 (dk_at dksX4_cash_1 5 rfl rfl)
theorem dX4_cash_32 : decode cX4_cash 32 = .ok (.aload_n 0, 1) := dk_42 (dk_at dksX4_cash_1 8 rfl rfl)
theorem dX4_cash_33 : decode cX4_cash 33 = .ok (.iload_n 1, 1) := dk_27 (dk_at dksX4_cash_1 9 rfl rfl)
theorem dX4_cash_34 : decode cX4_cash 34 = .ok (.invokevirtual 351, 3) := dk_182 1 95 (dk_at dksX4_cash_1 10 rfl rfl)
theorem dX4_cash_37 : decode cX4_cash 37 = .ok (.ladd, 1) := dk_97 (dk_at dksX4_cash_1 13 rfl rfl)
theorem dX4_cash_38 : decode cX4_cash 38 = .ok (.lstore_n 2, 1) := dk_65 (dk_at dksX4_cash_1 14 rfl rfl)
theorem dX4_cash_39 : decode cX4_cash 39 = .ok (.aload_n 0, 1) := dk_42 (dk_at dksX4_cash_1 15 rfl rfl)
theorem dX4_cash_40 : decode cX4_cash 40 = .ok (.aload_n 0, 1) := dk_42 (dk_at dksX4_cash_1 16 rfl rfl)
theorem dX4_cash_41 : decode cX4_cash 41 = .ok (.getfield 47, 3) := dk_180 0 47 (dk_at dksX4_cash_1 17 rfl rfl)
theorem dX4_cash_44 : decode cX4_cash 44 = .ok (.ifCond .eq 7, 3) := dk_153 0 7 (dk_at dksX4_cash_1 20 rfl rfl)
theorem dX4_cash_47 : decode cX4_cash 47 = .ok (.iconst 2, 1) := dk_5 (dk_at dksX4_cash_1 23 rfl rfl)
theorem dX4_cash_48 : decode cX4_cash 48 = .ok (.goto 4, 3) := dk_167 0 4 (dk_at dksX4_cash_2 0 rfl rfl)
theorem dX4_cash_51 : decode cX4_cash 51 = .ok (.iconst 0, 1) := dk_3 (dk_at dksX4_cash_2 3 rfl rfl)
theorem dX4_cash_52 : decode cX4_cash 52 = .ok (.invokevirtual 205, 3) := dk_182 0 205 (dk_at dksX4_cash_2 4 rfl rfl)
theorem dX4_cash_55 : decode cX4_cash 55 = .ok (.ifCond .eq 5, 3) := dk_153 0 5 (dk_at dksX4_cash_2 7 rfl rfl)
theorem dX4_cash_58 : decode cX4_cash 58 = .ok (.lconst 0, 1) := dk_9 (dk_at dksX4_cash_2 10 rfl rfl)
theorem dX4_cash_59 : decode cX4_cash 59 = .ok (.lreturn, 1) := dk_173 (dk_at dksX4_cash_2 11 rfl rfl)
theorem dX4_cash_60 : decode cX4_cash 60 = .ok (.aload_n 0, 1) := dk_42 (dk_at dksX4_cash_2 12 rfl rfl)
theorem dX4_cash_61 : decode cX4_cash 61 = .ok (.getfield 74, 3) := dk_180 0 74 (dk_at dksX4_cash_2 13 rfl rfl)
theorem dX4_cash_64 : decode cX4_cash 64 = .ok (.aload_n 0, 1) := dk_42 (dk_at dksX4_cash_2 16 rfl rfl)
theorem dX4_cash_65 : decode cX4_cash 65 = .ok (.getfield 107, 3) := dk_180 0 107 (dk_at dksX4_cash_2 17 rfl rfl)
theorem dX4_cash_68 : decode cX4_cash 68 = .ok (.iload_n 1, 1) := dk_27 (dk_at dksX4_cash_2 20 rfl rfl)
theorem dX4_cash_69 : decode cX4_cash 69 = .ok (.iaload, 1) := dk_46 (dk_at dksX4_cash_2 21 rfl rfl)
theorem dX4_cash_70 : decode cX4_cash 70 = .ok (.iaload, 1) := dk_46 (dk_at dksX4_cash_2 22 rfl rfl)
theorem dX4_cash_71 : decode cX4_cash 71 = .ok (.istore 4, 2) := dk_54 4 (dk_at dksX4_cash_3 0 rfl rfl)
theorem dX4_cash_73 : decode cX4_cash 73 = .ok (.lload_n 2, 1) := dk_32 (dk_at dksX4_cash_3 2 rfl rfl)
theorem dX4_cash_74 : decode cX4_cash 74 = .ok (.iload 4, 2) := dk_21 4 (dk_at dksX4_cash_3 3 rfl rfl)
theorem dX4_cash_76 : decode cX4_cash 76 = .ok (.i2l, 1) := dk_133 (dk_at dksX4_cash_3 5 rfl rfl)
theorem dX4_cash_77 : decode cX4_cash 77 = .ok (.lrem, 1) := dk_113 (dk_at dksX4_cash_3 6 rfl rfl)
theorem dX4_cash_78 : decode cX4_cash 78 = .ok (.lstore 5, 2) := dk_55 5 (dk_at dksX4_cash_3 7 rfl rfl)
theorem dX4_cash_80 : decode cX4_cash 80 = .ok (.lload_n 2, 1) := dk_32 (dk_at dksX4_cash_3 9 rfl rfl)
theorem dX4_cash_81 : decode cX4_cash 81 = .ok (.lload 5, 2) := dk_22 5 (dk_at dksX4_cash_3 10 rfl rfl)
theorem dX4_cash_83 : decode cX4_cash 83 = .ok (.lsub, 1) := dk_101 (dk_at dksX4_cash_3 12 rfl rfl)
theorem dX4_cash_84 : decode cX4_cash 84 = .ok (.ldc2_w 283, 3) := dk_20 1 27 (dk_at dksX4_cash_3 13 rfl rfl)
theorem dX4_cash_87 : decode cX4_cash 87 = .ok (.lload 5, 2) := dk_22 5 (dk_at dksX4_cash_3 16 rfl rfl)
theorem dX4_cash_89 : decode cX4_cash 89 = .ok (.lmul, 1) := dk_105 (dk_at dksX4_cash_3 18 rfl rfl)
theorem dX4_cash_90 : decode cX4_cash 90 = .ok (.iload 4, 2) := dk_21 4 (dk_at dksX4_cash_3 19 rfl rfl)
theorem dX4_cash_92 : decode cX4_cash 92 = .ok (.i2l, 1) := dk_133 (dk_at dksX4_cash_3 21 rfl rfl)
theorem dX4_cash_93 : decode cX4_cash 93 = .ok (.lcmp, 1) := dk_148 (dk_at dksX4_cash_3 22 rfl rfl)
theorem dX4_cash_94 : decode cX4_cash 94 = .ok (.ifCond .lt 9, 3) := dk_155 0 9 (dk_at dksX4_cash_4 0 rfl rfl)
theorem dX4_cash_97 : decode cX4_cash 97 = .ok (.iload 4, 2) := dk_21 4 (dk_at dksX4_cash_4 3 rfl rfl)
theorem dX4_cash_99 : decode cX4_cash 99 = .ok (.i2l, 1) := dk_133 (dk_at dksX4_cash_4 5 rfl rfl)
theorem dX4_cash_100 : decode cX4_cash 100 = .ok (.goto 4, 3) := dk_167 0 4 (dk_at dksX4_cash_4 6 rfl rfl)
theorem dX4_cash_103 : decode cX4_cash 103 = .ok (.lconst 0, 1) := dk_9 (dk_at dksX4_cash_4 9 rfl rfl)
theorem dX4_cash_104 : decode cX4_cash 104 = .ok (.ladd, 1) := dk_97 (dk_at dksX4_cash_4 10 rfl rfl)
theorem dX4_cash_105 : decode cX4_cash 105 = .ok (.lreturn, 1) := dk_173 (dk_at dksX4_cash_4 11 rfl rfl)
def dkwX4_weigh_2 : List UInt8 := [27, 79, 42, 89, 180, 1, 98, 4, 96, 181, 1, 98, 42, 180, 1, 98, 172]
abbrev dktX4_weigh_2 : List UInt8 := dkwX4_weigh_2 ++ []
def dkwX4_weigh_1 : List UInt8 := [160, 0, 7, 5, 167, 0, 4, 3, 182, 0, 205, 153, 0, 5, 3, 172, 42, 180, 0, 125, 42, 180, 1, 98]
abbrev dktX4_weigh_1 : List UInt8 := dkwX4_weigh_1 ++ dktX4_weigh_2
def dkwX4_weigh_0 : List UInt8 := [42, 27, 133, 9, 20, 1, 53, 184, 0, 182, 154, 0, 7, 4, 167, 0, 17, 42, 180, 1, 98, 16, 12]
abbrev dktX4_weigh_0 : List UInt8 := dkwX4_weigh_0 ++ dktX4_weigh_1
theorem dksX4_weigh_0 : cX4_weigh.data.toList.drop 0 = dktX4_weigh_0 := by decide +kernel
theorem dksX4_weigh_1 : cX4_weigh.data.toList.drop 23 = dktX4_weigh_1 := dk_seg dksX4_weigh_0 23 rfl rfl
theorem dksX4_weigh_2 : cX4_weigh.data.toList.drop 47 = dktX4_weigh_2 := dk_seg dksX4_weigh_1 24 rfl rfl
theorem dX4_weigh_0 : decode cX4_weigh 0 = .ok (.aload_n 0, 1) := dk_42 (dk_at dksX4_weigh_0 0 rfl rfl)
theorem dX4_weigh_1 : decode cX4_weigh 1 = .ok (.iload_n 1, 1) := dk_27 (dk_at dksX4_weigh_0 1 rfl rfl)
theorem dX4_weigh_2 : decode cX4_weigh 2 = .ok (.i2l, 1) := dk_133 (dk_at dksX4_weigh_0 2 rfl rfl)
theorem dX4_weigh_3 : decode cX4_weigh 3 = .ok (.lconst 0, 1) := dk_9 (dk_at dksX4_weigh_0 3 rfl rfl)
theorem dX4_weigh_4 : decode cX4_weigh 4 = .ok (.ldc2_w 309, 3) := dk_20 1 53 (dk_at dksX4_weigh_0 4 rfl rfl)
theorem dX4_weigh_7 : decode cX4_weigh 7 = .ok (.invokestatic 182, 3) := dk_184 0 182 (dk_at dksX4_weigh_0 7 rfl rfl)
theorem dX4_weigh_10 : decode cX4_weigh 10 = .ok (.ifCond .ne 7, 3) := dk_154 0 7 (dk_at dksX4_weigh_0 10 rfl rfl)
theorem dX4_weigh_13 : decode cX4_weigh 13 = .ok (.iconst 1, 1) := dk_4 (dk_at dksX4_weigh_0 13 rfl rfl)
theorem dX4_weigh_14 : decode cX4_weigh 14 = .ok (.goto 17, 3) := dk_167 0 17 (dk_at dksX4_weigh_0 14 rfl rfl)
theorem dX4_weigh_17 : decode cX4_weigh 17 = .ok (.aload_n 0, 1) := dk_42 (dk_at dksX4_weigh_0 17 rfl rfl)
theorem dX4_weigh_18 : decode cX4_weigh 18 = .ok (.getfield 354, 3) := dk_180 1 98 (dk_at dksX4_weigh_0 18 rfl rfl)
theorem dX4_weigh_21 : decode cX4_weigh 21 = .ok (.bipush 12, 2) := dk_16 12 (dk_at dksX4_weigh_0 21 rfl rfl)
theorem dX4_weigh_23 : decode cX4_weigh 23 = .ok (.if_icmp .ne 7, 3) := dk_160 0 7 (dk_at dksX4_weigh_1 0 rfl rfl)
theorem dX4_weigh_26 : decode cX4_weigh 26 = .ok (.iconst 2, 1) := dk_5 (dk_at dksX4_weigh_1 3 rfl rfl)
theorem dX4_weigh_27 : decode cX4_weigh 27 = .ok (.goto 4, 3) := dk_167 0 4 (dk_at dksX4_weigh_1 4 rfl rfl)
theorem dX4_weigh_30 : decode cX4_weigh 30 = .ok (.iconst 0, 1) := dk_3 (dk_at dksX4_weigh_1 7 rfl rfl)
theorem dX4_weigh_31 : decode cX4_weigh 31 = .ok (.invokevirtual 205, 3) := dk_182 0 205 (dk_at dksX4_weigh_1 8 rfl rfl)
theorem dX4_weigh_34 : decode cX4_weigh 34 = .ok (.ifCond .eq 5, 3) := dk_153 0 5 (dk_at dksX4_weigh_1 11 rfl rfl)
theorem dX4_weigh_37 : decode cX4_weigh 37 = .ok (.iconst 0, 1) := dk_3 (dk_at dksX4_weigh_1 14 rfl rfl)
theorem dX4_weigh_38 : decode cX4_weigh 38 = .ok (.ireturn, 1) := dk_172 (dk_at dksX4_weigh_1 15 rfl rfl)
theorem dX4_weigh_39 : decode cX4_weigh 39 = .ok (.aload_n 0, 1) := dk_42 (dk_at dksX4_weigh_1 16 rfl rfl)
theorem dX4_weigh_40 : decode cX4_weigh 40 = .ok (.getfield 125, 3) := dk_180 0 125 (dk_at dksX4_weigh_1 17 rfl rfl)
theorem dX4_weigh_43 : decode cX4_weigh 43 = .ok (.aload_n 0, 1) := dk_42 (dk_at dksX4_weigh_1 20 rfl rfl)
theorem dX4_weigh_44 : decode cX4_weigh 44 = .ok (.getfield 354, 3) := dk_180 1 98 (dk_at dksX4_weigh_1 21 rfl rfl)
theorem dX4_weigh_47 : decode cX4_weigh 47 = .ok (.iload_n 1, 1) := dk_27 (dk_at dksX4_weigh_2 0 rfl rfl)
theorem dX4_weigh_48 : decode cX4_weigh 48 = .ok (.iastore, 1) := dk_79 (dk_at dksX4_weigh_2 1 rfl rfl)
theorem dX4_weigh_49 : decode cX4_weigh 49 = .ok (.aload_n 0, 1) := dk_42 (dk_at dksX4_weigh_2 2 rfl rfl)
theorem dX4_weigh_50 : decode cX4_weigh 50 = .ok (.dup, 1) := dk_89 (dk_at dksX4_weigh_2 3 rfl rfl)
theorem dX4_weigh_51 : decode cX4_weigh 51 = .ok (.getfield 354, 3) := dk_180 1 98 (dk_at dksX4_weigh_2 4 rfl rfl)
theorem dX4_weigh_54 : decode cX4_weigh 54 = .ok (.iconst 1, 1) := dk_4 (dk_at dksX4_weigh_2 7 rfl rfl)
theorem dX4_weigh_55 : decode cX4_weigh 55 = .ok (.iadd, 1) := dk_96 (dk_at dksX4_weigh_2 8 rfl rfl)
theorem dX4_weigh_56 : decode cX4_weigh 56 = .ok (.putfield 354, 3) := dk_181 1 98 (dk_at dksX4_weigh_2 9 rfl rfl)
theorem dX4_weigh_59 : decode cX4_weigh 59 = .ok (.aload_n 0, 1) := dk_42 (dk_at dksX4_weigh_2 12 rfl rfl)
theorem dX4_weigh_60 : decode cX4_weigh 60 = .ok (.getfield 354, 3) := dk_180 1 98 (dk_at dksX4_weigh_2 13 rfl rfl)
theorem dX4_weigh_63 : decode cX4_weigh 63 = .ok (.ireturn, 1) := dk_172 (dk_at dksX4_weigh_2 16 rfl rfl)
def dkwX4_share_12 : List UInt8 := [180, 0, 131, 21, 10, 9, 80, 22, 8, 10, 97, 55, 8, 167, 255, 151, 22, 6, 136, 172]
abbrev dktX4_share_12 : List UInt8 := dkwX4_share_12 ++ []
def dkwX4_share_11 : List UInt8 := [21, 11, 54, 10, 132, 11, 1, 167, 255, 193, 42, 180, 0, 128, 21, 10, 92, 47, 10, 97, 80, 42]
abbrev dktX4_share_11 : List UInt8 := dkwX4_share_11 ++ dktX4_share_12
def dkwX4_share_10 : List UInt8 := [16, 108, 160, 0, 25, 42, 180, 0, 131, 21, 11, 47, 42, 180, 0, 131, 21, 10, 47, 148, 158, 0, 7]
abbrev dktX4_share_10 : List UInt8 := dkwX4_share_10 ++ dktX4_share_11
def dkwX4_share_9 : List UInt8 := [180, 0, 131, 21, 11, 47, 9, 148, 158, 0, 42, 21, 10, 155, 0, 33, 29, 16, 98, 159, 0, 27, 29]
abbrev dktX4_share_9 : List UInt8 := dkwX4_share_9 ++ dktX4_share_10
def dkwX4_share_8 : List UInt8 := [22, 6, 148, 156, 0, 103, 2, 54, 10, 3, 54, 11, 21, 11, 42, 180, 1, 101, 162, 0, 60, 42]
abbrev dktX4_share_8 : List UInt8 := dkwX4_share_8 ++ dktX4_share_9
def dkwX4_share_7 : List UInt8 := [132, 8, 1, 167, 255, 190, 42, 42, 180, 1, 98, 181, 1, 101, 42, 3, 181, 1, 98, 9, 55, 8, 22, 8]
abbrev dktX4_share_7 : List UInt8 := dkwX4_share_7 ++ dktX4_share_8
def dkwX4_share_6 : List UInt8 := [21, 8, 46, 133, 105, 21, 4, 133, 113, 80, 22, 6, 42, 180, 0, 128, 21, 8, 47, 101, 55, 6]
abbrev dktX4_share_6 : List UInt8 := dkwX4_share_6 ++ dktX4_share_7
def dkwX4_share_5 : List UInt8 := [180, 0, 125, 21, 8, 46, 133, 105, 21, 4, 133, 109, 80, 42, 180, 0, 131, 21, 8, 31, 42, 180, 0, 125]
abbrev dktX4_share_5 : List UInt8 := dkwX4_share_5 ++ dktX4_share_6
def dkwX4_share_4 : List UInt8 := [172, 31, 55, 6, 3, 54, 8, 21, 8, 42, 180, 1, 98, 162, 0, 63, 42, 180, 0, 128, 21, 8, 31, 42]
abbrev dktX4_share_4 : List UInt8 := dkwX4_share_4 ++ dktX4_share_5
def dkwX4_share_3 : List UInt8 := [154, 0, 7, 4, 167, 0, 13, 21, 4, 154, 0, 7, 5, 167, 0, 4, 3, 182, 0, 205, 153, 0, 5, 3]
abbrev dktX4_share_3 : List UInt8 := dkwX4_share_3 ++ dktX4_share_4
def dkwX4_share_2 : List UInt8 := [160, 0, 7, 4, 167, 0, 4, 3, 54, 5, 42, 31, 9, 20, 1, 40, 184, 0, 182, 153, 0, 8, 21, 5]
abbrev dktX4_share_2 : List UInt8 := dkwX4_share_2 ++ dktX4_share_3
def dkwX4_share_1 : List UInt8 := [96, 54, 4, 132, 5, 1, 167, 255, 232, 29, 16, 108, 159, 0, 15, 29, 16, 102, 159, 0, 9, 29, 16, 98]
abbrev dktX4_share_1 : List UInt8 := dkwX4_share_1 ++ dktX4_share_2
def dkwX4_share_0 : List UInt8 := [3, 54, 4, 3, 54, 5, 21, 5, 42, 180, 1, 98, 162, 0, 21, 21, 4, 42, 180, 0, 125, 21, 5, 46]
abbrev dktX4_share_0 : List UInt8 := dkwX4_share_0 ++ dktX4_share_1
theorem dksX4_share_0 : cX4_share.data.toList.drop 0 = dktX4_share_0 := by decide +kernel
theorem dksX4_share_1 : cX4_share.data.toList.drop 24 = dktX4_share_1 := dk_seg dksX4_share_0 24 rfl rfl
theorem dksX4_share_2 : cX4_share.data.toList.drop 48 = dktX4_share_2 := dk_seg dksX4_share_1 24 rfl rfl
theorem dksX4_share_3 : cX4_share.data.toList.drop 72 = dktX4_share_3 := dk_seg dksX4_share_2 24 rfl rfl
theorem dksX4_share_4 : cX4_share.data.toList.drop 96 = dktX4_share_4 := dk_seg dksX4_share_3 24 rfl rfl
theorem dksX4_share_5 : cX4_share.data.toList.drop 120 = dktX4_share_5 := dk_seg dksX4_share_4 24 rfl rfl
theorem dksX4_share_6 : cX4_share.data.toList.drop 144 = dktX4_share_6 := dk_seg dksX4_share_5 24 rfl rfl
theorem dksX4_share_7 : cX4_share.data.toList.drop 166 = dktX4_share_7 := dk_seg dksX4_share_6 22 rfl rfl
theorem dksX4_share_8 : cX4_share.data.toList.drop 190 = dktX4_share_8 := dk_seg dksX4_share_7 24 rfl rfl
theorem dksX4_share_9 : cX4_share.data.toList.drop 212 = dktX4_share_9 := dk_seg dksX4_share_8 22 rfl rfl
theorem dksX4_share_10 : cX4_share.data.toList.drop 235 = dktX4_share_10 := dk_seg dksX4_share_9 23 rfl rfl
theorem dksX4_share_11 : cX4_share.data.toList.drop 258 = dktX4_share_11 := dk_seg dksX4_share_10 23 rfl rfl
theorem dksX4_share_12 : cX4_share.data.toList.drop 280 = dktX4_share_12 := dk_seg dksX4_share_11 22 rfl rfl
theorem dX4_share_0 : decode cX4_share 0 = .ok (.iconst 0, 1) := dk_3 (dk_at dksX4_share_0 0 rfl rfl)
theorem dX4_share_1 : decode cX4_share 1 = .ok (.istore 4, 2) := dk_54 4 (dk_at dksX4_share_0 1 rfl rfl)
theorem dX4_share_3 : decode cX4_share 3 = .ok (.iconst 0, 1) := dk_3 (dk_at dksX4_share_0 3 rfl rfl)
theorem dX4_share_4 : decode cX4_share 4 = .ok (.istore 5, 2) := dk_54 5 (dk_at dksX4_share_0 4 rfl rfl)
theorem dX4_share_6 : decode cX4_share 6 = .ok (.iload 5, 2) := dk_21 5 (dk_at dksX4_share_0 6 rfl rfl)
theorem dX4_share_8 : decode cX4_share 8 = .ok (.aload_n 0, 1) := dk_42 (dk_at dksX4_share_0 8 rfl rfl)
theorem dX4_share_9 : decode cX4_share 9 = .ok (.getfield 354, 3) := dk_180 1 98 (dk_at dksX4_share_0 9 rfl rfl)
theorem dX4_share_12 : decode cX4_share 12 = .ok (.if_icmp .ge 21, 3) := dk_162 0 21 (dk_at dksX4_share_0 12 rfl rfl)
theorem dX4_share_15 : decode cX4_share 15 = .ok (.iload 4, 2) := dk_21 4 (dk_at dksX4_share_0 15 rfl rfl)
theorem dX4_share_17 : decode cX4_share 17 = .ok (.aload_n 0, 1) := dk_42 (dk_at dksX4_share_0 17 rfl rfl)
theorem dX4_share_18 : decode cX4_share 18 = .ok (.getfield 125, 3) := dk_180 0 125 (dk_at dksX4_share_0 18 rfl rfl)
theorem dX4_share_21 : decode cX4_share 21 = .ok (.iload 5, 2) := dk_21 5 (dk_at dksX4_share_0 21 rfl rfl)
theorem dX4_share_23 : decode cX4_share 23 = .ok (.iaload, 1) := dk_46 (dk_at dksX4_share_0 23 rfl rfl)
theorem dX4_share_24 : decode cX4_share 24 = .ok (.iadd, 1) := dk_96 (dk_at dksX4_share_1 0 rfl rfl)
theorem dX4_share_25 : decode cX4_share 25 = .ok (.istore 4, 2) := dk_54 4 (dk_at dksX4_share_1 1 rfl rfl)
theorem dX4_share_27 : decode cX4_share 27 = .ok (.iinc 5 1, 3) := dk_132 5 1 (dk_at dksX4_share_1 3 rfl rfl)
theorem dX4_share_30 : decode cX4_share 30 = .ok (.goto (-24), 3) := dk_167 255 232 (dk_at dksX4_share_1 6 rfl rfl)
theorem dX4_share_33 : decode cX4_share 33 = .ok (.iload_n 3, 1) := dk_29 (dk_at dksX4_share_1 9 rfl rfl)
theorem dX4_share_34 : decode cX4_share 34 = .ok (.bipush 108, 2) := dk_16 108 (dk_at dksX4_share_1 10 rfl rfl)
theorem dX4_share_36 : decode cX4_share 36 = .ok (.if_icmp .eq 15, 3) := dk_159 0 15 (dk_at dksX4_share_1 12 rfl rfl)
theorem dX4_share_39 : decode cX4_share 39 = .ok (.iload_n 3, 1) := dk_29 (dk_at dksX4_share_1 15 rfl rfl)
theorem dX4_share_40 : decode cX4_share 40 = .ok (.bipush 102, 2) := dk_16 102 (dk_at dksX4_share_1 16 rfl rfl)
theorem dX4_share_42 : decode cX4_share 42 = .ok (.if_icmp .eq 9, 3) := dk_159 0 9 (dk_at dksX4_share_1 18 rfl rfl)
theorem dX4_share_45 : decode cX4_share 45 = .ok (.iload_n 3, 1) := dk_29 (dk_at dksX4_share_1 21 rfl rfl)
theorem dX4_share_46 : decode cX4_share 46 = .ok (.bipush 98, 2) := dk_16 98 (dk_at dksX4_share_1 22 rfl rfl)
theorem dX4_share_48 : decode cX4_share 48 = .ok (.if_icmp .ne 7, 3) := dk_160 0 7 (dk_at dksX4_share_2 0 rfl rfl)
theorem dX4_share_51 : decode cX4_share 51 = .ok (.iconst 1, 1) := dk_4 (dk_at dksX4_share_2 3 rfl rfl)
theorem dX4_share_52 : decode cX4_share 52 = .ok (.goto 4, 3) := dk_167 0 4 (dk_at dksX4_share_2 4 rfl rfl)
theorem dX4_share_55 : decode cX4_share 55 = .ok (.iconst 0, 1) := dk_3 (dk_at dksX4_share_2 7 rfl rfl)
theorem dX4_share_56 : decode cX4_share 56 = .ok (.istore 5, 2) := dk_54 5 (dk_at dksX4_share_2 8 rfl rfl)
theorem dX4_share_58 : decode cX4_share 58 = .ok (.aload_n 0, 1) := dk_42 (dk_at dksX4_share_2 10 rfl rfl)
theorem dX4_share_59 : decode cX4_share 59 = .ok (.lload_n 1, 1) := dk_31 (dk_at dksX4_share_2 11 rfl rfl)
theorem dX4_share_60 : decode cX4_share 60 = .ok (.lconst 0, 1) := dk_9 (dk_at dksX4_share_2 12 rfl rfl)
theorem dX4_share_61 : decode cX4_share 61 = .ok (.ldc2_w 296, 3) := dk_20 1 40 (dk_at dksX4_share_2 13 rfl rfl)
theorem dX4_share_64 : decode cX4_share 64 = .ok (.invokestatic 182, 3) := dk_184 0 182 (dk_at dksX4_share_2 16 rfl rfl)
theorem dX4_share_67 : decode cX4_share 67 = .ok (.ifCond .eq 8, 3) := dk_153 0 8 (dk_at dksX4_share_2 19 rfl rfl)
theorem dX4_share_70 : decode cX4_share 70 = .ok (.iload 5, 2) := dk_21 5 (dk_at dksX4_share_2 22 rfl rfl)
theorem dX4_share_72 : decode cX4_share 72 = .ok (.ifCond .ne 7, 3) := dk_154 0 7 (dk_at dksX4_share_3 0 rfl rfl)
theorem dX4_share_75 : decode cX4_share 75 = .ok (.iconst 1, 1) := dk_4 (dk_at dksX4_share_3 3 rfl rfl)
theorem dX4_share_76 : decode cX4_share 76 = .ok (.goto 13, 3) := dk_167 0 13 (dk_at dksX4_share_3 4 rfl rfl)
theorem dX4_share_79 : decode cX4_share 79 = .ok (.iload 4, 2) := dk_21 4 (dk_at dksX4_share_3 7 rfl rfl)
theorem dX4_share_81 : decode cX4_share 81 = .ok (.ifCond .ne 7, 3) := dk_154 0 7 (dk_at dksX4_share_3 9 rfl rfl)
theorem dX4_share_84 : decode cX4_share 84 = .ok (.iconst 2, 1) := dk_5 (dk_at dksX4_share_3 12 rfl rfl)
theorem dX4_share_85 : decode cX4_share 85 = .ok (.goto 4, 3) := dk_167 0 4 (dk_at dksX4_share_3 13 rfl rfl)
theorem dX4_share_88 : decode cX4_share 88 = .ok (.iconst 0, 1) := dk_3 (dk_at dksX4_share_3 16 rfl rfl)
theorem dX4_share_89 : decode cX4_share 89 = .ok (.invokevirtual 205, 3) := dk_182 0 205 (dk_at dksX4_share_3 17 rfl rfl)
theorem dX4_share_92 : decode cX4_share 92 = .ok (.ifCond .eq 5, 3) := dk_153 0 5 (dk_at dksX4_share_3 20 rfl rfl)
theorem dX4_share_95 : decode cX4_share 95 = .ok (.iconst 0, 1) := dk_3 (dk_at dksX4_share_3 23 rfl rfl)
theorem dX4_share_96 : decode cX4_share 96 = .ok (.ireturn, 1) := dk_172 (dk_at dksX4_share_4 0 rfl rfl)
theorem dX4_share_97 : decode cX4_share 97 = .ok (.lload_n 1, 1) := dk_31 (dk_at dksX4_share_4 1 rfl rfl)
theorem dX4_share_98 : decode cX4_share 98 = .ok (.lstore 6, 2) := dk_55 6 (dk_at dksX4_share_4 2 rfl rfl)
theorem dX4_share_100 : decode cX4_share 100 = .ok (.iconst 0, 1) := dk_3 (dk_at dksX4_share_4 4 rfl rfl)
theorem dX4_share_101 : decode cX4_share 101 = .ok (.istore 8, 2) := dk_54 8 (dk_at dksX4_share_4 5 rfl rfl)
theorem dX4_share_103 : decode cX4_share 103 = .ok (.iload 8, 2) := dk_21 8 (dk_at dksX4_share_4 7 rfl rfl)
theorem dX4_share_105 : decode cX4_share 105 = .ok (.aload_n 0, 1) := dk_42 (dk_at dksX4_share_4 9 rfl rfl)
theorem dX4_share_106 : decode cX4_share 106 = .ok (.getfield 354, 3) := dk_180 1 98 (dk_at dksX4_share_4 10 rfl rfl)
theorem dX4_share_109 : decode cX4_share 109 = .ok (.if_icmp .ge 63, 3) := dk_162 0 63 (dk_at dksX4_share_4 13 rfl rfl)
theorem dX4_share_112 : decode cX4_share 112 = .ok (.aload_n 0, 1) := dk_42 (dk_at dksX4_share_4 16 rfl rfl)
theorem dX4_share_113 : decode cX4_share 113 = .ok (.getfield 128, 3) := dk_180 0 128 (dk_at dksX4_share_4 17 rfl rfl)
theorem dX4_share_116 : decode cX4_share 116 = .ok (.iload 8, 2) := dk_21 8 (dk_at dksX4_share_4 20 rfl rfl)
theorem dX4_share_118 : decode cX4_share 118 = .ok (.lload_n 1, 1) := dk_31 (dk_at dksX4_share_4 22 rfl rfl)
theorem dX4_share_119 : decode cX4_share 119 = .ok (.aload_n 0, 1) := dk_42 (dk_at dksX4_share_4 23 rfl rfl)
theorem dX4_share_120 : decode cX4_share 120 = .ok (.getfield 125, 3) := dk_180 0 125 (dk_at dksX4_share_5 0 rfl rfl)
theorem dX4_share_123 : decode cX4_share 123 = .ok (.iload 8, 2) := dk_21 8 (dk_at dksX4_share_5 3 rfl rfl)
theorem dX4_share_125 : decode cX4_share 125 = .ok (.iaload, 1) := dk_46 (dk_at dksX4_share_5 5 rfl rfl)
theorem dX4_share_126 : decode cX4_share 126 = .ok (.i2l, 1) := dk_133 (dk_at dksX4_share_5 6 rfl rfl)
theorem dX4_share_127 : decode cX4_share 127 = .ok (.lmul, 1) := dk_105 (dk_at dksX4_share_5 7 rfl rfl)
theorem dX4_share_128 : decode cX4_share 128 = .ok (.iload 4, 2) := dk_21 4 (dk_at dksX4_share_5 8 rfl rfl)
theorem dX4_share_130 : decode cX4_share 130 = .ok (.i2l, 1) := dk_133 (dk_at dksX4_share_5 10 rfl rfl)
theorem dX4_share_131 : decode cX4_share 131 = .ok (.ldiv, 1) := dk_109 (dk_at dksX4_share_5 11 rfl rfl)
theorem dX4_share_132 : decode cX4_share 132 = .ok (.lastore, 1) := dk_80 (dk_at dksX4_share_5 12 rfl rfl)
theorem dX4_share_133 : decode cX4_share 133 = .ok (.aload_n 0, 1) := dk_42 (dk_at dksX4_share_5 13 rfl rfl)
theorem dX4_share_134 : decode cX4_share 134 = .ok (.getfield 131, 3) := dk_180 0 131 (dk_at dksX4_share_5 14 rfl rfl)
theorem dX4_share_137 : decode cX4_share 137 = .ok (.iload 8, 2) := dk_21 8 (dk_at dksX4_share_5 17 rfl rfl)
theorem dX4_share_139 : decode cX4_share 139 = .ok (.lload_n 1, 1) := dk_31 (dk_at dksX4_share_5 19 rfl rfl)
theorem dX4_share_140 : decode cX4_share 140 = .ok (.aload_n 0, 1) := dk_42 (dk_at dksX4_share_5 20 rfl rfl)
theorem dX4_share_141 : decode cX4_share 141 = .ok (.getfield 125, 3) := dk_180 0 125 (dk_at dksX4_share_5 21 rfl rfl)
theorem dX4_share_144 : decode cX4_share 144 = .ok (.iload 8, 2) := dk_21 8 (dk_at dksX4_share_6 0 rfl rfl)
theorem dX4_share_146 : decode cX4_share 146 = .ok (.iaload, 1) := dk_46 (dk_at dksX4_share_6 2 rfl rfl)
theorem dX4_share_147 : decode cX4_share 147 = .ok (.i2l, 1) := dk_133 (dk_at dksX4_share_6 3 rfl rfl)
theorem dX4_share_148 : decode cX4_share 148 = .ok (.lmul, 1) := dk_105 (dk_at dksX4_share_6 4 rfl rfl)
theorem dX4_share_149 : decode cX4_share 149 = .ok (.iload 4, 2) := dk_21 4 (dk_at dksX4_share_6 5 rfl rfl)
theorem dX4_share_151 : decode cX4_share 151 = .ok (.i2l, 1) := dk_133 (dk_at dksX4_share_6 7 rfl rfl)
theorem dX4_share_152 : decode cX4_share 152 = .ok (.lrem, 1) := dk_113 (dk_at dksX4_share_6 8 rfl rfl)
theorem dX4_share_153 : decode cX4_share 153 = .ok (.lastore, 1) := dk_80 (dk_at dksX4_share_6 9 rfl rfl)
theorem dX4_share_154 : decode cX4_share 154 = .ok (.lload 6, 2) := dk_22 6 (dk_at dksX4_share_6 10 rfl rfl)
theorem dX4_share_156 : decode cX4_share 156 = .ok (.aload_n 0, 1) := dk_42 (dk_at dksX4_share_6 12 rfl rfl)
theorem dX4_share_157 : decode cX4_share 157 = .ok (.getfield 128, 3) := dk_180 0 128 (dk_at dksX4_share_6 13 rfl rfl)
theorem dX4_share_160 : decode cX4_share 160 = .ok (.iload 8, 2) := dk_21 8 (dk_at dksX4_share_6 16 rfl rfl)
theorem dX4_share_162 : decode cX4_share 162 = .ok (.laload, 1) := dk_47 (dk_at dksX4_share_6 18 rfl rfl)
theorem dX4_share_163 : decode cX4_share 163 = .ok (.lsub, 1) := dk_101 (dk_at dksX4_share_6 19 rfl rfl)
theorem dX4_share_164 : decode cX4_share 164 = .ok (.lstore 6, 2) := dk_55 6 (dk_at dksX4_share_6 20 rfl rfl)
theorem dX4_share_166 : decode cX4_share 166 = .ok (.iinc 8 1, 3) := dk_132 8 1 (dk_at dksX4_share_7 0 rfl rfl)
theorem dX4_share_169 : decode cX4_share 169 = .ok (.goto (-66), 3) := dk_167 255 190 (dk_at dksX4_share_7 3 rfl rfl)
theorem dX4_share_172 : decode cX4_share 172 = .ok (.aload_n 0, 1) := dk_42 (dk_at dksX4_share_7 6 rfl rfl)
theorem dX4_share_173 : decode cX4_share 173 = .ok (.aload_n 0, 1) := dk_42 (dk_at dksX4_share_7 7 rfl rfl)
theorem dX4_share_174 : decode cX4_share 174 = .ok (.getfield 354, 3) := dk_180 1 98 (dk_at dksX4_share_7 8 rfl rfl)
theorem dX4_share_177 : decode cX4_share 177 = .ok (.putfield 357, 3) := dk_181 1 101 (dk_at dksX4_share_7 11 rfl rfl)
theorem dX4_share_180 : decode cX4_share 180 = .ok (.aload_n 0, 1) := dk_42 (dk_at dksX4_share_7 14 rfl rfl)
theorem dX4_share_181 : decode cX4_share 181 = .ok (.iconst 0, 1) := dk_3 (dk_at dksX4_share_7 15 rfl rfl)
theorem dX4_share_182 : decode cX4_share 182 = .ok (.putfield 354, 3) := dk_181 1 98 (dk_at dksX4_share_7 16 rfl rfl)
theorem dX4_share_185 : decode cX4_share 185 = .ok (.lconst 0, 1) := dk_9 (dk_at dksX4_share_7 19 rfl rfl)
theorem dX4_share_186 : decode cX4_share 186 = .ok (.lstore 8, 2) := dk_55 8 (dk_at dksX4_share_7 20 rfl rfl)
theorem dX4_share_188 : decode cX4_share 188 = .ok (.lload 8, 2) := dk_22 8 (dk_at dksX4_share_7 22 rfl rfl)
theorem dX4_share_190 : decode cX4_share 190 = .ok (.lload 6, 2) := dk_22 6 (dk_at dksX4_share_8 0 rfl rfl)
theorem dX4_share_192 : decode cX4_share 192 = .ok (.lcmp, 1) := dk_148 (dk_at dksX4_share_8 2 rfl rfl)
theorem dX4_share_193 : decode cX4_share 193 = .ok (.ifCond .ge 103, 3) := dk_156 0 103 (dk_at dksX4_share_8 3 rfl rfl)
theorem dX4_share_196 : decode cX4_share 196 = .ok (.iconst (-1), 1) := dk_2 (dk_at dksX4_share_8 6 rfl rfl)
theorem dX4_share_197 : decode cX4_share 197 = .ok (.istore 10, 2) := dk_54 10 (dk_at dksX4_share_8 7 rfl rfl)
theorem dX4_share_199 : decode cX4_share 199 = .ok (.iconst 0, 1) := dk_3 (dk_at dksX4_share_8 9 rfl rfl)
theorem dX4_share_200 : decode cX4_share 200 = .ok (.istore 11, 2) := dk_54 11 (dk_at dksX4_share_8 10 rfl rfl)
theorem dX4_share_202 : decode cX4_share 202 = .ok (.iload 11, 2) := dk_21 11 (dk_at dksX4_share_8 12 rfl rfl)
theorem dX4_share_204 : decode cX4_share 204 = .ok (.aload_n 0, 1) := dk_42 (dk_at dksX4_share_8 14 rfl rfl)
theorem dX4_share_205 : decode cX4_share 205 = .ok (.getfield 357, 3) := dk_180 1 101 (dk_at dksX4_share_8 15 rfl rfl)
theorem dX4_share_208 : decode cX4_share 208 = .ok (.if_icmp .ge 60, 3) := dk_162 0 60 (dk_at dksX4_share_8 18 rfl rfl)
theorem dX4_share_211 : decode cX4_share 211 = .ok (.aload_n 0, 1) := dk_42 (dk_at dksX4_share_8 21 rfl rfl)
theorem dX4_share_212 : decode cX4_share 212 = .ok (.getfield 131, 3) := dk_180 0 131 (dk_at dksX4_share_9 0 rfl rfl)
theorem dX4_share_215 : decode cX4_share 215 = .ok (.iload 11, 2) := dk_21 11 (dk_at dksX4_share_9 3 rfl rfl)
theorem dX4_share_217 : decode cX4_share 217 = .ok (.laload, 1) := dk_47 (dk_at dksX4_share_9 5 rfl rfl)
theorem dX4_share_218 : decode cX4_share 218 = .ok (.lconst 0, 1) := dk_9 (dk_at dksX4_share_9 6 rfl rfl)
theorem dX4_share_219 : decode cX4_share 219 = .ok (.lcmp, 1) := dk_148 (dk_at dksX4_share_9 7 rfl rfl)
theorem dX4_share_220 : decode cX4_share 220 = .ok (.ifCond .le 42, 3) := dk_158 0 42 (dk_at dksX4_share_9 8 rfl rfl)
theorem dX4_share_223 : decode cX4_share 223 = .ok (.iload 10, 2) := dk_21 10 (dk_at dksX4_share_9 11 rfl rfl)
theorem dX4_share_225 : decode cX4_share 225 = .ok (.ifCond .lt 33, 3) := dk_155 0 33 (dk_at dksX4_share_9 13 rfl rfl)
theorem dX4_share_228 : decode cX4_share 228 = .ok (.iload_n 3, 1) := dk_29 (dk_at dksX4_share_9 16 rfl rfl)
theorem dX4_share_229 : decode cX4_share 229 = .ok (.bipush 98, 2) := dk_16 98 (dk_at dksX4_share_9 17 rfl rfl)
theorem dX4_share_231 : decode cX4_share 231 = .ok (.if_icmp .eq 27, 3) := dk_159 0 27 (dk_at dksX4_share_9 19 rfl rfl)
theorem dX4_share_234 : decode cX4_share 234 = .ok (.iload_n 3, 1) := dk_29 (dk_at dksX4_share_9 22 rfl rfl)
theorem dX4_share_235 : decode cX4_share 235 = .ok (.bipush 108, 2) := dk_16 108 (dk_at dksX4_share_10 0 rfl rfl)
theorem dX4_share_237 : decode cX4_share 237 = .ok (.if_icmp .ne 25, 3) := dk_160 0 25 (dk_at dksX4_share_10 2 rfl rfl)
theorem dX4_share_240 : decode cX4_share 240 = .ok (.aload_n 0, 1) := dk_42 (dk_at dksX4_share_10 5 rfl rfl)
theorem dX4_share_241 : decode cX4_share 241 = .ok (.getfield 131, 3) := dk_180 0 131 (dk_at dksX4_share_10 6 rfl rfl)
theorem dX4_share_244 : decode cX4_share 244 = .ok (.iload 11, 2) := dk_21 11 (dk_at dksX4_share_10 9 rfl rfl)
theorem dX4_share_246 : decode cX4_share 246 = .ok (.laload, 1) := dk_47 (dk_at dksX4_share_10 11 rfl rfl)
theorem dX4_share_247 : decode cX4_share 247 = .ok (.aload_n 0, 1) := dk_42 (dk_at dksX4_share_10 12 rfl rfl)
theorem dX4_share_248 : decode cX4_share 248 = .ok (.getfield 131, 3) := dk_180 0 131 (dk_at dksX4_share_10 13 rfl rfl)
theorem dX4_share_251 : decode cX4_share 251 = .ok (.iload 10, 2) := dk_21 10 (dk_at dksX4_share_10 16 rfl rfl)
theorem dX4_share_253 : decode cX4_share 253 = .ok (.laload, 1) := dk_47 (dk_at dksX4_share_10 18 rfl rfl)
theorem dX4_share_254 : decode cX4_share 254 = .ok (.lcmp, 1) := dk_148 (dk_at dksX4_share_10 19 rfl rfl)
theorem dX4_share_255 : decode cX4_share 255 = .ok (.ifCond .le 7, 3) := dk_158 0 7 (dk_at dksX4_share_10 20 rfl rfl)
theorem dX4_share_258 : decode cX4_share 258 = .ok (.iload 11, 2) := dk_21 11 (dk_at dksX4_share_11 0 rfl rfl)
theorem dX4_share_260 : decode cX4_share 260 = .ok (.istore 10, 2) := dk_54 10 (dk_at dksX4_share_11 2 rfl rfl)
theorem dX4_share_262 : decode cX4_share 262 = .ok (.iinc 11 1, 3) := dk_132 11 1 (dk_at dksX4_share_11 4 rfl rfl)
theorem dX4_share_265 : decode cX4_share 265 = .ok (.goto (-63), 3) := dk_167 255 193 (dk_at dksX4_share_11 7 rfl rfl)
theorem dX4_share_268 : decode cX4_share 268 = .ok (.aload_n 0, 1) := dk_42 (dk_at dksX4_share_11 10 rfl rfl)
theorem dX4_share_269 : decode cX4_share 269 = .ok (.getfield 128, 3) := dk_180 0 128 (dk_at dksX4_share_11 11 rfl rfl)
theorem dX4_share_272 : decode cX4_share 272 = .ok (.iload 10, 2) := dk_21 10 (dk_at dksX4_share_11 14 rfl rfl)
theorem dX4_share_274 : decode cX4_share 274 = .ok (.dup2, 1) := dk_92 (dk_at dksX4_share_11 16 rfl rfl)
theorem dX4_share_275 : decode cX4_share 275 = .ok (.laload, 1) := dk_47 (dk_at dksX4_share_11 17 rfl rfl)
theorem dX4_share_276 : decode cX4_share 276 = .ok (.lconst 1, 1) := dk_10 (dk_at dksX4_share_11 18 rfl rfl)
theorem dX4_share_277 : decode cX4_share 277 = .ok (.ladd, 1) := dk_97 (dk_at dksX4_share_11 19 rfl rfl)
theorem dX4_share_278 : decode cX4_share 278 = .ok (.lastore, 1) := dk_80 (dk_at dksX4_share_11 20 rfl rfl)
theorem dX4_share_279 : decode cX4_share 279 = .ok (.aload_n 0, 1) := dk_42 (dk_at dksX4_share_11 21 rfl rfl)
theorem dX4_share_280 : decode cX4_share 280 = .ok (.getfield 131, 3) := dk_180 0 131 (dk_at dksX4_share_12 0 rfl rfl)
theorem dX4_share_283 : decode cX4_share 283 = .ok (.iload 10, 2) := dk_21 10 (dk_at dksX4_share_12 3 rfl rfl)
theorem dX4_share_285 : decode cX4_share 285 = .ok (.lconst 0, 1) := dk_9 (dk_at dksX4_share_12 5 rfl rfl)
theorem dX4_share_286 : decode cX4_share 286 = .ok (.lastore, 1) := dk_80 (dk_at dksX4_share_12 6 rfl rfl)
theorem dX4_share_287 : decode cX4_share 287 = .ok (.lload 8, 2) := dk_22 8 (dk_at dksX4_share_12 7 rfl rfl)
theorem dX4_share_289 : decode cX4_share 289 = .ok (.lconst 1, 1) := dk_10 (dk_at dksX4_share_12 9 rfl rfl)
theorem dX4_share_290 : decode cX4_share 290 = .ok (.ladd, 1) := dk_97 (dk_at dksX4_share_12 10 rfl rfl)
theorem dX4_share_291 : decode cX4_share 291 = .ok (.lstore 8, 2) := dk_55 8 (dk_at dksX4_share_12 11 rfl rfl)
theorem dX4_share_293 : decode cX4_share 293 = .ok (.goto (-105), 3) := dk_167 255 151 (dk_at dksX4_share_12 13 rfl rfl)
theorem dX4_share_296 : decode cX4_share 296 = .ok (.lload 6, 2) := dk_22 6 (dk_at dksX4_share_12 16 rfl rfl)
theorem dX4_share_298 : decode cX4_share 298 = .ok (.l2i, 1) := dk_136 (dk_at dksX4_share_12 18 rfl rfl)
theorem dX4_share_299 : decode cX4_share 299 = .ok (.ireturn, 1) := dk_172 (dk_at dksX4_share_12 19 rfl rfl)
def dkwX4_part_2_1 : List UInt8 := [182, 0, 205, 153, 0, 7, 9, 167, 0, 9, 42, 180, 0, 128, 27, 47, 173]
abbrev dktX4_part_2_1 : List UInt8 := dkwX4_part_2_1 ++ []
def dkwX4_part_2_0 : List UInt8 := [42, 27, 133, 9, 42, 180, 1, 101, 4, 100, 133, 184, 0, 182, 153, 0, 7, 3, 167, 0, 4, 4]
abbrev dktX4_part_2_0 : List UInt8 := dkwX4_part_2_0 ++ dktX4_part_2_1
theorem dksX4_part_2_0 : cX4_part_2.data.toList.drop 0 = dktX4_part_2_0 := by decide +kernel
theorem dksX4_part_2_1 : cX4_part_2.data.toList.drop 22 = dktX4_part_2_1 := dk_seg dksX4_part_2_0 22 rfl rfl
theorem dX4_part_2_0 : decode cX4_part_2 0 = .ok (.aload_n 0, 1) := dk_42 (dk_at dksX4_part_2_0 0 rfl rfl)
theorem dX4_part_2_1 : decode cX4_part_2 1 = .ok (.iload_n 1, 1) := dk_27 (dk_at dksX4_part_2_0 1 rfl rfl)
theorem dX4_part_2_2 : decode cX4_part_2 2 = .ok (.i2l, 1) := dk_133 (dk_at dksX4_part_2_0 2 rfl rfl)
theorem dX4_part_2_3 : decode cX4_part_2 3 = .ok (.lconst 0, 1) := dk_9 (dk_at dksX4_part_2_0 3 rfl rfl)
theorem dX4_part_2_4 : decode cX4_part_2 4 = .ok (.aload_n 0, 1) := dk_42 (dk_at dksX4_part_2_0 4 rfl rfl)
theorem dX4_part_2_5 : decode cX4_part_2 5 = .ok (.getfield 357, 3) := dk_180 1 101 (dk_at dksX4_part_2_0 5 rfl rfl)
theorem dX4_part_2_8 : decode cX4_part_2 8 = .ok (.iconst 1, 1) := dk_4 (dk_at dksX4_part_2_0 8 rfl rfl)
theorem dX4_part_2_9 : decode cX4_part_2 9 = .ok (.isub, 1) := dk_100 (dk_at dksX4_part_2_0 9 rfl rfl)
theorem dX4_part_2_10 : decode cX4_part_2 10 = .ok (.i2l, 1) := dk_133 (dk_at dksX4_part_2_0 10 rfl rfl)
theorem dX4_part_2_11 : decode cX4_part_2 11 = .ok (.invokestatic 182, 3) := dk_184 0 182 (dk_at dksX4_part_2_0 11 rfl rfl)
theorem dX4_part_2_14 : decode cX4_part_2 14 = .ok (.ifCond .eq 7, 3) := dk_153 0 7 (dk_at dksX4_part_2_0 14 rfl rfl)
theorem dX4_part_2_17 : decode cX4_part_2 17 = .ok (.iconst 0, 1) := dk_3 (dk_at dksX4_part_2_0 17 rfl rfl)
theorem dX4_part_2_18 : decode cX4_part_2 18 = .ok (.goto 4, 3) := dk_167 0 4 (dk_at dksX4_part_2_0 18 rfl rfl)
theorem dX4_part_2_21 : decode cX4_part_2 21 = .ok (.iconst 1, 1) := dk_4 (dk_at dksX4_part_2_0 21 rfl rfl)
theorem dX4_part_2_22 : decode cX4_part_2 22 = .ok (.invokevirtual 205, 3) := dk_182 0 205 (dk_at dksX4_part_2_1 0 rfl rfl)
theorem dX4_part_2_25 : decode cX4_part_2 25 = .ok (.ifCond .eq 7, 3) := dk_153 0 7 (dk_at dksX4_part_2_1 3 rfl rfl)
theorem dX4_part_2_28 : decode cX4_part_2 28 = .ok (.lconst 0, 1) := dk_9 (dk_at dksX4_part_2_1 6 rfl rfl)
theorem dX4_part_2_29 : decode cX4_part_2 29 = .ok (.goto 9, 3) := dk_167 0 9 (dk_at dksX4_part_2_1 7 rfl rfl)
theorem dX4_part_2_32 : decode cX4_part_2 32 = .ok (.aload_n 0, 1) := dk_42 (dk_at dksX4_part_2_1 10 rfl rfl)
theorem dX4_part_2_33 : decode cX4_part_2 33 = .ok (.getfield 128, 3) := dk_180 0 128 (dk_at dksX4_part_2_1 11 rfl rfl)
theorem dX4_part_2_36 : decode cX4_part_2 36 = .ok (.iload_n 1, 1) := dk_27 (dk_at dksX4_part_2_1 14 rfl rfl)
theorem dX4_part_2_37 : decode cX4_part_2 37 = .ok (.laload, 1) := dk_47 (dk_at dksX4_part_2_1 15 rfl rfl)
theorem dX4_part_2_38 : decode cX4_part_2 38 = .ok (.lreturn, 1) := dk_173 (dk_at dksX4_part_2_1 16 rfl rfl)
def dkwX4_interest_7 : List UInt8 := [182, 0, 194, 173]
abbrev dktX4_interest_7 : List UInt8 := dkwX4_interest_7 ++ []
def dkwX4_interest_6 : List UInt8 := [42, 180, 0, 47, 153, 0, 7, 5, 167, 0, 4, 3, 182, 0, 205, 153, 0, 7, 9, 167, 0, 8, 42, 5]
abbrev dktX4_interest_6 : List UInt8 := dkwX4_interest_6 ++ dktX4_interest_7
def dkwX4_interest_5 : List UInt8 := [8, 182, 0, 241, 42, 4, 20, 1, 88, 21, 5, 133, 105, 182, 0, 33, 42, 3, 21, 6, 182, 1, 10, 42]
abbrev dktX4_interest_5 : List UInt8 := dkwX4_interest_5 ++ dktX4_interest_6
def dkwX4_interest_4 : List UInt8 := [42, 3, 181, 0, 47, 42, 3, 31, 182, 0, 33, 42, 8, 29, 133, 21, 4, 133, 105, 182, 0, 33, 42, 3]
abbrev dktX4_interest_4 : List UInt8 := dkwX4_interest_4 ++ dktX4_interest_5
def dkwX4_interest_3 : List UInt8 := [153, 0, 15, 21, 6, 184, 1, 14, 153, 0, 7, 3, 167, 0, 4, 4, 182, 0, 205, 153, 0, 5, 9, 173]
abbrev dktX4_interest_3 : List UInt8 := dkwX4_interest_3 ++ dktX4_interest_4
def dkwX4_interest_2 : List UInt8 := [20, 1, 53, 184, 0, 182, 153, 0, 33, 21, 4, 133, 9, 20, 1, 53, 184, 0, 182, 153, 0, 20, 21, 7]
abbrev dktX4_interest_2 : List UInt8 := dkwX4_interest_2 ++ dktX4_interest_3
def dkwX4_interest_1 : List UInt8 := [4, 167, 0, 4, 3, 54, 7, 42, 31, 9, 20, 1, 40, 184, 0, 182, 153, 0, 45, 29, 133, 9]
abbrev dktX4_interest_1 : List UInt8 := dkwX4_interest_1 ++ dktX4_interest_2
def dkwX4_interest_0 : List UInt8 := [21, 5, 17, 1, 104, 159, 0, 19, 21, 5, 17, 1, 109, 159, 0, 11, 21, 5, 17, 1, 110, 160, 0, 7]
abbrev dktX4_interest_0 : List UInt8 := dkwX4_interest_0 ++ dktX4_interest_1
theorem dksX4_interest_0 : cX4_interest.data.toList.drop 0 = dktX4_interest_0 := by decide +kernel
theorem dksX4_interest_1 : cX4_interest.data.toList.drop 24 = dktX4_interest_1 := dk_seg dksX4_interest_0 24 rfl rfl
theorem dksX4_interest_2 : cX4_interest.data.toList.drop 46 = dktX4_interest_2 := dk_seg dksX4_interest_1 22 rfl rfl
theorem dksX4_interest_3 : cX4_interest.data.toList.drop 70 = dktX4_interest_3 := dk_seg dksX4_interest_2 24 rfl rfl
theorem dksX4_interest_4 : cX4_interest.data.toList.drop 94 = dktX4_interest_4 := dk_seg dksX4_interest_3 24 rfl rfl
theorem dksX4_interest_5 : cX4_interest.data.toList.drop 118 = dktX4_interest_5 := dk_seg dksX4_interest_4 24 rfl rfl
theorem dksX4_interest_6 : cX4_interest.data.toList.drop 142 = dktX4_interest_6 := dk_seg dksX4_interest_5 24 rfl rfl
theorem dksX4_interest_7 : cX4_interest.data.toList.drop 166 = dktX4_interest_7 := dk_seg dksX4_interest_6 24 rfl rfl
theorem dX4_interest_0 : decode cX4_interest 0 = .ok (.iload 5, 2) := dk_21 5 (dk_at dksX4_interest_0 0 rfl rfl)
theorem dX4_interest_2 : decode cX4_interest 2 = .ok (.sipush 360, 3) := dk_17 1 104 (dk_at dksX4_interest_0 2 rfl rfl)
theorem dX4_interest_5 : decode cX4_interest 5 = .ok (.if_icmp .eq 19, 3) := dk_159 0 19 (dk_at dksX4_interest_0 5 rfl rfl)
theorem dX4_interest_8 : decode cX4_interest 8 = .ok (.iload 5, 2) := dk_21 5 (dk_at dksX4_interest_0 8 rfl rfl)
theorem dX4_interest_10 : decode cX4_interest 10 = .ok (.sipush 365, 3) := dk_17 1 109 (dk_at dksX4_interest_0 10 rfl rfl)
theorem dX4_interest_13 : decode cX4_interest 13 = .ok (.if_icmp .eq 11, 3) := dk_159 0 11 (dk_at dksX4_interest_0 13 rfl rfl)
theorem dX4_interest_16 : decode cX4_interest 16 = .ok (.iload 5, 2) := dk_21 5 (dk_at dksX4_interest_0 16 rfl rfl)
theorem dX4_interest_18 : decode cX4_interest 18 = .ok (.sipush 366, 3) := dk_17 1 110 (dk_at dksX4_interest_0 18 rfl rfl)
theorem dX4_interest_21 : decode cX4_interest 21 = .ok (.if_icmp .ne 7, 3) := dk_160 0 7 (dk_at dksX4_interest_0 21 rfl rfl)
theorem dX4_interest_24 : decode cX4_interest 24 = .ok (.iconst 1, 1) := dk_4 (dk_at dksX4_interest_1 0 rfl rfl)
theorem dX4_interest_25 : decode cX4_interest 25 = .ok (.goto 4, 3) := dk_167 0 4 (dk_at dksX4_interest_1 1 rfl rfl)
theorem dX4_interest_28 : decode cX4_interest 28 = .ok (.iconst 0, 1) := dk_3 (dk_at dksX4_interest_1 4 rfl rfl)
theorem dX4_interest_29 : decode cX4_interest 29 = .ok (.istore 7, 2) := dk_54 7 (dk_at dksX4_interest_1 5 rfl rfl)
theorem dX4_interest_31 : decode cX4_interest 31 = .ok (.aload_n 0, 1) := dk_42 (dk_at dksX4_interest_1 7 rfl rfl)
theorem dX4_interest_32 : decode cX4_interest 32 = .ok (.lload_n 1, 1) := dk_31 (dk_at dksX4_interest_1 8 rfl rfl)
theorem dX4_interest_33 : decode cX4_interest 33 = .ok (.lconst 0, 1) := dk_9 (dk_at dksX4_interest_1 9 rfl rfl)
theorem dX4_interest_34 : decode cX4_interest 34 = .ok (.ldc2_w 296, 3) := dk_20 1 40 (dk_at dksX4_interest_1 10 rfl rfl)
theorem dX4_interest_37 : decode cX4_interest 37 = .ok (.invokestatic 182, 3) := dk_184 0 182 (dk_at dksX4_interest_1 13 rfl rfl)
theorem dX4_interest_40 : decode cX4_interest 40 = .ok (.ifCond .eq 45, 3) := dk_153 0 45 (dk_at dksX4_interest_1 16 rfl rfl)
theorem dX4_interest_43 : decode cX4_interest 43 = .ok (.iload_n 3, 1) := dk_29 (dk_at dksX4_interest_1 19 rfl rfl)
theorem dX4_interest_44 : decode cX4_interest 44 = .ok (.i2l, 1) := dk_133 (dk_at dksX4_interest_1 20 rfl rfl)
theorem dX4_interest_45 : decode cX4_interest 45 = .ok (.lconst 0, 1) := dk_9 (dk_at dksX4_interest_1 21 rfl rfl)
theorem dX4_interest_46 : decode cX4_interest 46 = .ok (.ldc2_w 309, 3) := dk_20 1 53 (dk_at dksX4_interest_2 0 rfl rfl)
theorem dX4_interest_49 : decode cX4_interest 49 = .ok (.invokestatic 182, 3) := dk_184 0 182 (dk_at dksX4_interest_2 3 rfl rfl)
theorem dX4_interest_52 : decode cX4_interest 52 = .ok (.ifCond .eq 33, 3) := dk_153 0 33 (dk_at dksX4_interest_2 6 rfl rfl)
theorem dX4_interest_55 : decode cX4_interest 55 = .ok (.iload 4, 2) := dk_21 4 (dk_at dksX4_interest_2 9 rfl rfl)
theorem dX4_interest_57 : decode cX4_interest 57 = .ok (.i2l, 1) := dk_133 (dk_at dksX4_interest_2 11 rfl rfl)
theorem dX4_interest_58 : decode cX4_interest 58 = .ok (.lconst 0, 1) := dk_9 (dk_at dksX4_interest_2 12 rfl rfl)
theorem dX4_interest_59 : decode cX4_interest 59 = .ok (.ldc2_w 309, 3) := dk_20 1 53 (dk_at dksX4_interest_2 13 rfl rfl)
theorem dX4_interest_62 : decode cX4_interest 62 = .ok (.invokestatic 182, 3) := dk_184 0 182 (dk_at dksX4_interest_2 16 rfl rfl)
theorem dX4_interest_65 : decode cX4_interest 65 = .ok (.ifCond .eq 20, 3) := dk_153 0 20 (dk_at dksX4_interest_2 19 rfl rfl)
theorem dX4_interest_68 : decode cX4_interest 68 = .ok (.iload 7, 2) := dk_21 7 (dk_at dksX4_interest_2 22 rfl rfl)
theorem dX4_interest_70 : decode cX4_interest 70 = .ok (.ifCond .eq 15, 3) := dk_153 0 15 (dk_at dksX4_interest_3 0 rfl rfl)
theorem dX4_interest_73 : decode cX4_interest 73 = .ok (.iload 6, 2) := dk_21 6 (dk_at dksX4_interest_3 3 rfl rfl)
theorem dX4_interest_75 : decode cX4_interest 75 = .ok (.invokestatic 270, 3) := dk_184 1 14 (dk_at dksX4_interest_3 5 rfl rfl)
theorem dX4_interest_78 : decode cX4_interest 78 = .ok (.ifCond .eq 7, 3) := dk_153 0 7 (dk_at dksX4_interest_3 8 rfl rfl)
theorem dX4_interest_81 : decode cX4_interest 81 = .ok (.iconst 0, 1) := dk_3 (dk_at dksX4_interest_3 11 rfl rfl)
theorem dX4_interest_82 : decode cX4_interest 82 = .ok (.goto 4, 3) := dk_167 0 4 (dk_at dksX4_interest_3 12 rfl rfl)
theorem dX4_interest_85 : decode cX4_interest 85 = .ok (.iconst 1, 1) := dk_4 (dk_at dksX4_interest_3 15 rfl rfl)
theorem dX4_interest_86 : decode cX4_interest 86 = .ok (.invokevirtual 205, 3) := dk_182 0 205 (dk_at dksX4_interest_3 16 rfl rfl)
theorem dX4_interest_89 : decode cX4_interest 89 = .ok (.ifCond .eq 5, 3) := dk_153 0 5 (dk_at dksX4_interest_3 19 rfl rfl)
theorem dX4_interest_92 : decode cX4_interest 92 = .ok (.lconst 0, 1) := dk_9 (dk_at dksX4_interest_3 22 rfl rfl)
theorem dX4_interest_93 : decode cX4_interest 93 = .ok (.lreturn, 1) := dk_173 (dk_at dksX4_interest_3 23 rfl rfl)
theorem dX4_interest_94 : decode cX4_interest 94 = .ok (.aload_n 0, 1) := dk_42 (dk_at dksX4_interest_4 0 rfl rfl)
theorem dX4_interest_95 : decode cX4_interest 95 = .ok (.iconst 0, 1) := dk_3 (dk_at dksX4_interest_4 1 rfl rfl)
theorem dX4_interest_96 : decode cX4_interest 96 = .ok (.putfield 47, 3) := dk_181 0 47 (dk_at dksX4_interest_4 2 rfl rfl)
theorem dX4_interest_99 : decode cX4_interest 99 = .ok (.aload_n 0, 1) := dk_42 (dk_at dksX4_interest_4 5 rfl rfl)
theorem dX4_interest_100 : decode cX4_interest 100 = .ok (.iconst 0, 1) := dk_3 (dk_at dksX4_interest_4 6 rfl rfl)
theorem dX4_interest_101 : decode cX4_interest 101 = .ok (.lload_n 1, 1) := dk_31 (dk_at dksX4_interest_4 7 rfl rfl)
theorem dX4_interest_102 : decode cX4_interest 102 = .ok (.invokevirtual 33, 3) := dk_182 0 33 (dk_at dksX4_interest_4 8 rfl rfl)
theorem dX4_interest_105 : decode cX4_interest 105 = .ok (.aload_n 0, 1) := dk_42 (dk_at dksX4_interest_4 11 rfl rfl)
theorem dX4_interest_106 : decode cX4_interest 106 = .ok (.iconst 5, 1) := dk_8 (dk_at dksX4_interest_4 12 rfl rfl)
theorem dX4_interest_107 : decode cX4_interest 107 = .ok (.iload_n 3, 1) := dk_29 (dk_at dksX4_interest_4 13 rfl rfl)
theorem dX4_interest_108 : decode cX4_interest 108 = .ok (.i2l, 1) := dk_133 (dk_at dksX4_interest_4 14 rfl rfl)
theorem dX4_interest_109 : decode cX4_interest 109 = .ok (.iload 4, 2) := dk_21 4 (dk_at dksX4_interest_4 15 rfl rfl)
theorem dX4_interest_111 : decode cX4_interest 111 = .ok (.i2l, 1) := dk_133 (dk_at dksX4_interest_4 17 rfl rfl)
theorem dX4_interest_112 : decode cX4_interest 112 = .ok (.lmul, 1) := dk_105 (dk_at dksX4_interest_4 18 rfl rfl)
theorem dX4_interest_113 : decode cX4_interest 113 = .ok (.invokevirtual 33, 3) := dk_182 0 33 (dk_at dksX4_interest_4 19 rfl rfl)
theorem dX4_interest_116 : decode cX4_interest 116 = .ok (.aload_n 0, 1) := dk_42 (dk_at dksX4_interest_4 22 rfl rfl)
theorem dX4_interest_117 : decode cX4_interest 117 = .ok (.iconst 0, 1) := dk_3 (dk_at dksX4_interest_4 23 rfl rfl)
theorem dX4_interest_118 : decode cX4_interest 118 = .ok (.iconst 5, 1) := dk_8 (dk_at dksX4_interest_5 0 rfl rfl)
theorem dX4_interest_119 : decode cX4_interest 119 = .ok (.invokevirtual 241, 3) := dk_182 0 241 (dk_at dksX4_interest_5 1 rfl rfl)
theorem dX4_interest_122 : decode cX4_interest 122 = .ok (.aload_n 0, 1) := dk_42 (dk_at dksX4_interest_5 4 rfl rfl)
theorem dX4_interest_123 : decode cX4_interest 123 = .ok (.iconst 1, 1) := dk_4 (dk_at dksX4_interest_5 5 rfl rfl)
theorem dX4_interest_124 : decode cX4_interest 124 = .ok (.ldc2_w 344, 3) := dk_20 1 88 (dk_at dksX4_interest_5 6 rfl rfl)
theorem dX4_interest_127 : decode cX4_interest 127 = .ok (.iload 5, 2) := dk_21 5 (dk_at dksX4_interest_5 9 rfl rfl)
theorem dX4_interest_129 : decode cX4_interest 129 = .ok (.i2l, 1) := dk_133 (dk_at dksX4_interest_5 11 rfl rfl)
theorem dX4_interest_130 : decode cX4_interest 130 = .ok (.lmul, 1) := dk_105 (dk_at dksX4_interest_5 12 rfl rfl)
theorem dX4_interest_131 : decode cX4_interest 131 = .ok (.invokevirtual 33, 3) := dk_182 0 33 (dk_at dksX4_interest_5 13 rfl rfl)
theorem dX4_interest_134 : decode cX4_interest 134 = .ok (.aload_n 0, 1) := dk_42 (dk_at dksX4_interest_5 16 rfl rfl)
theorem dX4_interest_135 : decode cX4_interest 135 = .ok (.iconst 0, 1) := dk_3 (dk_at dksX4_interest_5 17 rfl rfl)
theorem dX4_interest_136 : decode cX4_interest 136 = .ok (.iload 6, 2) := dk_21 6 (dk_at dksX4_interest_5 18 rfl rfl)
theorem dX4_interest_138 : decode cX4_interest 138 = .ok (.invokevirtual 266, 3) := dk_182 1 10 (dk_at dksX4_interest_5 20 rfl rfl)
theorem dX4_interest_141 : decode cX4_interest 141 = .ok (.aload_n 0, 1) := dk_42 (dk_at dksX4_interest_5 23 rfl rfl)
theorem dX4_interest_142 : decode cX4_interest 142 = .ok (.aload_n 0, 1) := dk_42 (dk_at dksX4_interest_6 0 rfl rfl)
theorem dX4_interest_143 : decode cX4_interest 143 = .ok (.getfield 47, 3) := dk_180 0 47 (dk_at dksX4_interest_6 1 rfl rfl)
theorem dX4_interest_146 : decode cX4_interest 146 = .ok (.ifCond .eq 7, 3) := dk_153 0 7 (dk_at dksX4_interest_6 4 rfl rfl)
theorem dX4_interest_149 : decode cX4_interest 149 = .ok (.iconst 2, 1) := dk_5 (dk_at dksX4_interest_6 7 rfl rfl)
theorem dX4_interest_150 : decode cX4_interest 150 = .ok (.goto 4, 3) := dk_167 0 4 (dk_at dksX4_interest_6 8 rfl rfl)
theorem dX4_interest_153 : decode cX4_interest 153 = .ok (.iconst 0, 1) := dk_3 (dk_at dksX4_interest_6 11 rfl rfl)
theorem dX4_interest_154 : decode cX4_interest 154 = .ok (.invokevirtual 205, 3) := dk_182 0 205 (dk_at dksX4_interest_6 12 rfl rfl)
theorem dX4_interest_157 : decode cX4_interest 157 = .ok (.ifCond .eq 7, 3) := dk_153 0 7 (dk_at dksX4_interest_6 15 rfl rfl)
theorem dX4_interest_160 : decode cX4_interest 160 = .ok (.lconst 0, 1) := dk_9 (dk_at dksX4_interest_6 18 rfl rfl)
theorem dX4_interest_161 : decode cX4_interest 161 = .ok (.goto 8, 3) := dk_167 0 8 (dk_at dksX4_interest_6 19 rfl rfl)
theorem dX4_interest_164 : decode cX4_interest 164 = .ok (.aload_n 0, 1) := dk_42 (dk_at dksX4_interest_6 22 rfl rfl)
theorem dX4_interest_165 : decode cX4_interest 165 = .ok (.iconst 2, 1) := dk_5 (dk_at dksX4_interest_6 23 rfl rfl)
theorem dX4_interest_166 : decode cX4_interest 166 = .ok (.invokevirtual 194, 3) := dk_182 0 194 (dk_at dksX4_interest_7 0 rfl rfl)
theorem dX4_interest_169 : decode cX4_interest 169 = .ok (.lreturn, 1) := dk_173 (dk_at dksX4_interest_7 3 rfl rfl)
def dkwX4_lend_11 : List UInt8 := [21, 9, 172]
abbrev dktX4_lend_11 : List UInt8 := dkwX4_lend_11 ++ []
def dkwX4_lend_10 : List UInt8 := [21, 10, 47, 80, 42, 180, 0, 140, 21, 10, 42, 180, 0, 149, 21, 10, 47, 80, 132, 10, 1, 167, 255, 204]
abbrev dktX4_lend_10 : List UInt8 := dkwX4_lend_10 ++ dktX4_lend_11
def dkwX4_lend_9 : List UInt8 := [42, 180, 0, 134, 21, 10, 42, 180, 0, 143, 21, 10, 47, 80, 42, 180, 0, 137, 21, 10, 42, 180, 0, 146]
abbrev dktX4_lend_9 : List UInt8 := dkwX4_lend_9 ++ dktX4_lend_10
def dkwX4_lend_8 : List UInt8 := [182, 0, 205, 153, 0, 5, 3, 172, 42, 21, 9, 181, 1, 111, 3, 54, 10, 21, 10, 21, 9, 162, 0, 51]
abbrev dktX4_lend_8 : List UInt8 := dkwX4_lend_8 ++ dktX4_lend_9
def dkwX4_lend_7 : List UInt8 := [21, 9, 22, 7, 80, 132, 9, 1, 167, 255, 167, 42, 22, 7, 9, 148, 158, 0, 7, 6, 167, 0, 4, 3]
abbrev dktX4_lend_7 : List UInt8 := dkwX4_lend_7 ++ dktX4_lend_8
def dkwX4_lend_6 : List UInt8 := [180, 0, 143, 21, 9, 47, 101, 80, 22, 7, 42, 180, 0, 146, 21, 9, 47, 101, 55, 7, 42, 180, 0, 149]
abbrev dktX4_lend_6 : List UInt8 := dkwX4_lend_6 ++ dktX4_lend_7
def dkwX4_lend_5 : List UInt8 := [22, 7, 42, 180, 0, 143, 21, 9, 47, 97, 22, 4, 148, 157, 0, 8, 22, 7, 167, 0, 13, 22, 4, 42]
abbrev dktX4_lend_5 : List UInt8 := dkwX4_lend_5 ++ dktX4_lend_6
def dkwX4_lend_4 : List UInt8 := [16, 120, 162, 0, 81, 42, 180, 0, 143, 21, 9, 22, 7, 29, 184, 1, 108, 80, 42, 180, 0, 146, 21, 9]
abbrev dktX4_lend_4 : List UInt8 := dkwX4_lend_4 ++ dktX4_lend_5
def dkwX4_lend_3 : List UInt8 := [182, 0, 205, 153, 0, 5, 3, 172, 31, 55, 7, 3, 54, 9, 22, 7, 9, 148, 158, 0, 88, 21, 9]
abbrev dktX4_lend_3 : List UInt8 := dkwX4_lend_3 ++ dktX4_lend_4
def dkwX4_lend_2 : List UInt8 := [154, 0, 7, 4, 167, 0, 19, 31, 29, 184, 1, 108, 22, 4, 148, 155, 0, 7, 5, 167, 0, 4, 3]
abbrev dktX4_lend_2 : List UInt8 := dkwX4_lend_2 ++ dktX4_lend_3
def dkwX4_lend_1 : List UInt8 := [22, 4, 10, 20, 1, 40, 184, 0, 182, 153, 0, 7, 4, 167, 0, 4, 3, 54, 6, 42, 21, 6]
abbrev dktX4_lend_1 : List UInt8 := dkwX4_lend_1 ++ dktX4_lend_2
def dkwX4_lend_0 : List UInt8 := [31, 10, 20, 1, 40, 184, 0, 182, 153, 0, 31, 29, 133, 9, 20, 1, 53, 184, 0, 182, 153, 0, 19]
abbrev dktX4_lend_0 : List UInt8 := dkwX4_lend_0 ++ dktX4_lend_1
theorem dksX4_lend_0 : cX4_lend.data.toList.drop 0 = dktX4_lend_0 := by decide +kernel
theorem dksX4_lend_1 : cX4_lend.data.toList.drop 23 = dktX4_lend_1 := dk_seg dksX4_lend_0 23 rfl rfl
theorem dksX4_lend_2 : cX4_lend.data.toList.drop 45 = dktX4_lend_2 := dk_seg dksX4_lend_1 22 rfl rfl
theorem dksX4_lend_3 : cX4_lend.data.toList.drop 68 = dktX4_lend_3 := dk_seg dksX4_lend_2 23 rfl rfl
theorem dksX4_lend_4 : cX4_lend.data.toList.drop 91 = dktX4_lend_4 := dk_seg dksX4_lend_3 23 rfl rfl
theorem dksX4_lend_5 : cX4_lend.data.toList.drop 115 = dktX4_lend_5 := dk_seg dksX4_lend_4 24 rfl rfl
theorem dksX4_lend_6 : cX4_lend.data.toList.drop 139 = dktX4_lend_6 := dk_seg dksX4_lend_5 24 rfl rfl
theorem dksX4_lend_7 : cX4_lend.data.toList.drop 163 = dktX4_lend_7 := dk_seg dksX4_lend_6 24 rfl rfl
theorem dksX4_lend_8 : cX4_lend.data.toList.drop 187 = dktX4_lend_8 := dk_seg dksX4_lend_7 24 rfl rfl
theorem dksX4_lend_9 : cX4_lend.data.toList.drop 211 = dktX4_lend_9 := dk_seg dksX4_lend_8 24 rfl rfl
theorem dksX4_lend_10 : cX4_lend.data.toList.drop 235 = dktX4_lend_10 := dk_seg dksX4_lend_9 24 rfl rfl
theorem dksX4_lend_11 : cX4_lend.data.toList.drop 259 = dktX4_lend_11 := dk_seg dksX4_lend_10 24 rfl rfl
theorem dX4_lend_0 : decode cX4_lend 0 = .ok (.lload_n 1, 1) := dk_31 (dk_at dksX4_lend_0 0 rfl rfl)
theorem dX4_lend_1 : decode cX4_lend 1 = .ok (.lconst 1, 1) := dk_10 (dk_at dksX4_lend_0 1 rfl rfl)
theorem dX4_lend_2 : decode cX4_lend 2 = .ok (.ldc2_w 296, 3) := dk_20 1 40 (dk_at dksX4_lend_0 2 rfl rfl)
theorem dX4_lend_5 : decode cX4_lend 5 = .ok (.invokestatic 182, 3) := dk_184 0 182 (dk_at dksX4_lend_0 5 rfl rfl)
theorem dX4_lend_8 : decode cX4_lend 8 = .ok (.ifCond .eq 31, 3) := dk_153 0 31 (dk_at dksX4_lend_0 8 rfl rfl)
theorem dX4_lend_11 : decode cX4_lend 11 = .ok (.iload_n 3, 1) := dk_29 (dk_at dksX4_lend_0 11 rfl rfl)
theorem dX4_lend_12 : decode cX4_lend 12 = .ok (.i2l, 1) := dk_133 (dk_at dksX4_lend_0 12 rfl rfl)
theorem dX4_lend_13 : decode cX4_lend 13 = .ok (.lconst 0, 1) := dk_9 (dk_at dksX4_lend_0 13 rfl rfl)
theorem dX4_lend_14 : decode cX4_lend 14 = .ok (.ldc2_w 309, 3) := dk_20 1 53 (dk_at dksX4_lend_0 14 rfl rfl)
theorem dX4_lend_17 : decode cX4_lend 17 = .ok (.invokestatic 182, 3) := dk_184 0 182 (dk_at dksX4_lend_0 17 rfl rfl)
theorem dX4_lend_20 : decode cX4_lend 20 = .ok (.ifCond .eq 19, 3) := dk_153 0 19 (dk_at dksX4_lend_0 20 rfl rfl)
theorem dX4_lend_23 : decode cX4_lend 23 = .ok (.lload 4, 2) := dk_22 4 (dk_at dksX4_lend_1 0 rfl rfl)
theorem dX4_lend_25 : decode cX4_lend 25 = .ok (.lconst 1, 1) := dk_10 (dk_at dksX4_lend_1 2 rfl rfl)
theorem dX4_lend_26 : decode cX4_lend 26 = .ok (.ldc2_w 296, 3) := dk_20 1 40 (dk_at dksX4_lend_1 3 rfl rfl)
theorem dX4_lend_29 : decode cX4_lend 29 = .ok (.invokestatic 182, 3) := dk_184 0 182 (dk_at dksX4_lend_1 6 rfl rfl)
theorem dX4_lend_32 : decode cX4_lend 32 = .ok (.ifCond .eq 7, 3) := dk_153 0 7 (dk_at dksX4_lend_1 9 rfl rfl)
theorem dX4_lend_35 : decode cX4_lend 35 = .ok (.iconst 1, 1) := dk_4 (dk_at dksX4_lend_1 12 rfl rfl)
theorem dX4_lend_36 : decode cX4_lend 36 = .ok (.goto 4, 3) := dk_167 0 4 (dk_at dksX4_lend_1 13 rfl rfl)
theorem dX4_lend_39 : decode cX4_lend 39 = .ok (.iconst 0, 1) := dk_3 (dk_at dksX4_lend_1 16 rfl rfl)
theorem dX4_lend_40 : decode cX4_lend 40 = .ok (.istore 6, 2) := dk_54 6 (dk_at dksX4_lend_1 17 rfl rfl)
theorem dX4_lend_42 : decode cX4_lend 42 = .ok (.aload_n 0, 1) := dk_42 (dk_at dksX4_lend_1 19 rfl rfl)
theorem dX4_lend_43 : decode cX4_lend 43 = .ok (.iload 6, 2) := dk_21 6 (dk_at dksX4_lend_1 20 rfl rfl)
theorem dX4_lend_45 : decode cX4_lend 45 = .ok (.ifCond .ne 7, 3) := dk_154 0 7 (dk_at dksX4_lend_2 0 rfl rfl)
theorem dX4_lend_48 : decode cX4_lend 48 = .ok (.iconst 1, 1) := dk_4 (dk_at dksX4_lend_2 3 rfl rfl)
theorem dX4_lend_49 : decode cX4_lend 49 = .ok (.goto 19, 3) := dk_167 0 19 (dk_at dksX4_lend_2 4 rfl rfl)
theorem dX4_lend_52 : decode cX4_lend 52 = .ok (.lload_n 1, 1) := dk_31 (dk_at dksX4_lend_2 7 rfl rfl)
theorem dX4_lend_53 : decode cX4_lend 53 = .ok (.iload_n 3, 1) := dk_29 (dk_at dksX4_lend_2 8 rfl rfl)
theorem dX4_lend_54 : decode cX4_lend 54 = .ok (.invokestatic 364, 3) := dk_184 1 108 (dk_at dksX4_lend_2 9 rfl rfl)
theorem dX4_lend_57 : decode cX4_lend 57 = .ok (.lload 4, 2) := dk_22 4 (dk_at dksX4_lend_2 12 rfl rfl)
theorem dX4_lend_59 : decode cX4_lend 59 = .ok (.lcmp, 1) := dk_148 (dk_at dksX4_lend_2 14 rfl rfl)
theorem dX4_lend_60 : decode cX4_lend 60 = .ok (.ifCond .lt 7, 3) := dk_155 0 7 (dk_at dksX4_lend_2 15 rfl rfl)
theorem dX4_lend_63 : decode cX4_lend 63 = .ok (.iconst 2, 1) := dk_5 (dk_at dksX4_lend_2 18 rfl rfl)
theorem dX4_lend_64 : decode cX4_lend 64 = .ok (.goto 4, 3) := dk_167 0 4 (dk_at dksX4_lend_2 19 rfl rfl)
theorem dX4_lend_67 : decode cX4_lend 67 = .ok (.iconst 0, 1) := dk_3 (dk_at dksX4_lend_2 22 rfl rfl)
theorem dX4_lend_68 : decode cX4_lend 68 = .ok (.invokevirtual 205, 3) := dk_182 0 205 (dk_at dksX4_lend_3 0 rfl rfl)
theorem dX4_lend_71 : decode cX4_lend 71 = .ok (.ifCond .eq 5, 3) := dk_153 0 5 (dk_at dksX4_lend_3 3 rfl rfl)
theorem dX4_lend_74 : decode cX4_lend 74 = .ok (.iconst 0, 1) := dk_3 (dk_at dksX4_lend_3 6 rfl rfl)
theorem dX4_lend_75 : decode cX4_lend 75 = .ok (.ireturn, 1) := dk_172 (dk_at dksX4_lend_3 7 rfl rfl)
theorem dX4_lend_76 : decode cX4_lend 76 = .ok (.lload_n 1, 1) := dk_31 (dk_at dksX4_lend_3 8 rfl rfl)
theorem dX4_lend_77 : decode cX4_lend 77 = .ok (.lstore 7, 2) := dk_55 7 (dk_at dksX4_lend_3 9 rfl rfl)
theorem dX4_lend_79 : decode cX4_lend 79 = .ok (.iconst 0, 1) := dk_3 (dk_at dksX4_lend_3 11 rfl rfl)
theorem dX4_lend_80 : decode cX4_lend 80 = .ok (.istore 9, 2) := dk_54 9 (dk_at dksX4_lend_3 12 rfl rfl)
theorem dX4_lend_82 : decode cX4_lend 82 = .ok (.lload 7, 2) := dk_22 7 (dk_at dksX4_lend_3 14 rfl rfl)
theorem dX4_lend_84 : decode cX4_lend 84 = .ok (.lconst 0, 1) := dk_9 (dk_at dksX4_lend_3 16 rfl rfl)
theorem dX4_lend_85 : decode cX4_lend 85 = .ok (.lcmp, 1) := dk_148 (dk_at dksX4_lend_3 17 rfl rfl)
theorem dX4_lend_86 : decode cX4_lend 86 = .ok (.ifCond .le 88, 3) := dk_158 0 88 (dk_at dksX4_lend_3 18 rfl rfl)
theorem dX4_lend_89 : decode cX4_lend 89 = .ok (.iload 9, 2) := dk_21 9 (dk_at dksX4_lend_3 21 rfl rfl)
theorem dX4_lend_91 : decode cX4_lend 91 = .ok (.bipush 120, 2) := dk_16 120 (dk_at dksX4_lend_4 0 rfl rfl)
theorem dX4_lend_93 : decode cX4_lend 93 = .ok (.if_icmp .ge 81, 3) := dk_162 0 81 (dk_at dksX4_lend_4 2 rfl rfl)
theorem dX4_lend_96 : decode cX4_lend 96 = .ok (.aload_n 0, 1) := dk_42 (dk_at dksX4_lend_4 5 rfl rfl)
theorem dX4_lend_97 : decode cX4_lend 97 = .ok (.getfield 143, 3) := dk_180 0 143 (dk_at dksX4_lend_4 6 rfl rfl)
theorem dX4_lend_100 : decode cX4_lend 100 = .ok (.iload 9, 2) := dk_21 9 (dk_at dksX4_lend_4 9 rfl rfl)
theorem dX4_lend_102 : decode cX4_lend 102 = .ok (.lload 7, 2) := dk_22 7 (dk_at dksX4_lend_4 11 rfl rfl)
theorem dX4_lend_104 : decode cX4_lend 104 = .ok (.iload_n 3, 1) := dk_29 (dk_at dksX4_lend_4 13 rfl rfl)
theorem dX4_lend_105 : decode cX4_lend 105 = .ok (.invokestatic 364, 3) := dk_184 1 108 (dk_at dksX4_lend_4 14 rfl rfl)
theorem dX4_lend_108 : decode cX4_lend 108 = .ok (.lastore, 1) := dk_80 (dk_at dksX4_lend_4 17 rfl rfl)
theorem dX4_lend_109 : decode cX4_lend 109 = .ok (.aload_n 0, 1) := dk_42 (dk_at dksX4_lend_4 18 rfl rfl)
theorem dX4_lend_110 : decode cX4_lend 110 = .ok (.getfield 146, 3) := dk_180 0 146 (dk_at dksX4_lend_4 19 rfl rfl)
theorem dX4_lend_113 : decode cX4_lend 113 = .ok (.iload 9, 2) := dk_21 9 (dk_at dksX4_lend_4 22 rfl rfl)
theorem dX4_lend_115 : decode cX4_lend 115 = .ok (.lload 7, 2) := dk_22 7 (dk_at dksX4_lend_5 0 rfl rfl)
theorem dX4_lend_117 : decode cX4_lend 117 = .ok (.aload_n 0, 1) := dk_42 (dk_at dksX4_lend_5 2 rfl rfl)
theorem dX4_lend_118 : decode cX4_lend 118 = .ok (.getfield 143, 3) := dk_180 0 143 (dk_at dksX4_lend_5 3 rfl rfl)
theorem dX4_lend_121 : decode cX4_lend 121 = .ok (.iload 9, 2) := dk_21 9 (dk_at dksX4_lend_5 6 rfl rfl)
theorem dX4_lend_123 : decode cX4_lend 123 = .ok (.laload, 1) := dk_47 (dk_at dksX4_lend_5 8 rfl rfl)
theorem dX4_lend_124 : decode cX4_lend 124 = .ok (.ladd, 1) := dk_97 (dk_at dksX4_lend_5 9 rfl rfl)
theorem dX4_lend_125 : decode cX4_lend 125 = .ok (.lload 4, 2) := dk_22 4 (dk_at dksX4_lend_5 10 rfl rfl)
theorem dX4_lend_127 : decode cX4_lend 127 = .ok (.lcmp, 1) := dk_148 (dk_at dksX4_lend_5 12 rfl rfl)
theorem dX4_lend_128 : decode cX4_lend 128 = .ok (.ifCond .gt 8, 3) := dk_157 0 8 (dk_at dksX4_lend_5 13 rfl rfl)
theorem dX4_lend_131 : decode cX4_lend 131 = .ok (.lload 7, 2) := dk_22 7 (dk_at dksX4_lend_5 16 rfl rfl)
theorem dX4_lend_133 : decode cX4_lend 133 = .ok (.goto 13, 3) := dk_167 0 13 (dk_at dksX4_lend_5 18 rfl rfl)
theorem dX4_lend_136 : decode cX4_lend 136 = .ok (.lload 4, 2) := dk_22 4 (dk_at dksX4_lend_5 21 rfl rfl)
theorem dX4_lend_138 : decode cX4_lend 138 = .ok (.aload_n 0, 1) := dk_42 (dk_at dksX4_lend_5 23 rfl rfl)
theorem dX4_lend_139 : decode cX4_lend 139 = .ok (.getfield 143, 3) := dk_180 0 143 (dk_at dksX4_lend_6 0 rfl rfl)
theorem dX4_lend_142 : decode cX4_lend 142 = .ok (.iload 9, 2) := dk_21 9 (dk_at dksX4_lend_6 3 rfl rfl)
theorem dX4_lend_144 : decode cX4_lend 144 = .ok (.laload, 1) := dk_47 (dk_at dksX4_lend_6 5 rfl rfl)
theorem dX4_lend_145 : decode cX4_lend 145 = .ok (.lsub, 1) := dk_101 (dk_at dksX4_lend_6 6 rfl rfl)
theorem dX4_lend_146 : decode cX4_lend 146 = .ok (.lastore, 1) := dk_80 (dk_at dksX4_lend_6 7 rfl rfl)
theorem dX4_lend_147 : decode cX4_lend 147 = .ok (.lload 7, 2) := dk_22 7 (dk_at dksX4_lend_6 8 rfl rfl)
theorem dX4_lend_149 : decode cX4_lend 149 = .ok (.aload_n 0, 1) := dk_42 (dk_at dksX4_lend_6 10 rfl rfl)
theorem dX4_lend_150 : decode cX4_lend 150 = .ok (.getfield 146, 3) := dk_180 0 146 (dk_at dksX4_lend_6 11 rfl rfl)
theorem dX4_lend_153 : decode cX4_lend 153 = .ok (.iload 9, 2) := dk_21 9 (dk_at dksX4_lend_6 14 rfl rfl)
theorem dX4_lend_155 : decode cX4_lend 155 = .ok (.laload, 1) := dk_47 (dk_at dksX4_lend_6 16 rfl rfl)
theorem dX4_lend_156 : decode cX4_lend 156 = .ok (.lsub, 1) := dk_101 (dk_at dksX4_lend_6 17 rfl rfl)
theorem dX4_lend_157 : decode cX4_lend 157 = .ok (.lstore 7, 2) := dk_55 7 (dk_at dksX4_lend_6 18 rfl rfl)
theorem dX4_lend_159 : decode cX4_lend 159 = .ok (.aload_n 0, 1) := dk_42 (dk_at dksX4_lend_6 20 rfl rfl)
theorem dX4_lend_160 : decode cX4_lend 160 = .ok (.getfield 149, 3) := dk_180 0 149 (dk_at dksX4_lend_6 21 rfl rfl)
theorem dX4_lend_163 : decode cX4_lend 163 = .ok (.iload 9, 2) := dk_21 9 (dk_at dksX4_lend_7 0 rfl rfl)
theorem dX4_lend_165 : decode cX4_lend 165 = .ok (.lload 7, 2) := dk_22 7 (dk_at dksX4_lend_7 2 rfl rfl)
theorem dX4_lend_167 : decode cX4_lend 167 = .ok (.lastore, 1) := dk_80 (dk_at dksX4_lend_7 4 rfl rfl)
theorem dX4_lend_168 : decode cX4_lend 168 = .ok (.iinc 9 1, 3) := dk_132 9 1 (dk_at dksX4_lend_7 5 rfl rfl)
theorem dX4_lend_171 : decode cX4_lend 171 = .ok (.goto (-89), 3) := dk_167 255 167 (dk_at dksX4_lend_7 8 rfl rfl)
theorem dX4_lend_174 : decode cX4_lend 174 = .ok (.aload_n 0, 1) := dk_42 (dk_at dksX4_lend_7 11 rfl rfl)
theorem dX4_lend_175 : decode cX4_lend 175 = .ok (.lload 7, 2) := dk_22 7 (dk_at dksX4_lend_7 12 rfl rfl)
theorem dX4_lend_177 : decode cX4_lend 177 = .ok (.lconst 0, 1) := dk_9 (dk_at dksX4_lend_7 14 rfl rfl)
theorem dX4_lend_178 : decode cX4_lend 178 = .ok (.lcmp, 1) := dk_148 (dk_at dksX4_lend_7 15 rfl rfl)
theorem dX4_lend_179 : decode cX4_lend 179 = .ok (.ifCond .le 7, 3) := dk_158 0 7 (dk_at dksX4_lend_7 16 rfl rfl)
theorem dX4_lend_182 : decode cX4_lend 182 = .ok (.iconst 3, 1) := dk_6 (dk_at dksX4_lend_7 19 rfl rfl)
theorem dX4_lend_183 : decode cX4_lend 183 = .ok (.goto 4, 3) := dk_167 0 4 (dk_at dksX4_lend_7 20 rfl rfl)
theorem dX4_lend_186 : decode cX4_lend 186 = .ok (.iconst 0, 1) := dk_3 (dk_at dksX4_lend_7 23 rfl rfl)
theorem dX4_lend_187 : decode cX4_lend 187 = .ok (.invokevirtual 205, 3) := dk_182 0 205 (dk_at dksX4_lend_8 0 rfl rfl)
theorem dX4_lend_190 : decode cX4_lend 190 = .ok (.ifCond .eq 5, 3) := dk_153 0 5 (dk_at dksX4_lend_8 3 rfl rfl)
theorem dX4_lend_193 : decode cX4_lend 193 = .ok (.iconst 0, 1) := dk_3 (dk_at dksX4_lend_8 6 rfl rfl)
theorem dX4_lend_194 : decode cX4_lend 194 = .ok (.ireturn, 1) := dk_172 (dk_at dksX4_lend_8 7 rfl rfl)
theorem dX4_lend_195 : decode cX4_lend 195 = .ok (.aload_n 0, 1) := dk_42 (dk_at dksX4_lend_8 8 rfl rfl)
theorem dX4_lend_196 : decode cX4_lend 196 = .ok (.iload 9, 2) := dk_21 9 (dk_at dksX4_lend_8 9 rfl rfl)
theorem dX4_lend_198 : decode cX4_lend 198 = .ok (.putfield 367, 3) := dk_181 1 111 (dk_at dksX4_lend_8 11 rfl rfl)
theorem dX4_lend_201 : decode cX4_lend 201 = .ok (.iconst 0, 1) := dk_3 (dk_at dksX4_lend_8 14 rfl rfl)
theorem dX4_lend_202 : decode cX4_lend 202 = .ok (.istore 10, 2) := dk_54 10 (dk_at dksX4_lend_8 15 rfl rfl)
theorem dX4_lend_204 : decode cX4_lend 204 = .ok (.iload 10, 2) := dk_21 10 (dk_at dksX4_lend_8 17 rfl rfl)
theorem dX4_lend_206 : decode cX4_lend 206 = .ok (.iload 9, 2) := dk_21 9 (dk_at dksX4_lend_8 19 rfl rfl)
theorem dX4_lend_208 : decode cX4_lend 208 = .ok (.if_icmp .ge 51, 3) := dk_162 0 51 (dk_at dksX4_lend_8 21 rfl rfl)
theorem dX4_lend_211 : decode cX4_lend 211 = .ok (.aload_n 0, 1) := dk_42 (dk_at dksX4_lend_9 0 rfl rfl)
theorem dX4_lend_212 : decode cX4_lend 212 = .ok (.getfield 134, 3) := dk_180 0 134 (dk_at dksX4_lend_9 1 rfl rfl)
theorem dX4_lend_215 : decode cX4_lend 215 = .ok (.iload 10, 2) := dk_21 10 (dk_at dksX4_lend_9 4 rfl rfl)
theorem dX4_lend_217 : decode cX4_lend 217 = .ok (.aload_n 0, 1) := dk_42 (dk_at dksX4_lend_9 6 rfl rfl)
theorem dX4_lend_218 : decode cX4_lend 218 = .ok (.getfield 143, 3) := dk_180 0 143 (dk_at dksX4_lend_9 7 rfl rfl)
theorem dX4_lend_221 : decode cX4_lend 221 = .ok (.iload 10, 2) := dk_21 10 (dk_at dksX4_lend_9 10 rfl rfl)
theorem dX4_lend_223 : decode cX4_lend 223 = .ok (.laload, 1) := dk_47 (dk_at dksX4_lend_9 12 rfl rfl)
theorem dX4_lend_224 : decode cX4_lend 224 = .ok (.lastore, 1) := dk_80 (dk_at dksX4_lend_9 13 rfl rfl)
theorem dX4_lend_225 : decode cX4_lend 225 = .ok (.aload_n 0, 1) := dk_42 (dk_at dksX4_lend_9 14 rfl rfl)
theorem dX4_lend_226 : decode cX4_lend 226 = .ok (.getfield 137, 3) := dk_180 0 137 (dk_at dksX4_lend_9 15 rfl rfl)
theorem dX4_lend_229 : decode cX4_lend 229 = .ok (.iload 10, 2) := dk_21 10 (dk_at dksX4_lend_9 18 rfl rfl)
theorem dX4_lend_231 : decode cX4_lend 231 = .ok (.aload_n 0, 1) := dk_42 (dk_at dksX4_lend_9 20 rfl rfl)
theorem dX4_lend_232 : decode cX4_lend 232 = .ok (.getfield 146, 3) := dk_180 0 146 (dk_at dksX4_lend_9 21 rfl rfl)
theorem dX4_lend_235 : decode cX4_lend 235 = .ok (.iload 10, 2) := dk_21 10 (dk_at dksX4_lend_10 0 rfl rfl)
theorem dX4_lend_237 : decode cX4_lend 237 = .ok (.laload, 1) := dk_47 (dk_at dksX4_lend_10 2 rfl rfl)
theorem dX4_lend_238 : decode cX4_lend 238 = .ok (.lastore, 1) := dk_80 (dk_at dksX4_lend_10 3 rfl rfl)
theorem dX4_lend_239 : decode cX4_lend 239 = .ok (.aload_n 0, 1) := dk_42 (dk_at dksX4_lend_10 4 rfl rfl)
theorem dX4_lend_240 : decode cX4_lend 240 = .ok (.getfield 140, 3) := dk_180 0 140 (dk_at dksX4_lend_10 5 rfl rfl)
theorem dX4_lend_243 : decode cX4_lend 243 = .ok (.iload 10, 2) := dk_21 10 (dk_at dksX4_lend_10 8 rfl rfl)
theorem dX4_lend_245 : decode cX4_lend 245 = .ok (.aload_n 0, 1) := dk_42 (dk_at dksX4_lend_10 10 rfl rfl)
theorem dX4_lend_246 : decode cX4_lend 246 = .ok (.getfield 149, 3) := dk_180 0 149 (dk_at dksX4_lend_10 11 rfl rfl)
theorem dX4_lend_249 : decode cX4_lend 249 = .ok (.iload 10, 2) := dk_21 10 (dk_at dksX4_lend_10 14 rfl rfl)
theorem dX4_lend_251 : decode cX4_lend 251 = .ok (.laload, 1) := dk_47 (dk_at dksX4_lend_10 16 rfl rfl)
theorem dX4_lend_252 : decode cX4_lend 252 = .ok (.lastore, 1) := dk_80 (dk_at dksX4_lend_10 17 rfl rfl)
theorem dX4_lend_253 : decode cX4_lend 253 = .ok (.iinc 10 1, 3) := dk_132 10 1 (dk_at dksX4_lend_10 18 rfl rfl)
theorem dX4_lend_256 : decode cX4_lend 256 = .ok (.goto (-52), 3) := dk_167 255 204 (dk_at dksX4_lend_10 21 rfl rfl)
theorem dX4_lend_259 : decode cX4_lend 259 = .ok (.iload 9, 2) := dk_21 9 (dk_at dksX4_lend_11 0 rfl rfl)
theorem dX4_lend_261 : decode cX4_lend 261 = .ok (.ireturn, 1) := dk_172 (dk_at dksX4_lend_11 2 rfl rfl)
def dkwX4_month_2 : List UInt8 := [154, 0, 7, 10, 167, 0, 4, 9, 97, 173]
abbrev dktX4_month_2 : List UInt8 := dkwX4_month_2 ++ []
def dkwX4_month_1 : List UInt8 := [20, 1, 106, 148, 157, 0, 23, 22, 7, 20, 1, 106, 148, 154, 0, 18, 22, 5, 20, 1, 27, 113, 10, 148]
abbrev dktX4_month_1 : List UInt8 := dkwX4_month_1 ++ dktX4_month_2
def dkwX4_month_0 : List UInt8 := [30, 28, 133, 105, 66, 33, 20, 1, 104, 109, 55, 5, 33, 20, 1, 104, 113, 55, 7, 22, 5, 22, 7]
abbrev dktX4_month_0 : List UInt8 := dkwX4_month_0 ++ dktX4_month_1
theorem dksX4_month_0 : cX4_month.data.toList.drop 0 = dktX4_month_0 := by decide +kernel
theorem dksX4_month_1 : cX4_month.data.toList.drop 23 = dktX4_month_1 := dk_seg dksX4_month_0 23 rfl rfl
theorem dksX4_month_2 : cX4_month.data.toList.drop 47 = dktX4_month_2 := dk_seg dksX4_month_1 24 rfl rfl
theorem dX4_month_0 : decode cX4_month 0 = .ok (.lload_n 0, 1) := dk_30 (dk_at dksX4_month_0 0 rfl rfl)
theorem dX4_month_1 : decode cX4_month 1 = .ok (.iload_n 2, 1) := dk_28 (dk_at dksX4_month_0 1 rfl rfl)
theorem dX4_month_2 : decode cX4_month 2 = .ok (.i2l, 1) := dk_133 (dk_at dksX4_month_0 2 rfl rfl)
theorem dX4_month_3 : decode cX4_month 3 = .ok (.lmul, 1) := dk_105 (dk_at dksX4_month_0 3 rfl rfl)
theorem dX4_month_4 : decode cX4_month 4 = .ok (.lstore_n 3, 1) := dk_66 (dk_at dksX4_month_0 4 rfl rfl)
theorem dX4_month_5 : decode cX4_month 5 = .ok (.lload_n 3, 1) := dk_33 (dk_at dksX4_month_0 5 rfl rfl)
theorem dX4_month_6 : decode cX4_month 6 = .ok (.ldc2_w 360, 3) := dk_20 1 104 (dk_at dksX4_month_0 6 rfl rfl)
theorem dX4_month_9 : decode cX4_month 9 = .ok (.ldiv, 1) := dk_109 (dk_at dksX4_month_0 9 rfl rfl)
theorem dX4_month_10 : decode cX4_month 10 = .ok (.lstore 5, 2) := dk_55 5 (dk_at dksX4_month_0 10 rfl rfl)
theorem dX4_month_12 : decode cX4_month 12 = .ok (.lload_n 3, 1) := dk_33 (dk_at dksX4_month_0 12 rfl rfl)
theorem dX4_month_13 : decode cX4_month 13 = .ok (.ldc2_w 360, 3) := dk_20 1 104 (dk_at dksX4_month_0 13 rfl rfl)
theorem dX4_month_16 : decode cX4_month 16 = .ok (.lrem, 1) := dk_113 (dk_at dksX4_month_0 16 rfl rfl)
theorem dX4_month_17 : decode cX4_month 17 = .ok (.lstore 7, 2) := dk_55 7 (dk_at dksX4_month_0 17 rfl rfl)
theorem dX4_month_19 : decode cX4_month 19 = .ok (.lload 5, 2) := dk_22 5 (dk_at dksX4_month_0 19 rfl rfl)
theorem dX4_month_21 : decode cX4_month 21 = .ok (.lload 7, 2) := dk_22 7 (dk_at dksX4_month_0 21 rfl rfl)
theorem dX4_month_23 : decode cX4_month 23 = .ok (.ldc2_w 362, 3) := dk_20 1 106 (dk_at dksX4_month_1 0 rfl rfl)
theorem dX4_month_26 : decode cX4_month 26 = .ok (.lcmp, 1) := dk_148 (dk_at dksX4_month_1 3 rfl rfl)
theorem dX4_month_27 : decode cX4_month 27 = .ok (.ifCond .gt 23, 3) := dk_157 0 23 (dk_at dksX4_month_1 4 rfl rfl)
theorem dX4_month_30 : decode cX4_month 30 = .ok (.lload 7, 2) := dk_22 7 (dk_at dksX4_month_1 7 rfl rfl)
theorem dX4_month_32 : decode cX4_month 32 = .ok (.ldc2_w 362, 3) := dk_20 1 106 (dk_at dksX4_month_1 9 rfl rfl)
theorem dX4_month_35 : decode cX4_month 35 = .ok (.lcmp, 1) := dk_148 (dk_at dksX4_month_1 12 rfl rfl)
theorem dX4_month_36 : decode cX4_month 36 = .ok (.ifCond .ne 18, 3) := dk_154 0 18 (dk_at dksX4_month_1 13 rfl rfl)
theorem dX4_month_39 : decode cX4_month 39 = .ok (.lload 5, 2) := dk_22 5 (dk_at dksX4_month_1 16 rfl rfl)
theorem dX4_month_41 : decode cX4_month 41 = .ok (.ldc2_w 283, 3) := dk_20 1 27 (dk_at dksX4_month_1 18 rfl rfl)
theorem dX4_month_44 : decode cX4_month 44 = .ok (.lrem, 1) := dk_113 (dk_at dksX4_month_1 21 rfl rfl)
theorem dX4_month_45 : decode cX4_month 45 = .ok (.lconst 1, 1) := dk_10 (dk_at dksX4_month_1 22 rfl rfl)
theorem dX4_month_46 : decode cX4_month 46 = .ok (.lcmp, 1) := dk_148 (dk_at dksX4_month_1 23 rfl rfl)
theorem dX4_month_47 : decode cX4_month 47 = .ok (.ifCond .ne 7, 3) := dk_154 0 7 (dk_at dksX4_month_2 0 rfl rfl)
theorem dX4_month_50 : decode cX4_month 50 = .ok (.lconst 1, 1) := dk_10 (dk_at dksX4_month_2 3 rfl rfl)
theorem dX4_month_51 : decode cX4_month 51 = .ok (.goto 4, 3) := dk_167 0 4 (dk_at dksX4_month_2 4 rfl rfl)
theorem dX4_month_54 : decode cX4_month 54 = .ok (.lconst 0, 1) := dk_9 (dk_at dksX4_month_2 7 rfl rfl)
theorem dX4_month_55 : decode cX4_month 55 = .ok (.ladd, 1) := dk_97 (dk_at dksX4_month_2 8 rfl rfl)
theorem dX4_month_56 : decode cX4_month 56 = .ok (.lreturn, 1) := dk_173 (dk_at dksX4_month_2 9 rfl rfl)
def dkwX4_instalment_5 : List UInt8 := [42, 180, 0, 137, 27, 47, 97, 173]
abbrev dktX4_instalment_5 : List UInt8 := dkwX4_instalment_5 ++ []
def dkwX4_instalment_4 : List UInt8 := [167, 0, 31, 28, 16, 111, 160, 0, 12, 42, 180, 0, 140, 27, 47, 167, 0, 16, 42, 180, 0, 134, 27, 47]
abbrev dktX4_instalment_4 : List UInt8 := dkwX4_instalment_4 ++ dktX4_instalment_5
def dkwX4_instalment_3 : List UInt8 := [160, 0, 12, 42, 180, 0, 134, 27, 47, 167, 0, 46, 28, 16, 112, 160, 0, 12, 42, 180, 0, 137, 27, 47]
abbrev dktX4_instalment_3 : List UInt8 := dkwX4_instalment_3 ++ dktX4_instalment_4
def dkwX4_instalment_2 : List UInt8 := [133, 184, 0, 182, 153, 0, 7, 3, 167, 0, 4, 5, 182, 0, 205, 153, 0, 5, 9, 173, 28, 16, 105]
abbrev dktX4_instalment_2 : List UInt8 := dkwX4_instalment_2 ++ dktX4_instalment_3
def dkwX4_instalment_1 : List UInt8 := [4, 167, 0, 4, 3, 62, 42, 29, 154, 0, 7, 4, 167, 0, 24, 27, 133, 9, 42, 180, 1, 111, 4, 100]
abbrev dktX4_instalment_1 : List UInt8 := dkwX4_instalment_1 ++ dktX4_instalment_2
def dkwX4_instalment_0 : List UInt8 := [28, 16, 105, 159, 0, 21, 28, 16, 112, 159, 0, 15, 28, 16, 111, 159, 0, 9, 28, 16, 115, 160, 0, 7]
abbrev dktX4_instalment_0 : List UInt8 := dkwX4_instalment_0 ++ dktX4_instalment_1
theorem dksX4_instalment_0 : cX4_instalment.data.toList.drop 0 = dktX4_instalment_0 := by decide +kernel
theorem dksX4_instalment_1 : cX4_instalment.data.toList.drop 24 = dktX4_instalment_1 := dk_seg dksX4_instalment_0 24 rfl rfl
theorem dksX4_instalment_2 : cX4_instalment.data.toList.drop 48 = dktX4_instalment_2 := dk_seg dksX4_instalment_1 24 rfl rfl
theorem dksX4_instalment_3 : cX4_instalment.data.toList.drop 71 = dktX4_instalment_3 := dk_seg dksX4_instalment_2 23 rfl rfl
theorem dksX4_instalment_4 : cX4_instalment.data.toList.drop 95 = dktX4_instalment_4 := dk_seg dksX4_instalment_3 24 rfl rfl
theorem dksX4_instalment_5 : cX4_instalment.data.toList.drop 119 = dktX4_instalment_5 := dk_seg dksX4_instalment_4 24 rfl rfl
theorem dX4_instalment_0 : decode cX4_instalment 0 = .ok (.iload_n 2, 1) := dk_28 (dk_at dksX4_instalment_0 0 rfl rfl)
theorem dX4_instalment_1 : decode cX4_instalment 1 = .ok (.bipush 105, 2) := dk_16 105 (dk_at dksX4_instalment_0 1 rfl rfl)
theorem dX4_instalment_3 : decode cX4_instalment 3 = .ok (.if_icmp .eq 21, 3) := dk_159 0 21 (dk_at dksX4_instalment_0 3 rfl rfl)
theorem dX4_instalment_6 : decode cX4_instalment 6 = .ok (.iload_n 2, 1) := dk_28 (dk_at dksX4_instalment_0 6 rfl rfl)
theorem dX4_instalment_7 : decode cX4_instalment 7 = .ok (.bipush 112, 2) := dk_16 112 (dk_at dksX4_instalment_0 7 rfl rfl)
theorem dX4_instalment_9 : decode cX4_instalment 9 = .ok (.if_icmp .eq 15, 3) := dk_159 0 15 (dk_at dksX4_instalment_0 9 rfl rfl)
theorem dX4_instalment_12 : decode cX4_instalment 12 = .ok (.iload_n 2, 1) := dk_28 (dk_at dksX4_instalment_0 12 rfl rfl)
theorem dX4_instalment_13 : decode cX4_instalment 13 = .ok (.bipush 111, 2) := dk_16 111 (dk_at dksX4_instalment_0 13 rfl rfl)
theorem dX4_instalment_15 : decode cX4_instalment 15 = .ok (.if_icmp .eq 9, 3) := dk_159 0 9 (dk_at dksX4_instalment_0 15 rfl rfl)
theorem dX4_instalment_18 : decode cX4_instalment 18 = .ok (.iload_n 2, 1) := dk_28 (dk_at dksX4_instalment_0 18 rfl rfl)
theorem dX4_instalment_19 : decode cX4_instalment 19 = .ok (.bipush 115, 2) := dk_16 115 (dk_at dksX4_instalment_0 19 rfl rfl)
theorem dX4_instalment_21 : decode cX4_instalment 21 = .ok (.if_icmp .ne 7, 3) := dk_160 0 7 (dk_at dksX4_instalment_0 21 rfl rfl)
theorem dX4_instalment_24 : decode cX4_instalment 24 = .ok (.iconst 1, 1) := dk_4 (dk_at dksX4_instalment_1 0 rfl rfl)
theorem dX4_instalment_25 : decode cX4_instalment 25 = .ok (.goto 4, 3) := dk_167 0 4 (dk_at dksX4_instalment_1 1 rfl rfl)
theorem dX4_instalment_28 : decode cX4_instalment 28 = .ok (.iconst 0, 1) := dk_3 (dk_at dksX4_instalment_1 4 rfl rfl)
theorem dX4_instalment_29 : decode cX4_instalment 29 = .ok (.istore_n 3, 1) := dk_62 (dk_at dksX4_instalment_1 5 rfl rfl)
theorem dX4_instalment_30 : decode cX4_instalment 30 = .ok (.aload_n 0, 1) := dk_42 (dk_at dksX4_instalment_1 6 rfl rfl)
theorem dX4_instalment_31 : decode cX4_instalment 31 = .ok (.iload_n 3, 1) := dk_29 (dk_at dksX4_instalment_1 7 rfl rfl)
theorem dX4_instalment_32 : decode cX4_instalment 32 = .ok (.ifCond .ne 7, 3) := dk_154 0 7 (dk_at dksX4_instalment_1 8 rfl rfl)
theorem dX4_instalment_35 : decode cX4_instalment 35 = .ok (.iconst 1, 1) := dk_4 (dk_at dksX4_instalment_1 11 rfl rfl)
theorem dX4_instalment_36 : decode cX4_instalment 36 = .ok (.goto 24, 3) := dk_167 0 24 (dk_at dksX4_instalment_1 12 rfl rfl)
theorem dX4_instalment_39 : decode cX4_instalment 39 = .ok (.iload_n 1, 1) := dk_27 (dk_at dksX4_instalment_1 15 rfl rfl)
theorem dX4_instalment_40 : decode cX4_instalment 40 = .ok (.i2l, 1) := dk_133 (dk_at dksX4_instalment_1 16 rfl rfl)
theorem dX4_instalment_41 : decode cX4_instalment 41 = .ok (.lconst 0, 1) := dk_9 (dk_at dksX4_instalment_1 17 rfl rfl)
theorem dX4_instalment_42 : decode cX4_instalment 42 = .ok (.aload_n 0, 1) := dk_42 (dk_at dksX4_instalment_1 18 rfl rfl)
theorem dX4_instalment_43 : decode cX4_instalment 43 = .ok (.getfield 367, 3) := dk_180 1 111 (dk_at dksX4_instalment_1 19 rfl rfl)
theorem dX4_instalment_46 : decode cX4_instalment 46 = .ok (.iconst 1, 1) := dk_4 (dk_at dksX4_instalment_1 22 rfl rfl)
theorem dX4_instalment_47 : decode cX4_instalment 47 = .ok (.isub, 1) := dk_100 (dk_at dksX4_instalment_1 23 rfl rfl)
theorem dX4_instalment_48 : decode cX4_instalment 48 = .ok (.i2l, 1) := dk_133 (dk_at dksX4_instalment_2 0 rfl rfl)
theorem dX4_instalment_49 : decode cX4_instalment 49 = .ok (.invokestatic 182, 3) := dk_184 0 182 (dk_at dksX4_instalment_2 1 rfl rfl)
theorem dX4_instalment_52 : decode cX4_instalment 52 = .ok (.ifCond .eq 7, 3) := dk_153 0 7 (dk_at dksX4_instalment_2 4 rfl rfl)
theorem dX4_instalment_55 : decode cX4_instalment 55 = .ok (.iconst 0, 1) := dk_3 (dk_at dksX4_instalment_2 7 rfl rfl)
theorem dX4_instalment_56 : decode cX4_instalment 56 = .ok (.goto 4, 3) := dk_167 0 4 (dk_at dksX4_instalment_2 8 rfl rfl)
theorem dX4_instalment_59 : decode cX4_instalment 59 = .ok (.iconst 2, 1) := dk_5 (dk_at dksX4_instalment_2 11 rfl rfl)
theorem dX4_instalment_60 : decode cX4_instalment 60 = .ok (.invokevirtual 205, 3) := dk_182 0 205 (dk_at dksX4_instalment_2 12 rfl rfl)
theorem dX4_instalment_63 : decode cX4_instalment 63 = .ok (.ifCond .eq 5, 3) := dk_153 0 5 (dk_at dksX4_instalment_2 15 rfl rfl)
theorem dX4_instalment_66 : decode cX4_instalment 66 = .ok (.lconst 0, 1) := dk_9 (dk_at dksX4_instalment_2 18 rfl rfl)
theorem dX4_instalment_67 : decode cX4_instalment 67 = .ok (.lreturn, 1) := dk_173 (dk_at dksX4_instalment_2 19 rfl rfl)
theorem dX4_instalment_68 : decode cX4_instalment 68 = .ok (.iload_n 2, 1) := dk_28 (dk_at dksX4_instalment_2 20 rfl rfl)
theorem dX4_instalment_69 : decode cX4_instalment 69 = .ok (.bipush 105, 2) := dk_16 105 (dk_at dksX4_instalment_2 21 rfl rfl)
theorem dX4_instalment_71 : decode cX4_instalment 71 = .ok (.if_icmp .ne 12, 3) := dk_160 0 12 (dk_at dksX4_instalment_3 0 rfl rfl)
theorem dX4_instalment_74 : decode cX4_instalment 74 = .ok (.aload_n 0, 1) := dk_42 (dk_at dksX4_instalment_3 3 rfl rfl)
theorem dX4_instalment_75 : decode cX4_instalment 75 = .ok (.getfield 134, 3) := dk_180 0 134 (dk_at dksX4_instalment_3 4 rfl rfl)
theorem dX4_instalment_78 : decode cX4_instalment 78 = .ok (.iload_n 1, 1) := dk_27 (dk_at dksX4_instalment_3 7 rfl rfl)
theorem dX4_instalment_79 : decode cX4_instalment 79 = .ok (.laload, 1) := dk_47 (dk_at dksX4_instalment_3 8 rfl rfl)
theorem dX4_instalment_80 : decode cX4_instalment 80 = .ok (.goto 46, 3) := dk_167 0 46 (dk_at dksX4_instalment_3 9 rfl rfl)
theorem dX4_instalment_83 : decode cX4_instalment 83 = .ok (.iload_n 2, 1) := dk_28 (dk_at dksX4_instalment_3 12 rfl rfl)
theorem dX4_instalment_84 : decode cX4_instalment 84 = .ok (.bipush 112, 2) := dk_16 112 (dk_at dksX4_instalment_3 13 rfl rfl)
theorem dX4_instalment_86 : decode cX4_instalment 86 = .ok (.if_icmp .ne 12, 3) := dk_160 0 12 (dk_at dksX4_instalment_3 15 rfl rfl)
theorem dX4_instalment_89 : decode cX4_instalment 89 = .ok (.aload_n 0, 1) := dk_42 (dk_at dksX4_instalment_3 18 rfl rfl)
theorem dX4_instalment_90 : decode cX4_instalment 90 = .ok (.getfield 137, 3) := dk_180 0 137 (dk_at dksX4_instalment_3 19 rfl rfl)
theorem dX4_instalment_93 : decode cX4_instalment 93 = .ok (.iload_n 1, 1) := dk_27 (dk_at dksX4_instalment_3 22 rfl rfl)
theorem dX4_instalment_94 : decode cX4_instalment 94 = .ok (.laload, 1) := dk_47 (dk_at dksX4_instalment_3 23 rfl rfl)
theorem dX4_instalment_95 : decode cX4_instalment 95 = .ok (.goto 31, 3) := dk_167 0 31 (dk_at dksX4_instalment_4 0 rfl rfl)
theorem dX4_instalment_98 : decode cX4_instalment 98 = .ok (.iload_n 2, 1) := dk_28 (dk_at dksX4_instalment_4 3 rfl rfl)
theorem dX4_instalment_99 : decode cX4_instalment 99 = .ok (.bipush 111, 2) := dk_16 111 (dk_at dksX4_instalment_4 4 rfl rfl)
theorem dX4_instalment_101 : decode cX4_instalment 101 = .ok (.if_icmp .ne 12, 3) := dk_160 0 12 (dk_at dksX4_instalment_4 6 rfl rfl)
theorem dX4_instalment_104 : decode cX4_instalment 104 = .ok (.aload_n 0, 1) := dk_42 (dk_at dksX4_instalment_4 9 rfl rfl)
theorem dX4_instalment_105 : decode cX4_instalment 105 = .ok (.getfield 140, 3) := dk_180 0 140 (dk_at dksX4_instalment_4 10 rfl rfl)
theorem dX4_instalment_108 : decode cX4_instalment 108 = .ok (.iload_n 1, 1) := dk_27 (dk_at dksX4_instalment_4 13 rfl rfl)
theorem dX4_instalment_109 : decode cX4_instalment 109 = .ok (.laload, 1) := dk_47 (dk_at dksX4_instalment_4 14 rfl rfl)
theorem dX4_instalment_110 : decode cX4_instalment 110 = .ok (.goto 16, 3) := dk_167 0 16 (dk_at dksX4_instalment_4 15 rfl rfl)
theorem dX4_instalment_113 : decode cX4_instalment 113 = .ok (.aload_n 0, 1) := dk_42 (dk_at dksX4_instalment_4 18 rfl rfl)
theorem dX4_instalment_114 : decode cX4_instalment 114 = .ok (.getfield 134, 3) := dk_180 0 134 (dk_at dksX4_instalment_4 19 rfl rfl)
theorem dX4_instalment_117 : decode cX4_instalment 117 = .ok (.iload_n 1, 1) := dk_27 (dk_at dksX4_instalment_4 22 rfl rfl)
theorem dX4_instalment_118 : decode cX4_instalment 118 = .ok (.laload, 1) := dk_47 (dk_at dksX4_instalment_4 23 rfl rfl)
theorem dX4_instalment_119 : decode cX4_instalment 119 = .ok (.aload_n 0, 1) := dk_42 (dk_at dksX4_instalment_5 0 rfl rfl)
theorem dX4_instalment_120 : decode cX4_instalment 120 = .ok (.getfield 137, 3) := dk_180 0 137 (dk_at dksX4_instalment_5 1 rfl rfl)
theorem dX4_instalment_123 : decode cX4_instalment 123 = .ok (.iload_n 1, 1) := dk_27 (dk_at dksX4_instalment_5 4 rfl rfl)
theorem dX4_instalment_124 : decode cX4_instalment 124 = .ok (.laload, 1) := dk_47 (dk_at dksX4_instalment_5 5 rfl rfl)
theorem dX4_instalment_125 : decode cX4_instalment 125 = .ok (.ladd, 1) := dk_97 (dk_at dksX4_instalment_5 6 rfl rfl)
theorem dX4_instalment_126 : decode cX4_instalment 126 = .ok (.lreturn, 1) := dk_173 (dk_at dksX4_instalment_5 7 rfl rfl)
def dkwX4_post_5 : List UInt8 := [172]
abbrev dktX4_post_5 : List UInt8 := dkwX4_post_5 ++ []
def dkwX4_post_4 : List UInt8 := [153, 0, 5, 3, 172, 42, 27, 2, 182, 1, 125, 42, 27, 28, 29, 22, 4, 182, 1, 128, 42, 180, 1, 119]
abbrev dktX4_post_4 : List UInt8 := dkwX4_post_4 ++ dktX4_post_5
def dkwX4_post_3 : List UInt8 := [6, 167, 0, 18, 42, 180, 1, 119, 17, 0, 200, 160, 0, 7, 7, 167, 0, 4, 3, 182, 0, 205]
abbrev dktX4_post_3 : List UInt8 := dkwX4_post_3 ++ dktX4_post_4
def dkwX4_post_2 : List UInt8 := [154, 0, 7, 4, 167, 0, 39, 21, 6, 154, 0, 7, 5, 167, 0, 30, 27, 42, 180, 0, 164, 163, 0, 7]
abbrev dktX4_post_2 : List UInt8 := dkwX4_post_2 ++ dktX4_post_3
def dkwX4_post_1 : List UInt8 := [28, 29, 159, 0, 7, 4, 167, 0, 4, 3, 54, 6, 42, 28, 184, 1, 122, 153, 0, 10, 29, 184, 1, 122]
abbrev dktX4_post_1 : List UInt8 := dkwX4_post_1 ++ dktX4_post_2
def dkwX4_post_0 : List UInt8 := [27, 133, 9, 20, 1, 53, 184, 0, 182, 153, 0, 24, 22, 4, 10, 20, 1, 40, 184, 0, 182, 153, 0, 12]
abbrev dktX4_post_0 : List UInt8 := dkwX4_post_0 ++ dktX4_post_1
theorem dksX4_post_0 : cX4_post.data.toList.drop 0 = dktX4_post_0 := by decide +kernel
theorem dksX4_post_1 : cX4_post.data.toList.drop 24 = dktX4_post_1 := dk_seg dksX4_post_0 24 rfl rfl
theorem dksX4_post_2 : cX4_post.data.toList.drop 48 = dktX4_post_2 := dk_seg dksX4_post_1 24 rfl rfl
theorem dksX4_post_3 : cX4_post.data.toList.drop 72 = dktX4_post_3 := dk_seg dksX4_post_2 24 rfl rfl
theorem dksX4_post_4 : cX4_post.data.toList.drop 94 = dktX4_post_4 := dk_seg dksX4_post_3 22 rfl rfl
theorem dksX4_post_5 : cX4_post.data.toList.drop 118 = dktX4_post_5 := dk_seg dksX4_post_4 24 rfl rfl
theorem dX4_post_0 : decode cX4_post 0 = .ok (.iload_n 1, 1) := dk_27 (dk_at dksX4_post_0 0 rfl rfl)
theorem dX4_post_1 : decode cX4_post 1 = .ok (.i2l, 1) := dk_133 (dk_at dksX4_post_0 1 rfl rfl)
theorem dX4_post_2 : decode cX4_post 2 = .ok (.lconst 0, 1) := dk_9 (dk_at dksX4_post_0 2 rfl rfl)
theorem dX4_post_3 : decode cX4_post 3 = .ok (.ldc2_w 309, 3) := dk_20 1 53 (dk_at dksX4_post_0 3 rfl rfl)
theorem dX4_post_6 : decode cX4_post 6 = .ok (.invokestatic 182, 3) := dk_184 0 182 (dk_at dksX4_post_0 6 rfl rfl)
theorem dX4_post_9 : decode cX4_post 9 = .ok (.ifCond .eq 24, 3) := dk_153 0 24 (dk_at dksX4_post_0 9 rfl rfl)
theorem dX4_post_12 : decode cX4_post 12 = .ok (.lload 4, 2) := dk_22 4 (dk_at dksX4_post_0 12 rfl rfl)
theorem dX4_post_14 : decode cX4_post 14 = .ok (.lconst 1, 1) := dk_10 (dk_at dksX4_post_0 14 rfl rfl)
theorem dX4_post_15 : decode cX4_post 15 = .ok (.ldc2_w 296, 3) := dk_20 1 40 (dk_at dksX4_post_0 15 rfl rfl)
theorem dX4_post_18 : decode cX4_post 18 = .ok (.invokestatic 182, 3) := dk_184 0 182 (dk_at dksX4_post_0 18 rfl rfl)
theorem dX4_post_21 : decode cX4_post 21 = .ok (.ifCond .eq 12, 3) := dk_153 0 12 (dk_at dksX4_post_0 21 rfl rfl)
theorem dX4_post_24 : decode cX4_post 24 = .ok (.iload_n 2, 1) := dk_28 (dk_at dksX4_post_1 0 rfl rfl)
theorem dX4_post_25 : decode cX4_post 25 = .ok (.iload_n 3, 1) := dk_29 (dk_at dksX4_post_1 1 rfl rfl)
theorem dX4_post_26 : decode cX4_post 26 = .ok (.if_icmp .eq 7, 3) := dk_159 0 7 (dk_at dksX4_post_1 2 rfl rfl)
theorem dX4_post_29 : decode cX4_post 29 = .ok (.iconst 1, 1) := dk_4 (dk_at dksX4_post_1 5 rfl rfl)
theorem dX4_post_30 : decode cX4_post 30 = .ok (.goto 4, 3) := dk_167 0 4 (dk_at dksX4_post_1 6 rfl rfl)
theorem dX4_post_33 : decode cX4_post 33 = .ok (.iconst 0, 1) := dk_3 (dk_at dksX4_post_1 9 rfl rfl)
theorem dX4_post_34 : decode cX4_post 34 = .ok (.istore 6, 2) := dk_54 6 (dk_at dksX4_post_1 10 rfl rfl)
theorem dX4_post_36 : decode cX4_post 36 = .ok (.aload_n 0, 1) := dk_42 (dk_at dksX4_post_1 12 rfl rfl)
theorem dX4_post_37 : decode cX4_post 37 = .ok (.iload_n 2, 1) := dk_28 (dk_at dksX4_post_1 13 rfl rfl)
theorem dX4_post_38 : decode cX4_post 38 = .ok (.invokestatic 378, 3) := dk_184 1 122 (dk_at dksX4_post_1 14 rfl rfl)
theorem dX4_post_41 : decode cX4_post 41 = .ok (.ifCond .eq 10, 3) := dk_153 0 10 (dk_at dksX4_post_1 17 rfl rfl)
theorem dX4_post_44 : decode cX4_post 44 = .ok (.iload_n 3, 1) := dk_29 (dk_at dksX4_post_1 20 rfl rfl)
theorem dX4_post_45 : decode cX4_post 45 = .ok (.invokestatic 378, 3) := dk_184 1 122 (dk_at dksX4_post_1 21 rfl rfl)
theorem dX4_post_48 : decode cX4_post 48 = .ok (.ifCond .ne 7, 3) := dk_154 0 7 (dk_at dksX4_post_2 0 rfl rfl)
theorem dX4_post_51 : decode cX4_post 51 = .ok (.iconst 1, 1) := dk_4 (dk_at dksX4_post_2 3 rfl rfl)
theorem dX4_post_52 : decode cX4_post 52 = .ok (.goto 39, 3) := dk_167 0 39 (dk_at dksX4_post_2 4 rfl rfl)
theorem dX4_post_55 : decode cX4_post 55 = .ok (.iload 6, 2) := dk_21 6 (dk_at dksX4_post_2 7 rfl rfl)
theorem dX4_post_57 : decode cX4_post 57 = .ok (.ifCond .ne 7, 3) := dk_154 0 7 (dk_at dksX4_post_2 9 rfl rfl)
theorem dX4_post_60 : decode cX4_post 60 = .ok (.iconst 2, 1) := dk_5 (dk_at dksX4_post_2 12 rfl rfl)
theorem dX4_post_61 : decode cX4_post 61 = .ok (.goto 30, 3) := dk_167 0 30 (dk_at dksX4_post_2 13 rfl rfl)
theorem dX4_post_64 : decode cX4_post 64 = .ok (.iload_n 1, 1) := dk_27 (dk_at dksX4_post_2 16 rfl rfl)
theorem dX4_post_65 : decode cX4_post 65 = .ok (.aload_n 0, 1) := dk_42 (dk_at dksX4_post_2 17 rfl rfl)
theorem dX4_post_66 : decode cX4_post 66 = .ok (.getfield 164, 3) := dk_180 0 164 (dk_at dksX4_post_2 18 rfl rfl)
theorem dX4_post_69 : decode cX4_post 69 = .ok (.if_icmp .gt 7, 3) := dk_163 0 7 (dk_at dksX4_post_2 21 rfl rfl)
theorem dX4_post_72 : decode cX4_post 72 = .ok (.iconst 3, 1) := dk_6 (dk_at dksX4_post_3 0 rfl rfl)
theorem dX4_post_73 : decode cX4_post 73 = .ok (.goto 18, 3) := dk_167 0 18 (dk_at dksX4_post_3 1 rfl rfl)
theorem dX4_post_76 : decode cX4_post 76 = .ok (.aload_n 0, 1) := dk_42 (dk_at dksX4_post_3 4 rfl rfl)
theorem dX4_post_77 : decode cX4_post 77 = .ok (.getfield 375, 3) := dk_180 1 119 (dk_at dksX4_post_3 5 rfl rfl)
theorem dX4_post_80 : decode cX4_post 80 = .ok (.sipush 200, 3) := dk_17 0 200 (dk_at dksX4_post_3 8 rfl rfl)
theorem dX4_post_83 : decode cX4_post 83 = .ok (.if_icmp .ne 7, 3) := dk_160 0 7 (dk_at dksX4_post_3 11 rfl rfl)
theorem dX4_post_86 : decode cX4_post 86 = .ok (.iconst 4, 1) := dk_7 (dk_at dksX4_post_3 14 rfl rfl)
theorem dX4_post_87 : decode cX4_post 87 = .ok (.goto 4, 3) := dk_167 0 4 (dk_at dksX4_post_3 15 rfl rfl)
theorem dX4_post_90 : decode cX4_post 90 = .ok (.iconst 0, 1) := dk_3 (dk_at dksX4_post_3 18 rfl rfl)
theorem dX4_post_91 : decode cX4_post 91 = .ok (.invokevirtual 205, 3) := dk_182 0 205 (dk_at dksX4_post_3 19 rfl rfl)
theorem dX4_post_94 : decode cX4_post 94 = .ok (.ifCond .eq 5, 3) := dk_153 0 5 (dk_at dksX4_post_4 0 rfl rfl)
theorem dX4_post_97 : decode cX4_post 97 = .ok (.iconst 0, 1) := dk_3 (dk_at dksX4_post_4 3 rfl rfl)
theorem dX4_post_98 : decode cX4_post 98 = .ok (.ireturn, 1) := dk_172 (dk_at dksX4_post_4 4 rfl rfl)
theorem dX4_post_99 : decode cX4_post 99 = .ok (.aload_n 0, 1) := dk_42 (dk_at dksX4_post_4 5 rfl rfl)
theorem dX4_post_100 : decode cX4_post 100 = .ok (.iload_n 1, 1) := dk_27 (dk_at dksX4_post_4 6 rfl rfl)
theorem dX4_post_101 : decode cX4_post 101 = .ok (.iconst (-1), 1) := dk_2 (dk_at dksX4_post_4 7 rfl rfl)
theorem dX4_post_102 : decode cX4_post 102 = .ok (.invokevirtual 381, 3) := dk_182 1 125 (dk_at dksX4_post_4 8 rfl rfl)
theorem dX4_post_105 : decode cX4_post 105 = .ok (.aload_n 0, 1) := dk_42 (dk_at dksX4_post_4 11 rfl rfl)
theorem dX4_post_106 : decode cX4_post 106 = .ok (.iload_n 1, 1) := dk_27 (dk_at dksX4_post_4 12 rfl rfl)
theorem dX4_post_107 : decode cX4_post 107 = .ok (.iload_n 2, 1) := dk_28 (dk_at dksX4_post_4 13 rfl rfl)
theorem dX4_post_108 : decode cX4_post 108 = .ok (.iload_n 3, 1) := dk_29 (dk_at dksX4_post_4 14 rfl rfl)
theorem dX4_post_109 : decode cX4_post 109 = .ok (.lload 4, 2) := dk_22 4 (dk_at dksX4_post_4 15 rfl rfl)
theorem dX4_post_111 : decode cX4_post 111 = .ok (.invokevirtual 384, 3) := dk_182 1 128 (dk_at dksX4_post_4 17 rfl rfl)
theorem dX4_post_114 : decode cX4_post 114 = .ok (.aload_n 0, 1) := dk_42 (dk_at dksX4_post_4 20 rfl rfl)
theorem dX4_post_115 : decode cX4_post 115 = .ok (.getfield 375, 3) := dk_180 1 119 (dk_at dksX4_post_4 21 rfl rfl)
theorem dX4_post_118 : decode cX4_post 118 = .ok (.ireturn, 1) := dk_172 (dk_at dksX4_post_5 0 rfl rfl)
def dkwX4_isAccount_0 : List UInt8 := [26, 133, 9, 20, 1, 114, 184, 0, 182, 172]
abbrev dktX4_isAccount_0 : List UInt8 := dkwX4_isAccount_0 ++ []
theorem dksX4_isAccount_0 : cX4_isAccount.data.toList.drop 0 = dktX4_isAccount_0 := by decide +kernel
theorem dX4_isAccount_0 : decode cX4_isAccount 0 = .ok (.iload_n 0, 1) := dk_26 (dk_at dksX4_isAccount_0 0 rfl rfl)
theorem dX4_isAccount_1 : decode cX4_isAccount 1 = .ok (.i2l, 1) := dk_133 (dk_at dksX4_isAccount_0 1 rfl rfl)
theorem dX4_isAccount_2 : decode cX4_isAccount 2 = .ok (.lconst 0, 1) := dk_9 (dk_at dksX4_isAccount_0 2 rfl rfl)
theorem dX4_isAccount_3 : decode cX4_isAccount 3 = .ok (.ldc2_w 370, 3) := dk_20 1 114 (dk_at dksX4_isAccount_0 3 rfl rfl)
theorem dX4_isAccount_6 : decode cX4_isAccount 6 = .ok (.invokestatic 182, 3) := dk_184 0 182 (dk_at dksX4_isAccount_0 6 rfl rfl)
theorem dX4_isAccount_9 : decode cX4_isAccount 9 = .ok (.ireturn, 1) := dk_172 (dk_at dksX4_isAccount_0 9 rfl rfl)
def dkwX4_notes_1 : List UInt8 := [180, 0, 174, 42, 180, 1, 116, 28, 79, 42, 89, 180, 1, 116, 4, 96, 181, 1, 116, 177]
abbrev dktX4_notes_1 : List UInt8 := dkwX4_notes_1 ++ []
def dkwX4_notes_0 : List UInt8 := [42, 180, 0, 168, 42, 180, 1, 116, 42, 180, 1, 119, 79, 42, 180, 0, 171, 42, 180, 1, 116, 27, 79, 42]
abbrev dktX4_notes_0 : List UInt8 := dkwX4_notes_0 ++ dktX4_notes_1
theorem dksX4_notes_0 : cX4_notes.data.toList.drop 0 = dktX4_notes_0 := by decide +kernel
theorem dksX4_notes_1 : cX4_notes.data.toList.drop 24 = dktX4_notes_1 := dk_seg dksX4_notes_0 24 rfl rfl
theorem dX4_notes_0 : decode cX4_notes 0 = .ok (.aload_n 0, 1) := dk_42 (dk_at dksX4_notes_0 0 rfl rfl)
theorem dX4_notes_1 : decode cX4_notes 1 = .ok (.getfield 168, 3) := dk_180 0 168 (dk_at dksX4_notes_0 1 rfl rfl)
theorem dX4_notes_4 : decode cX4_notes 4 = .ok (.aload_n 0, 1) := dk_42 (dk_at dksX4_notes_0 4 rfl rfl)
theorem dX4_notes_5 : decode cX4_notes 5 = .ok (.getfield 372, 3) := dk_180 1 116 (dk_at dksX4_notes_0 5 rfl rfl)
theorem dX4_notes_8 : decode cX4_notes 8 = .ok (.aload_n 0, 1) := dk_42 (dk_at dksX4_notes_0 8 rfl rfl)
theorem dX4_notes_9 : decode cX4_notes 9 = .ok (.getfield 375, 3) := dk_180 1 119 (dk_at dksX4_notes_0 9 rfl rfl)
theorem dX4_notes_12 : decode cX4_notes 12 = .ok (.iastore, 1) := dk_79 (dk_at dksX4_notes_0 12 rfl rfl)
theorem dX4_notes_13 : decode cX4_notes 13 = .ok (.aload_n 0, 1) := dk_42 (dk_at dksX4_notes_0 13 rfl rfl)
theorem dX4_notes_14 : decode cX4_notes 14 = .ok (.getfield 171, 3) := dk_180 0 171 (dk_at dksX4_notes_0 14 rfl rfl)
theorem dX4_notes_17 : decode cX4_notes 17 = .ok (.aload_n 0, 1) := dk_42 (dk_at dksX4_notes_0 17 rfl rfl)
theorem dX4_notes_18 : decode cX4_notes 18 = .ok (.getfield 372, 3) := dk_180 1 116 (dk_at dksX4_notes_0 18 rfl rfl)
theorem dX4_notes_21 : decode cX4_notes 21 = .ok (.iload_n 1, 1) := dk_27 (dk_at dksX4_notes_0 21 rfl rfl)
theorem dX4_notes_22 : decode cX4_notes 22 = .ok (.iastore, 1) := dk_79 (dk_at dksX4_notes_0 22 rfl rfl)
theorem dX4_notes_23 : decode cX4_notes 23 = .ok (.aload_n 0, 1) := dk_42 (dk_at dksX4_notes_0 23 rfl rfl)
theorem dX4_notes_24 : decode cX4_notes 24 = .ok (.getfield 174, 3) := dk_180 0 174 (dk_at dksX4_notes_1 0 rfl rfl)
theorem dX4_notes_27 : decode cX4_notes 27 = .ok (.aload_n 0, 1) := dk_42 (dk_at dksX4_notes_1 3 rfl rfl)
theorem dX4_notes_28 : decode cX4_notes 28 = .ok (.getfield 372, 3) := dk_180 1 116 (dk_at dksX4_notes_1 4 rfl rfl)
theorem dX4_notes_31 : decode cX4_notes 31 = .ok (.iload_n 2, 1) := dk_28 (dk_at dksX4_notes_1 7 rfl rfl)
theorem dX4_notes_32 : decode cX4_notes 32 = .ok (.iastore, 1) := dk_79 (dk_at dksX4_notes_1 8 rfl rfl)
theorem dX4_notes_33 : decode cX4_notes 33 = .ok (.aload_n 0, 1) := dk_42 (dk_at dksX4_notes_1 9 rfl rfl)
theorem dX4_notes_34 : decode cX4_notes 34 = .ok (.dup, 1) := dk_89 (dk_at dksX4_notes_1 10 rfl rfl)
theorem dX4_notes_35 : decode cX4_notes 35 = .ok (.getfield 372, 3) := dk_180 1 116 (dk_at dksX4_notes_1 11 rfl rfl)
theorem dX4_notes_38 : decode cX4_notes 38 = .ok (.iconst 1, 1) := dk_4 (dk_at dksX4_notes_1 14 rfl rfl)
theorem dX4_notes_39 : decode cX4_notes 39 = .ok (.iadd, 1) := dk_96 (dk_at dksX4_notes_1 15 rfl rfl)
theorem dX4_notes_40 : decode cX4_notes 40 = .ok (.putfield 372, 3) := dk_181 1 116 (dk_at dksX4_notes_1 16 rfl rfl)
theorem dX4_notes_43 : decode cX4_notes 43 = .ok (.return_, 1) := dk_177 (dk_at dksX4_notes_1 19 rfl rfl)
def dkwX4_enters_2 : List UInt8 := [181, 1, 119, 177]
abbrev dktX4_enters_2 : List UInt8 := dkwX4_enters_2 ++ []
def dkwX4_enters_1 : List UInt8 := [42, 180, 1, 119, 29, 79, 42, 180, 0, 161, 42, 180, 1, 119, 22, 4, 80, 42, 89, 180, 1, 119, 4, 96]
abbrev dktX4_enters_1 : List UInt8 := dkwX4_enters_1 ++ dktX4_enters_2
def dkwX4_enters_0 : List UInt8 := [42, 180, 0, 152, 42, 180, 1, 119, 27, 79, 42, 180, 0, 155, 42, 180, 1, 119, 28, 79, 42, 180, 0, 158]
abbrev dktX4_enters_0 : List UInt8 := dkwX4_enters_0 ++ dktX4_enters_1
theorem dksX4_enters_0 : cX4_enters.data.toList.drop 0 = dktX4_enters_0 := by decide +kernel
theorem dksX4_enters_1 : cX4_enters.data.toList.drop 24 = dktX4_enters_1 := dk_seg dksX4_enters_0 24 rfl rfl
theorem dksX4_enters_2 : cX4_enters.data.toList.drop 48 = dktX4_enters_2 := dk_seg dksX4_enters_1 24 rfl rfl
theorem dX4_enters_0 : decode cX4_enters 0 = .ok (.aload_n 0, 1) := dk_42 (dk_at dksX4_enters_0 0 rfl rfl)
theorem dX4_enters_1 : decode cX4_enters 1 = .ok (.getfield 152, 3) := dk_180 0 152 (dk_at dksX4_enters_0 1 rfl rfl)
theorem dX4_enters_4 : decode cX4_enters 4 = .ok (.aload_n 0, 1) := dk_42 (dk_at dksX4_enters_0 4 rfl rfl)
theorem dX4_enters_5 : decode cX4_enters 5 = .ok (.getfield 375, 3) := dk_180 1 119 (dk_at dksX4_enters_0 5 rfl rfl)
theorem dX4_enters_8 : decode cX4_enters 8 = .ok (.iload_n 1, 1) := dk_27 (dk_at dksX4_enters_0 8 rfl rfl)
theorem dX4_enters_9 : decode cX4_enters 9 = .ok (.iastore, 1) := dk_79 (dk_at dksX4_enters_0 9 rfl rfl)
theorem dX4_enters_10 : decode cX4_enters 10 = .ok (.aload_n 0, 1) := dk_42 (dk_at dksX4_enters_0 10 rfl rfl)
theorem dX4_enters_11 : decode cX4_enters 11 = .ok (.getfield 155, 3) := dk_180 0 155 (dk_at dksX4_enters_0 11 rfl rfl)
theorem dX4_enters_14 : decode cX4_enters 14 = .ok (.aload_n 0, 1) := dk_42 (dk_at dksX4_enters_0 14 rfl rfl)
theorem dX4_enters_15 : decode cX4_enters 15 = .ok (.getfield 375, 3) := dk_180 1 119 (dk_at dksX4_enters_0 15 rfl rfl)
theorem dX4_enters_18 : decode cX4_enters 18 = .ok (.iload_n 2, 1) := dk_28 (dk_at dksX4_enters_0 18 rfl rfl)
theorem dX4_enters_19 : decode cX4_enters 19 = .ok (.iastore, 1) := dk_79 (dk_at dksX4_enters_0 19 rfl rfl)
theorem dX4_enters_20 : decode cX4_enters 20 = .ok (.aload_n 0, 1) := dk_42 (dk_at dksX4_enters_0 20 rfl rfl)
theorem dX4_enters_21 : decode cX4_enters 21 = .ok (.getfield 158, 3) := dk_180 0 158 (dk_at dksX4_enters_0 21 rfl rfl)
theorem dX4_enters_24 : decode cX4_enters 24 = .ok (.aload_n 0, 1) := dk_42 (dk_at dksX4_enters_1 0 rfl rfl)
theorem dX4_enters_25 : decode cX4_enters 25 = .ok (.getfield 375, 3) := dk_180 1 119 (dk_at dksX4_enters_1 1 rfl rfl)
theorem dX4_enters_28 : decode cX4_enters 28 = .ok (.iload_n 3, 1) := dk_29 (dk_at dksX4_enters_1 4 rfl rfl)
theorem dX4_enters_29 : decode cX4_enters 29 = .ok (.iastore, 1) := dk_79 (dk_at dksX4_enters_1 5 rfl rfl)
theorem dX4_enters_30 : decode cX4_enters 30 = .ok (.aload_n 0, 1) := dk_42 (dk_at dksX4_enters_1 6 rfl rfl)
theorem dX4_enters_31 : decode cX4_enters 31 = .ok (.getfield 161, 3) := dk_180 0 161 (dk_at dksX4_enters_1 7 rfl rfl)
theorem dX4_enters_34 : decode cX4_enters 34 = .ok (.aload_n 0, 1) := dk_42 (dk_at dksX4_enters_1 10 rfl rfl)
theorem dX4_enters_35 : decode cX4_enters 35 = .ok (.getfield 375, 3) := dk_180 1 119 (dk_at dksX4_enters_1 11 rfl rfl)
theorem dX4_enters_38 : decode cX4_enters 38 = .ok (.lload 4, 2) := dk_22 4 (dk_at dksX4_enters_1 14 rfl rfl)
theorem dX4_enters_40 : decode cX4_enters 40 = .ok (.lastore, 1) := dk_80 (dk_at dksX4_enters_1 16 rfl rfl)
theorem dX4_enters_41 : decode cX4_enters 41 = .ok (.aload_n 0, 1) := dk_42 (dk_at dksX4_enters_1 17 rfl rfl)
theorem dX4_enters_42 : decode cX4_enters 42 = .ok (.dup, 1) := dk_89 (dk_at dksX4_enters_1 18 rfl rfl)
theorem dX4_enters_43 : decode cX4_enters 43 = .ok (.getfield 375, 3) := dk_180 1 119 (dk_at dksX4_enters_1 19 rfl rfl)
theorem dX4_enters_46 : decode cX4_enters 46 = .ok (.iconst 1, 1) := dk_4 (dk_at dksX4_enters_1 22 rfl rfl)
theorem dX4_enters_47 : decode cX4_enters 47 = .ok (.iadd, 1) := dk_96 (dk_at dksX4_enters_1 23 rfl rfl)
theorem dX4_enters_48 : decode cX4_enters 48 = .ok (.putfield 375, 3) := dk_181 1 119 (dk_at dksX4_enters_2 0 rfl rfl)
theorem dX4_enters_51 : decode cX4_enters 51 = .ok (.return_, 1) := dk_177 (dk_at dksX4_enters_2 3 rfl rfl)
def dkwX4_book_12 : List UInt8 := [172]
abbrev dktX4_book_12 : List UInt8 := dkwX4_book_12 ++ []
def dkwX4_book_11 : List UInt8 := [148, 158, 0, 19, 42, 42, 180, 0, 104, 27, 46, 4, 6, 22, 4, 32, 101, 182, 1, 128, 42, 180, 1, 119]
abbrev dktX4_book_11 : List UInt8 := dkwX4_book_11 ++ dktX4_book_12
def dkwX4_book_10 : List UInt8 := [4, 84, 32, 9, 148, 158, 0, 16, 42, 42, 180, 0, 104, 27, 46, 4, 5, 32, 182, 1, 128, 22, 4, 32]
abbrev dktX4_book_10 : List UInt8 := dkwX4_book_10 ++ dktX4_book_11
def dkwX4_book_9 : List UInt8 := [182, 0, 205, 153, 0, 5, 3, 172, 42, 42, 180, 0, 104, 27, 46, 27, 182, 1, 125, 42, 180, 0, 116, 27]
abbrev dktX4_book_9 : List UInt8 := dkwX4_book_9 ++ dktX4_book_10
def dkwX4_book_8 : List UInt8 := [7, 167, 0, 21, 42, 180, 1, 119, 21, 6, 96, 17, 0, 200, 164, 0, 7, 8, 167, 0, 4, 3]
abbrev dktX4_book_8 : List UInt8 := dkwX4_book_8 ++ dktX4_book_9
def dkwX4_book_7 : List UInt8 := [42, 180, 0, 47, 154, 0, 20, 32, 20, 1, 40, 148, 157, 0, 12, 22, 4, 20, 1, 40, 148, 158, 0, 7]
abbrev dktX4_book_7 : List UInt8 := dkwX4_book_7 ++ dktX4_book_8
def dkwX4_book_6 : List UInt8 := [158, 0, 7, 4, 167, 0, 4, 3, 22, 4, 32, 148, 158, 0, 7, 4, 167, 0, 4, 3, 96, 54, 6, 42]
abbrev dktX4_book_6 : List UInt8 := dkwX4_book_6 ++ dktX4_book_7
def dkwX4_book_5 : List UInt8 := [3, 32, 182, 1, 46, 65, 42, 42, 180, 0, 107, 27, 46, 3, 22, 4, 182, 1, 46, 55, 4, 32, 9, 148]
abbrev dktX4_book_5 : List UInt8 := dkwX4_book_5 ++ dktX4_book_6
def dkwX4_book_4 : List UInt8 := [42, 27, 182, 1, 95, 97, 55, 4, 42, 180, 0, 107, 27, 46, 158, 0, 31, 42, 42, 180, 0, 107, 27, 46]
abbrev dktX4_book_4 : List UInt8 := dkwX4_book_4 ++ dktX4_book_5
def dkwX4_book_3 : List UInt8 := [167, 0, 4, 3, 182, 0, 205, 153, 0, 5, 3, 172, 42, 3, 181, 0, 47, 42, 27, 182, 1, 92, 65, 32]
abbrev dktX4_book_3 : List UInt8 := dkwX4_book_3 ++ dktX4_book_4
def dkwX4_book_2 : List UInt8 := [158, 0, 25, 42, 180, 0, 80, 7, 42, 180, 0, 107, 27, 46, 104, 47, 9, 148, 154, 0, 7, 6]
abbrev dktX4_book_2 : List UInt8 := dkwX4_book_2 ++ dktX4_book_3
def dkwX4_book_1 : List UInt8 := [180, 0, 104, 27, 46, 42, 180, 0, 164, 163, 0, 7, 5, 167, 0, 35, 42, 180, 0, 107, 27, 46]
abbrev dktX4_book_1 : List UInt8 := dkwX4_book_1 ++ dktX4_book_2
def dkwX4_book_0 : List UInt8 := [42, 42, 27, 182, 1, 73, 154, 0, 7, 4, 167, 0, 61, 42, 180, 0, 116, 27, 51, 154, 0, 16, 42]
abbrev dktX4_book_0 : List UInt8 := dkwX4_book_0 ++ dktX4_book_1
theorem dksX4_book_0 : cX4_book.data.toList.drop 0 = dktX4_book_0 := by decide +kernel
theorem dksX4_book_1 : cX4_book.data.toList.drop 23 = dktX4_book_1 := dk_seg dksX4_book_0 23 rfl rfl
theorem dksX4_book_2 : cX4_book.data.toList.drop 45 = dktX4_book_2 := dk_seg dksX4_book_1 22 rfl rfl
theorem dksX4_book_3 : cX4_book.data.toList.drop 67 = dktX4_book_3 := dk_seg dksX4_book_2 22 rfl rfl
theorem dksX4_book_4 : cX4_book.data.toList.drop 91 = dktX4_book_4 := dk_seg dksX4_book_3 24 rfl rfl
theorem dksX4_book_5 : cX4_book.data.toList.drop 115 = dktX4_book_5 := dk_seg dksX4_book_4 24 rfl rfl
theorem dksX4_book_6 : cX4_book.data.toList.drop 139 = dktX4_book_6 := dk_seg dksX4_book_5 24 rfl rfl
theorem dksX4_book_7 : cX4_book.data.toList.drop 163 = dktX4_book_7 := dk_seg dksX4_book_6 24 rfl rfl
theorem dksX4_book_8 : cX4_book.data.toList.drop 187 = dktX4_book_8 := dk_seg dksX4_book_7 24 rfl rfl
theorem dksX4_book_9 : cX4_book.data.toList.drop 209 = dktX4_book_9 := dk_seg dksX4_book_8 22 rfl rfl
theorem dksX4_book_10 : cX4_book.data.toList.drop 233 = dktX4_book_10 := dk_seg dksX4_book_9 24 rfl rfl
theorem dksX4_book_11 : cX4_book.data.toList.drop 257 = dktX4_book_11 := dk_seg dksX4_book_10 24 rfl rfl
theorem dksX4_book_12 : cX4_book.data.toList.drop 281 = dktX4_book_12 := dk_seg dksX4_book_11 24 rfl rfl
theorem dX4_book_0 : decode cX4_book 0 = .ok (.aload_n 0, 1) := dk_42 (dk_at dksX4_book_0 0 rfl rfl)
theorem dX4_book_1 : decode cX4_book 1 = .ok (.aload_n 0, 1) := dk_42 (dk_at dksX4_book_0 1 rfl rfl)
theorem dX4_book_2 : decode cX4_book 2 = .ok (.iload_n 1, 1) := dk_27 (dk_at dksX4_book_0 2 rfl rfl)
theorem dX4_book_3 : decode cX4_book 3 = .ok (.invokevirtual 329, 3) := dk_182 1 73 (dk_at dksX4_book_0 3 rfl rfl)
theorem dX4_book_6 : decode cX4_book 6 = .ok (.ifCond .ne 7, 3) := dk_154 0 7 (dk_at dksX4_book_0 6 rfl rfl)
theorem dX4_book_9 : decode cX4_book 9 = .ok (.iconst 1, 1) := dk_4 (dk_at dksX4_book_0 9 rfl rfl)
theorem dX4_book_10 : decode cX4_book 10 = .ok (.goto 61, 3) := dk_167 0 61 (dk_at dksX4_book_0 10 rfl rfl)
theorem dX4_book_13 : decode cX4_book 13 = .ok (.aload_n 0, 1) := dk_42 (dk_at dksX4_book_0 13 rfl rfl)
theorem dX4_book_14 : decode cX4_book 14 = .ok (.getfield 116, 3) := dk_180 0 116 (dk_at dksX4_book_0 14 rfl rfl)
theorem dX4_book_17 : decode cX4_book 17 = .ok (.iload_n 1, 1) := dk_27 (dk_at dksX4_book_0 17 rfl rfl)
theorem dX4_book_18 : decode cX4_book 18 = .ok (.baload, 1) := dk_51 (dk_at dksX4_book_0 18 rfl rfl)
theorem dX4_book_19 : decode cX4_book 19 = .ok (.ifCond .ne 16, 3) := dk_154 0 16 (dk_at dksX4_book_0 19 rfl rfl)
theorem dX4_book_22 : decode cX4_book 22 = .ok (.aload_n 0, 1) := dk_42 (dk_at dksX4_book_0 22 rfl rfl)
theorem dX4_book_23 : decode cX4_book 23 = .ok (.getfield 104, 3) := dk_180 0 104 (dk_at dksX4_book_1 0 rfl rfl)
theorem dX4_book_26 : decode cX4_book 26 = .ok (.iload_n 1, 1) := dk_27 (dk_at dksX4_book_1 3 rfl rfl)
theorem dX4_book_27 : decode cX4_book 27 = .ok (.iaload, 1) := dk_46 (dk_at dksX4_book_1 4 rfl rfl)
theorem dX4_book_28 : decode cX4_book 28 = .ok (.aload_n 0, 1) := dk_42 (dk_at dksX4_book_1 5 rfl rfl)
theorem dX4_book_29 : decode cX4_book 29 = .ok (.getfield 164, 3) := dk_180 0 164 (dk_at dksX4_book_1 6 rfl rfl)
theorem dX4_book_32 : decode cX4_book 32 = .ok (.if_icmp .gt 7, 3) := dk_163 0 7 (dk_at dksX4_book_1 9 rfl rfl)
theorem dX4_book_35 : decode cX4_book 35 = .ok (.iconst 2, 1) := dk_5 (dk_at dksX4_book_1 12 rfl rfl)
theorem dX4_book_36 : decode cX4_book 36 = .ok (.goto 35, 3) := dk_167 0 35 (dk_at dksX4_book_1 13 rfl rfl)
theorem dX4_book_39 : decode cX4_book 39 = .ok (.aload_n 0, 1) := dk_42 (dk_at dksX4_book_1 16 rfl rfl)
theorem dX4_book_40 : decode cX4_book 40 = .ok (.getfield 107, 3) := dk_180 0 107 (dk_at dksX4_book_1 17 rfl rfl)
theorem dX4_book_43 : decode cX4_book 43 = .ok (.iload_n 1, 1) := dk_27 (dk_at dksX4_book_1 20 rfl rfl)
theorem dX4_book_44 : decode cX4_book 44 = .ok (.iaload, 1) := dk_46 (dk_at dksX4_book_1 21 rfl rfl)
theorem dX4_book_45 : decode cX4_book 45 = .ok (.ifCond .le 25, 3) := dk_158 0 25 (dk_at dksX4_book_2 0 rfl rfl)
theorem dX4_book_48 : decode cX4_book 48 = .ok (.aload_n 0, 1) := dk_42 (dk_at dksX4_book_2 3 rfl rfl)
theorem dX4_book_49 : decode cX4_book 49 = .ok (.getfield 80, 3) := dk_180 0 80 (dk_at dksX4_book_2 4 rfl rfl)
theorem dX4_book_52 : decode cX4_book 52 = .ok (.iconst 4, 1) := dk_7 (dk_at dksX4_book_2 7 rfl rfl)
theorem dX4_book_53 : decode cX4_book 53 = .ok (.aload_n 0, 1) := dk_42 (dk_at dksX4_book_2 8 rfl rfl)
theorem dX4_book_54 : decode cX4_book 54 = .ok (.getfield 107, 3) := dk_180 0 107 (dk_at dksX4_book_2 9 rfl rfl)
theorem dX4_book_57 : decode cX4_book 57 = .ok (.iload_n 1, 1) := dk_27 (dk_at dksX4_book_2 12 rfl rfl)
theorem dX4_book_58 : decode cX4_book 58 = .ok (.iaload, 1) := dk_46 (dk_at dksX4_book_2 13 rfl rfl)
theorem dX4_book_59 : decode cX4_book 59 = .ok (.imul, 1) := dk_104 (dk_at dksX4_book_2 14 rfl rfl)
theorem dX4_book_60 : decode cX4_book 60 = .ok (.laload, 1) := dk_47 (dk_at dksX4_book_2 15 rfl rfl)
theorem dX4_book_61 : decode cX4_book 61 = .ok (.lconst 0, 1) := dk_9 (dk_at dksX4_book_2 16 rfl rfl)
theorem dX4_book_62 : decode cX4_book 62 = .ok (.lcmp, 1) := dk_148 (dk_at dksX4_book_2 17 rfl rfl)
theorem dX4_book_63 : decode cX4_book 63 = .ok (.ifCond .ne 7, 3) := dk_154 0 7 (dk_at dksX4_book_2 18 rfl rfl)
theorem dX4_book_66 : decode cX4_book 66 = .ok (.iconst 3, 1) := dk_6 (dk_at dksX4_book_2 21 rfl rfl)
theorem dX4_book_67 : decode cX4_book 67 = .ok (.goto 4, 3) := dk_167 0 4 (dk_at dksX4_book_3 0 rfl rfl)
theorem dX4_book_70 : decode cX4_book 70 = .ok (.iconst 0, 1) := dk_3 (dk_at dksX4_book_3 3 rfl rfl)
theorem dX4_book_71 : decode cX4_book 71 = .ok (.invokevirtual 205, 3) := dk_182 0 205 (dk_at dksX4_book_3 4 rfl rfl)
theorem dX4_book_74 : decode cX4_book 74 = .ok (.ifCond .eq 5, 3) := dk_153 0 5 (dk_at dksX4_book_3 7 rfl rfl)
theorem dX4_book_77 : decode cX4_book 77 = .ok (.iconst 0, 1) := dk_3 (dk_at dksX4_book_3 10 rfl rfl)
theorem dX4_book_78 : decode cX4_book 78 = .ok (.ireturn, 1) := dk_172 (dk_at dksX4_book_3 11 rfl rfl)
theorem dX4_book_79 : decode cX4_book 79 = .ok (.aload_n 0, 1) := dk_42 (dk_at dksX4_book_3 12 rfl rfl)
theorem dX4_book_80 : decode cX4_book 80 = .ok (.iconst 0, 1) := dk_3 (dk_at dksX4_book_3 13 rfl rfl)
theorem dX4_book_81 : decode cX4_book 81 = .ok (.putfield 47, 3) := dk_181 0 47 (dk_at dksX4_book_3 14 rfl rfl)
theorem dX4_book_84 : decode cX4_book 84 = .ok (.aload_n 0, 1) := dk_42 (dk_at dksX4_book_3 17 rfl rfl)
theorem dX4_book_85 : decode cX4_book 85 = .ok (.iload_n 1, 1) := dk_27 (dk_at dksX4_book_3 18 rfl rfl)
theorem dX4_book_86 : decode cX4_book 86 = .ok (.invokevirtual 348, 3) := dk_182 1 92 (dk_at dksX4_book_3 19 rfl rfl)
theorem dX4_book_89 : decode cX4_book 89 = .ok (.lstore_n 2, 1) := dk_65 (dk_at dksX4_book_3 22 rfl rfl)
theorem dX4_book_90 : decode cX4_book 90 = .ok (.lload_n 2, 1) := dk_32 (dk_at dksX4_book_3 23 rfl rfl)
theorem dX4_book_91 : decode cX4_book 91 = .ok (.aload_n 0, 1) := dk_42 (dk_at dksX4_book_4 0 rfl rfl)
theorem dX4_book_92 : decode cX4_book 92 = .ok (.iload_n 1, 1) := dk_27 (dk_at dksX4_book_4 1 rfl rfl)
theorem dX4_book_93 : decode cX4_book 93 = .ok (.invokevirtual 351, 3) := dk_182 1 95 (dk_at dksX4_book_4 2 rfl rfl)
theorem dX4_book_96 : decode cX4_book 96 = .ok (.ladd, 1) := dk_97 (dk_at dksX4_book_4 5 rfl rfl)
theorem dX4_book_97 : decode cX4_book 97 = .ok (.lstore 4, 2) := dk_55 4 (dk_at dksX4_book_4 6 rfl rfl)
theorem dX4_book_99 : decode cX4_book 99 = .ok (.aload_n 0, 1) := dk_42 (dk_at dksX4_book_4 8 rfl rfl)
theorem dX4_book_100 : decode cX4_book 100 = .ok (.getfield 107, 3) := dk_180 0 107 (dk_at dksX4_book_4 9 rfl rfl)
theorem dX4_book_103 : decode cX4_book 103 = .ok (.iload_n 1, 1) := dk_27 (dk_at dksX4_book_4 12 rfl rfl)
theorem dX4_book_104 : decode cX4_book 104 = .ok (.iaload, 1) := dk_46 (dk_at dksX4_book_4 13 rfl rfl)
theorem dX4_book_105 : decode cX4_book 105 = .ok (.ifCond .le 31, 3) := dk_158 0 31 (dk_at dksX4_book_4 14 rfl rfl)
theorem dX4_book_108 : decode cX4_book 108 = .ok (.aload_n 0, 1) := dk_42 (dk_at dksX4_book_4 17 rfl rfl)
theorem dX4_book_109 : decode cX4_book 109 = .ok (.aload_n 0, 1) := dk_42 (dk_at dksX4_book_4 18 rfl rfl)
theorem dX4_book_110 : decode cX4_book 110 = .ok (.getfield 107, 3) := dk_180 0 107 (dk_at dksX4_book_4 19 rfl rfl)
theorem dX4_book_113 : decode cX4_book 113 = .ok (.iload_n 1, 1) := dk_27 (dk_at dksX4_book_4 22 rfl rfl)
theorem dX4_book_114 : decode cX4_book 114 = .ok (.iaload, 1) := dk_46 (dk_at dksX4_book_4 23 rfl rfl)
theorem dX4_book_115 : decode cX4_book 115 = .ok (.iconst 0, 1) := dk_3 (dk_at dksX4_book_5 0 rfl rfl)
theorem dX4_book_116 : decode cX4_book 116 = .ok (.lload_n 2, 1) := dk_32 (dk_at dksX4_book_5 1 rfl rfl)
theorem dX4_book_117 : decode cX4_book 117 = .ok (.invokevirtual 302, 3) := dk_182 1 46 (dk_at dksX4_book_5 2 rfl rfl)
theorem dX4_book_120 : decode cX4_book 120 = .ok (.lstore_n 2, 1) := dk_65 (dk_at dksX4_book_5 5 rfl rfl)
theorem dX4_book_121 : decode cX4_book 121 = .ok (.aload_n 0, 1) := dk_42 (dk_at dksX4_book_5 6 rfl rfl)
theorem dX4_book_122 : decode cX4_book 122 = .ok (.aload_n 0, 1) := dk_42 (dk_at dksX4_book_5 7 rfl rfl)
theorem dX4_book_123 : decode cX4_book 123 = .ok (.getfield 107, 3) := dk_180 0 107 (dk_at dksX4_book_5 8 rfl rfl)
theorem dX4_book_126 : decode cX4_book 126 = .ok (.iload_n 1, 1) := dk_27 (dk_at dksX4_book_5 11 rfl rfl)
theorem dX4_book_127 : decode cX4_book 127 = .ok (.iaload, 1) := dk_46 (dk_at dksX4_book_5 12 rfl rfl)
theorem dX4_book_128 : decode cX4_book 128 = .ok (.iconst 0, 1) := dk_3 (dk_at dksX4_book_5 13 rfl rfl)
theorem dX4_book_129 : decode cX4_book 129 = .ok (.lload 4, 2) := dk_22 4 (dk_at dksX4_book_5 14 rfl rfl)
theorem dX4_book_131 : decode cX4_book 131 = .ok (.invokevirtual 302, 3) := dk_182 1 46 (dk_at dksX4_book_5 16 rfl rfl)
theorem dX4_book_134 : decode cX4_book 134 = .ok (.lstore 4, 2) := dk_55 4 (dk_at dksX4_book_5 19 rfl rfl)
theorem dX4_book_136 : decode cX4_book 136 = .ok (.lload_n 2, 1) := dk_32 (dk_at dksX4_book_5 21 rfl rfl)
theorem dX4_book_137 : decode cX4_book 137 = .ok (.lconst 0, 1) := dk_9 (dk_at dksX4_book_5 22 rfl rfl)
theorem dX4_book_138 : decode cX4_book 138 = .ok (.lcmp, 1) := dk_148 (dk_at dksX4_book_5 23 rfl rfl)
theorem dX4_book_139 : decode cX4_book 139 = .ok (.ifCond .le 7, 3) := dk_158 0 7 (dk_at dksX4_book_6 0 rfl rfl)
theorem dX4_book_142 : decode cX4_book 142 = .ok (.iconst 1, 1) := dk_4 (dk_at dksX4_book_6 3 rfl rfl)
theorem dX4_book_143 : decode cX4_book 143 = .ok (.goto 4, 3) := dk_167 0 4 (dk_at dksX4_book_6 4 rfl rfl)
theorem dX4_book_146 : decode cX4_book 146 = .ok (.iconst 0, 1) := dk_3 (dk_at dksX4_book_6 7 rfl rfl)
theorem dX4_book_147 : decode cX4_book 147 = .ok (.lload 4, 2) := dk_22 4 (dk_at dksX4_book_6 8 rfl rfl)
theorem dX4_book_149 : decode cX4_book 149 = .ok (.lload_n 2, 1) := dk_32 (dk_at dksX4_book_6 10 rfl rfl)
theorem dX4_book_150 : decode cX4_book 150 = .ok (.lcmp, 1) := dk_148 (dk_at dksX4_book_6 11 rfl rfl)
theorem dX4_book_151 : decode cX4_book 151 = .ok (.ifCond .le 7, 3) := dk_158 0 7 (dk_at dksX4_book_6 12 rfl rfl)
theorem dX4_book_154 : decode cX4_book 154 = .ok (.iconst 1, 1) := dk_4 (dk_at dksX4_book_6 15 rfl rfl)
theorem dX4_book_155 : decode cX4_book 155 = .ok (.goto 4, 3) := dk_167 0 4 (dk_at dksX4_book_6 16 rfl rfl)
theorem dX4_book_158 : decode cX4_book 158 = .ok (.iconst 0, 1) := dk_3 (dk_at dksX4_book_6 19 rfl rfl)
theorem dX4_book_159 : decode cX4_book 159 = .ok (.iadd, 1) := dk_96 (dk_at dksX4_book_6 20 rfl rfl)
theorem dX4_book_160 : decode cX4_book 160 = .ok (.istore 6, 2) := dk_54 6 (dk_at dksX4_book_6 21 rfl rfl)
theorem dX4_book_162 : decode cX4_book 162 = .ok (.aload_n 0, 1) := dk_42 (dk_at dksX4_book_6 23 rfl rfl)
theorem dX4_book_163 : decode cX4_book 163 = .ok (.aload_n 0, 1) := dk_42 (dk_at dksX4_book_7 0 rfl rfl)
theorem dX4_book_164 : decode cX4_book 164 = .ok (.getfield 47, 3) := dk_180 0 47 (dk_at dksX4_book_7 1 rfl rfl)
theorem dX4_book_167 : decode cX4_book 167 = .ok (.ifCond .ne 20, 3) := dk_154 0 20 (dk_at dksX4_book_7 4 rfl rfl)
theorem dX4_book_170 : decode cX4_book 170 = .ok (.lload_n 2, 1) := dk_32 (dk_at dksX4_book_7 7 rfl rfl)
theorem dX4_book_171 : decode cX4_book 171 = .ok (.ldc2_w 296, 3) := dk_20 1 40 (dk_at dksX4_book_7 8 rfl rfl)
theorem dX4_book_174 : decode cX4_book 174 = .ok (.lcmp, 1) := dk_148 (dk_at dksX4_book_7 11 rfl rfl)
theorem dX4_book_175 : decode cX4_book 175 = .ok (.ifCond .gt 12, 3) := dk_157 0 12 (dk_at dksX4_book_7 12 rfl rfl)
theorem dX4_book_178 : decode cX4_book 178 = .ok (.lload 4, 2) := dk_22 4 (dk_at dksX4_book_7 15 rfl rfl)
theorem dX4_book_180 : decode cX4_book 180 = .ok (.ldc2_w 296, 3) := dk_20 1 40 (dk_at dksX4_book_7 17 rfl rfl)
theorem dX4_book_183 : decode cX4_book 183 = .ok (.lcmp, 1) := dk_148 (dk_at dksX4_book_7 20 rfl rfl)
theorem dX4_book_184 : decode cX4_book 184 = .ok (.ifCond .le 7, 3) := dk_158 0 7 (dk_at dksX4_book_7 21 rfl rfl)
theorem dX4_book_187 : decode cX4_book 187 = .ok (.iconst 4, 1) := dk_7 (dk_at dksX4_book_8 0 rfl rfl)
theorem dX4_book_188 : decode cX4_book 188 = .ok (.goto 21, 3) := dk_167 0 21 (dk_at dksX4_book_8 1 rfl rfl)
theorem dX4_book_191 : decode cX4_book 191 = .ok (.aload_n 0, 1) := dk_42 (dk_at dksX4_book_8 4 rfl rfl)
theorem dX4_book_192 : decode cX4_book 192 = .ok (.getfield 375, 3) := dk_180 1 119 (dk_at dksX4_book_8 5 rfl rfl)
theorem dX4_book_195 : decode cX4_book 195 = .ok (.iload 6, 2) := dk_21 6 (dk_at dksX4_book_8 8 rfl rfl)
theorem dX4_book_197 : decode cX4_book 197 = .ok (.iadd, 1) := dk_96 (dk_at dksX4_book_8 10 rfl rfl)
theorem dX4_book_198 : decode cX4_book 198 = .ok (.sipush 200, 3) := dk_17 0 200 (dk_at dksX4_book_8 11 rfl rfl)
theorem dX4_book_201 : decode cX4_book 201 = .ok (.if_icmp .le 7, 3) := dk_164 0 7 (dk_at dksX4_book_8 14 rfl rfl)
theorem dX4_book_204 : decode cX4_book 204 = .ok (.iconst 5, 1) := dk_8 (dk_at dksX4_book_8 17 rfl rfl)
theorem dX4_book_205 : decode cX4_book 205 = .ok (.goto 4, 3) := dk_167 0 4 (dk_at dksX4_book_8 18 rfl rfl)
theorem dX4_book_208 : decode cX4_book 208 = .ok (.iconst 0, 1) := dk_3 (dk_at dksX4_book_8 21 rfl rfl)
theorem dX4_book_209 : decode cX4_book 209 = .ok (.invokevirtual 205, 3) := dk_182 0 205 (dk_at dksX4_book_9 0 rfl rfl)
theorem dX4_book_212 : decode cX4_book 212 = .ok (.ifCond .eq 5, 3) := dk_153 0 5 (dk_at dksX4_book_9 3 rfl rfl)
theorem dX4_book_215 : decode cX4_book 215 = .ok (.iconst 0, 1) := dk_3 (dk_at dksX4_book_9 6 rfl rfl)
theorem dX4_book_216 : decode cX4_book 216 = .ok (.ireturn, 1) := dk_172 (dk_at dksX4_book_9 7 rfl rfl)
theorem dX4_book_217 : decode cX4_book 217 = .ok (.aload_n 0, 1) := dk_42 (dk_at dksX4_book_9 8 rfl rfl)
theorem dX4_book_218 : decode cX4_book 218 = .ok (.aload_n 0, 1) := dk_42 (dk_at dksX4_book_9 9 rfl rfl)
theorem dX4_book_219 : decode cX4_book 219 = .ok (.getfield 104, 3) := dk_180 0 104 (dk_at dksX4_book_9 10 rfl rfl)
theorem dX4_book_222 : decode cX4_book 222 = .ok (.iload_n 1, 1) := dk_27 (dk_at dksX4_book_9 13 rfl rfl)
theorem dX4_book_223 : decode cX4_book 223 = .ok (.iaload, 1) := dk_46 (dk_at dksX4_book_9 14 rfl rfl)
theorem dX4_book_224 : decode cX4_book 224 = .ok (.iload_n 1, 1) := dk_27 (dk_at dksX4_book_9 15 rfl rfl)
theorem dX4_book_225 : decode cX4_book 225 = .ok (.invokevirtual 381, 3) := dk_182 1 125 (dk_at dksX4_book_9 16 rfl rfl)
theorem dX4_book_228 : decode cX4_book 228 = .ok (.aload_n 0, 1) := dk_42 (dk_at dksX4_book_9 19 rfl rfl)
theorem dX4_book_229 : decode cX4_book 229 = .ok (.getfield 116, 3) := dk_180 0 116 (dk_at dksX4_book_9 20 rfl rfl)
theorem dX4_book_232 : decode cX4_book 232 = .ok (.iload_n 1, 1) := dk_27 (dk_at dksX4_book_9 23 rfl rfl)
theorem dX4_book_233 : decode cX4_book 233 = .ok (.iconst 1, 1) := dk_4 (dk_at dksX4_book_10 0 rfl rfl)
theorem dX4_book_234 : decode cX4_book 234 = .ok (.bastore, 1) := dk_84 (dk_at dksX4_book_10 1 rfl rfl)
theorem dX4_book_235 : decode cX4_book 235 = .ok (.lload_n 2, 1) := dk_32 (dk_at dksX4_book_10 2 rfl rfl)
theorem dX4_book_236 : decode cX4_book 236 = .ok (.lconst 0, 1) := dk_9 (dk_at dksX4_book_10 3 rfl rfl)
theorem dX4_book_237 : decode cX4_book 237 = .ok (.lcmp, 1) := dk_148 (dk_at dksX4_book_10 4 rfl rfl)
theorem dX4_book_238 : decode cX4_book 238 = .ok (.ifCond .le 16, 3) := dk_158 0 16 (dk_at dksX4_book_10 5 rfl rfl)
theorem dX4_book_241 : decode cX4_book 241 = .ok (.aload_n 0, 1) := dk_42 (dk_at dksX4_book_10 8 rfl rfl)
theorem dX4_book_242 : decode cX4_book 242 = .ok (.aload_n 0, 1) := dk_42 (dk_at dksX4_book_10 9 rfl rfl)
theorem dX4_book_243 : decode cX4_book 243 = .ok (.getfield 104, 3) := dk_180 0 104 (dk_at dksX4_book_10 10 rfl rfl)
theorem dX4_book_246 : decode cX4_book 246 = .ok (.iload_n 1, 1) := dk_27 (dk_at dksX4_book_10 13 rfl rfl)
theorem dX4_book_247 : decode cX4_book 247 = .ok (.iaload, 1) := dk_46 (dk_at dksX4_book_10 14 rfl rfl)
theorem dX4_book_248 : decode cX4_book 248 = .ok (.iconst 1, 1) := dk_4 (dk_at dksX4_book_10 15 rfl rfl)
theorem dX4_book_249 : decode cX4_book 249 = .ok (.iconst 2, 1) := dk_5 (dk_at dksX4_book_10 16 rfl rfl)
theorem dX4_book_250 : decode cX4_book 250 = .ok (.lload_n 2, 1) := dk_32 (dk_at dksX4_book_10 17 rfl rfl)
theorem dX4_book_251 : decode cX4_book 251 = .ok (.invokevirtual 384, 3) := dk_182 1 128 (dk_at dksX4_book_10 18 rfl rfl)
theorem dX4_book_254 : decode cX4_book 254 = .ok (.lload 4, 2) := dk_22 4 (dk_at dksX4_book_10 21 rfl rfl)
theorem dX4_book_256 : decode cX4_book 256 = .ok (.lload_n 2, 1) := dk_32 (dk_at dksX4_book_10 23 rfl rfl)
theorem dX4_book_257 : decode cX4_book 257 = .ok (.lcmp, 1) := dk_148 (dk_at dksX4_book_11 0 rfl rfl)
theorem dX4_book_258 : decode cX4_book 258 = .ok (.ifCond .le 19, 3) := dk_158 0 19 (dk_at dksX4_book_11 1 rfl rfl)
theorem dX4_book_261 : decode cX4_book 261 = .ok (.aload_n 0, 1) := dk_42 (dk_at dksX4_book_11 4 rfl rfl)
theorem dX4_book_262 : decode cX4_book 262 = .ok (.aload_n 0, 1) := dk_42 (dk_at dksX4_book_11 5 rfl rfl)
theorem dX4_book_263 : decode cX4_book 263 = .ok (.getfield 104, 3) := dk_180 0 104 (dk_at dksX4_book_11 6 rfl rfl)
theorem dX4_book_266 : decode cX4_book 266 = .ok (.iload_n 1, 1) := dk_27 (dk_at dksX4_book_11 9 rfl rfl)
theorem dX4_book_267 : decode cX4_book 267 = .ok (.iaload, 1) := dk_46 (dk_at dksX4_book_11 10 rfl rfl)
theorem dX4_book_268 : decode cX4_book 268 = .ok (.iconst 1, 1) := dk_4 (dk_at dksX4_book_11 11 rfl rfl)
theorem dX4_book_269 : decode cX4_book 269 = .ok (.iconst 3, 1) := dk_6 (dk_at dksX4_book_11 12 rfl rfl)
theorem dX4_book_270 : decode cX4_book 270 = .ok (.lload 4, 2) := dk_22 4 (dk_at dksX4_book_11 13 rfl rfl)
theorem dX4_book_272 : decode cX4_book 272 = .ok (.lload_n 2, 1) := dk_32 (dk_at dksX4_book_11 15 rfl rfl)
theorem dX4_book_273 : decode cX4_book 273 = .ok (.lsub, 1) := dk_101 (dk_at dksX4_book_11 16 rfl rfl)
theorem dX4_book_274 : decode cX4_book 274 = .ok (.invokevirtual 384, 3) := dk_182 1 128 (dk_at dksX4_book_11 17 rfl rfl)
theorem dX4_book_277 : decode cX4_book 277 = .ok (.aload_n 0, 1) := dk_42 (dk_at dksX4_book_11 20 rfl rfl)
theorem dX4_book_278 : decode cX4_book 278 = .ok (.getfield 375, 3) := dk_180 1 119 (dk_at dksX4_book_11 21 rfl rfl)
theorem dX4_book_281 : decode cX4_book 281 = .ok (.ireturn, 1) := dk_172 (dk_at dksX4_book_12 0 rfl rfl)
def dkwX4_isBooked_1 : List UInt8 := [27, 51, 153, 0, 7, 4, 167, 0, 4, 3, 172]
abbrev dktX4_isBooked_1 : List UInt8 := dkwX4_isBooked_1 ++ []
def dkwX4_isBooked_0 : List UInt8 := [42, 42, 27, 182, 1, 73, 153, 0, 7, 3, 167, 0, 4, 4, 182, 0, 205, 154, 0, 16, 42, 180, 0, 116]
abbrev dktX4_isBooked_0 : List UInt8 := dkwX4_isBooked_0 ++ dktX4_isBooked_1
theorem dksX4_isBooked_0 : cX4_isBooked.data.toList.drop 0 = dktX4_isBooked_0 := by decide +kernel
theorem dksX4_isBooked_1 : cX4_isBooked.data.toList.drop 24 = dktX4_isBooked_1 := dk_seg dksX4_isBooked_0 24 rfl rfl
theorem dX4_isBooked_0 : decode cX4_isBooked 0 = .ok (.aload_n 0, 1) := dk_42 (dk_at dksX4_isBooked_0 0 rfl rfl)
theorem dX4_isBooked_1 : decode cX4_isBooked 1 = .ok (.aload_n 0, 1) := dk_42 (dk_at dksX4_isBooked_0 1 rfl rfl)
theorem dX4_isBooked_2 : decode cX4_isBooked 2 = .ok (.iload_n 1, 1) := dk_27 (dk_at dksX4_isBooked_0 2 rfl rfl)
theorem dX4_isBooked_3 : decode cX4_isBooked 3 = .ok (.invokevirtual 329, 3) := dk_182 1 73 (dk_at dksX4_isBooked_0 3 rfl rfl)
theorem dX4_isBooked_6 : decode cX4_isBooked 6 = .ok (.ifCond .eq 7, 3) := dk_153 0 7 (dk_at dksX4_isBooked_0 6 rfl rfl)
theorem dX4_isBooked_9 : decode cX4_isBooked 9 = .ok (.iconst 0, 1) := dk_3 (dk_at dksX4_isBooked_0 9 rfl rfl)
theorem dX4_isBooked_10 : decode cX4_isBooked 10 = .ok (.goto 4, 3) := dk_167 0 4 (dk_at dksX4_isBooked_0 10 rfl rfl)
theorem dX4_isBooked_13 : decode cX4_isBooked 13 = .ok (.iconst 1, 1) := dk_4 (dk_at dksX4_isBooked_0 13 rfl rfl)
theorem dX4_isBooked_14 : decode cX4_isBooked 14 = .ok (.invokevirtual 205, 3) := dk_182 0 205 (dk_at dksX4_isBooked_0 14 rfl rfl)
theorem dX4_isBooked_17 : decode cX4_isBooked 17 = .ok (.ifCond .ne 16, 3) := dk_154 0 16 (dk_at dksX4_isBooked_0 17 rfl rfl)
theorem dX4_isBooked_20 : decode cX4_isBooked 20 = .ok (.aload_n 0, 1) := dk_42 (dk_at dksX4_isBooked_0 20 rfl rfl)
theorem dX4_isBooked_21 : decode cX4_isBooked 21 = .ok (.getfield 116, 3) := dk_180 0 116 (dk_at dksX4_isBooked_0 21 rfl rfl)
theorem dX4_isBooked_24 : decode cX4_isBooked 24 = .ok (.iload_n 1, 1) := dk_27 (dk_at dksX4_isBooked_1 0 rfl rfl)
theorem dX4_isBooked_25 : decode cX4_isBooked 25 = .ok (.baload, 1) := dk_51 (dk_at dksX4_isBooked_1 1 rfl rfl)
theorem dX4_isBooked_26 : decode cX4_isBooked 26 = .ok (.ifCond .eq 7, 3) := dk_153 0 7 (dk_at dksX4_isBooked_1 2 rfl rfl)
theorem dX4_isBooked_29 : decode cX4_isBooked 29 = .ok (.iconst 1, 1) := dk_4 (dk_at dksX4_isBooked_1 5 rfl rfl)
theorem dX4_isBooked_30 : decode cX4_isBooked 30 = .ok (.goto 4, 3) := dk_167 0 4 (dk_at dksX4_isBooked_1 6 rfl rfl)
theorem dX4_isBooked_33 : decode cX4_isBooked 33 = .ok (.iconst 0, 1) := dk_3 (dk_at dksX4_isBooked_1 9 rfl rfl)
theorem dX4_isBooked_34 : decode cX4_isBooked 34 = .ok (.ireturn, 1) := dk_172 (dk_at dksX4_isBooked_1 10 rfl rfl)
def dkwX4_side_4 : List UInt8 := [167, 0, 4, 9, 97, 55, 4, 132, 6, 1, 167, 255, 195, 22, 4, 173]
abbrev dktX4_side_4 : List UInt8 := dkwX4_side_4 ++ []
def dkwX4_side_3 : List UInt8 := [180, 0, 158, 21, 6, 46, 133, 27, 133, 28, 133, 184, 0, 182, 153, 0, 13, 42, 180, 0, 161, 21, 6, 47]
abbrev dktX4_side_3 : List UInt8 := dkwX4_side_3 ++ dktX4_side_4
def dkwX4_side_2 : List UInt8 := [180, 1, 119, 162, 0, 58, 22, 4, 29, 153, 0, 14, 42, 180, 0, 155, 21, 6, 46, 133, 167, 0, 11, 42]
abbrev dktX4_side_2 : List UInt8 := dkwX4_side_2 ++ dktX4_side_3
def dkwX4_side_1 : List UInt8 := [5, 167, 0, 4, 3, 182, 0, 205, 153, 0, 5, 9, 173, 9, 55, 4, 3, 54, 6, 21, 6, 42]
abbrev dktX4_side_1 : List UInt8 := dkwX4_side_1 ++ dktX4_side_2
def dkwX4_side_0 : List UInt8 := [42, 27, 184, 1, 122, 153, 0, 10, 28, 184, 1, 122, 154, 0, 7, 4, 167, 0, 13, 28, 27, 162, 0, 7]
abbrev dktX4_side_0 : List UInt8 := dkwX4_side_0 ++ dktX4_side_1
theorem dksX4_side_0 : cX4_side.data.toList.drop 0 = dktX4_side_0 := by decide +kernel
theorem dksX4_side_1 : cX4_side.data.toList.drop 24 = dktX4_side_1 := dk_seg dksX4_side_0 24 rfl rfl
theorem dksX4_side_2 : cX4_side.data.toList.drop 46 = dktX4_side_2 := dk_seg dksX4_side_1 22 rfl rfl
theorem dksX4_side_3 : cX4_side.data.toList.drop 70 = dktX4_side_3 := dk_seg dksX4_side_2 24 rfl rfl
theorem dksX4_side_4 : cX4_side.data.toList.drop 94 = dktX4_side_4 := dk_seg dksX4_side_3 24 rfl rfl
theorem dX4_side_0 : decode cX4_side 0 = .ok (.aload_n 0, 1) := dk_42 (dk_at dksX4_side_0 0 rfl rfl)
theorem dX4_side_1 : decode cX4_side 1 = .ok (.iload_n 1, 1) := dk_27 (dk_at dksX4_side_0 1 rfl rfl)
theorem dX4_side_2 : decode cX4_side 2 = .ok (.invokestatic 378, 3) := dk_184 1 122 (dk_at dksX4_side_0 2 rfl rfl)
theorem dX4_side_5 : decode cX4_side 5 = .ok (.ifCond .eq 10, 3) := dk_153 0 10 (dk_at dksX4_side_0 5 rfl rfl)
theorem dX4_side_8 : decode cX4_side 8 = .ok (.iload_n 2, 1) := dk_28 (dk_at dksX4_side_0 8 rfl rfl)
theorem dX4_side_9 : decode cX4_side 9 = .ok (.invokestatic 378, 3) := dk_184 1 122 (dk_at dksX4_side_0 9 rfl rfl)
theorem dX4_side_12 : decode cX4_side 12 = .ok (.ifCond .ne 7, 3) := dk_154 0 7 (dk_at dksX4_side_0 12 rfl rfl)
theorem dX4_side_15 : decode cX4_side 15 = .ok (.iconst 1, 1) := dk_4 (dk_at dksX4_side_0 15 rfl rfl)
theorem dX4_side_16 : decode cX4_side 16 = .ok (.goto 13, 3) := dk_167 0 13 (dk_at dksX4_side_0 16 rfl rfl)
theorem dX4_side_19 : decode cX4_side 19 = .ok (.iload_n 2, 1) := dk_28 (dk_at dksX4_side_0 19 rfl rfl)
theorem dX4_side_20 : decode cX4_side 20 = .ok (.iload_n 1, 1) := dk_27 (dk_at dksX4_side_0 20 rfl rfl)
theorem dX4_side_21 : decode cX4_side 21 = .ok (.if_icmp .ge 7, 3) := dk_162 0 7 (dk_at dksX4_side_0 21 rfl rfl)
theorem dX4_side_24 : decode cX4_side 24 = .ok (.iconst 2, 1) := dk_5 (dk_at dksX4_side_1 0 rfl rfl)
theorem dX4_side_25 : decode cX4_side 25 = .ok (.goto 4, 3) := dk_167 0 4 (dk_at dksX4_side_1 1 rfl rfl)
theorem dX4_side_28 : decode cX4_side 28 = .ok (.iconst 0, 1) := dk_3 (dk_at dksX4_side_1 4 rfl rfl)
theorem dX4_side_29 : decode cX4_side 29 = .ok (.invokevirtual 205, 3) := dk_182 0 205 (dk_at dksX4_side_1 5 rfl rfl)
theorem dX4_side_32 : decode cX4_side 32 = .ok (.ifCond .eq 5, 3) := dk_153 0 5 (dk_at dksX4_side_1 8 rfl rfl)
theorem dX4_side_35 : decode cX4_side 35 = .ok (.lconst 0, 1) := dk_9 (dk_at dksX4_side_1 11 rfl rfl)
theorem dX4_side_36 : decode cX4_side 36 = .ok (.lreturn, 1) := dk_173 (dk_at dksX4_side_1 12 rfl rfl)
theorem dX4_side_37 : decode cX4_side 37 = .ok (.lconst 0, 1) := dk_9 (dk_at dksX4_side_1 13 rfl rfl)
theorem dX4_side_38 : decode cX4_side 38 = .ok (.lstore 4, 2) := dk_55 4 (dk_at dksX4_side_1 14 rfl rfl)
theorem dX4_side_40 : decode cX4_side 40 = .ok (.iconst 0, 1) := dk_3 (dk_at dksX4_side_1 16 rfl rfl)
theorem dX4_side_41 : decode cX4_side 41 = .ok (.istore 6, 2) := dk_54 6 (dk_at dksX4_side_1 17 rfl rfl)
theorem dX4_side_43 : decode cX4_side 43 = .ok (.iload 6, 2) := dk_21 6 (dk_at dksX4_side_1 19 rfl rfl)
theorem dX4_side_45 : decode cX4_side 45 = .ok (.aload_n 0, 1) := dk_42 (dk_at dksX4_side_1 21 rfl rfl)
theorem dX4_side_46 : decode cX4_side 46 = .ok (.getfield 375, 3) := dk_180 1 119 (dk_at dksX4_side_2 0 rfl rfl)
theorem dX4_side_49 : decode cX4_side 49 = .ok (.if_icmp .ge 58, 3) := dk_162 0 58 (dk_at dksX4_side_2 3 rfl rfl)
theorem dX4_side_52 : decode cX4_side 52 = .ok (.lload 4, 2) := dk_22 4 (dk_at dksX4_side_2 6 rfl rfl)
theorem dX4_side_54 : decode cX4_side 54 = .ok (.iload_n 3, 1) := dk_29 (dk_at dksX4_side_2 8 rfl rfl)
theorem dX4_side_55 : decode cX4_side 55 = .ok (.ifCond .eq 14, 3) := dk_153 0 14 (dk_at dksX4_side_2 9 rfl rfl)
theorem dX4_side_58 : decode cX4_side 58 = .ok (.aload_n 0, 1) := dk_42 (dk_at dksX4_side_2 12 rfl rfl)
theorem dX4_side_59 : decode cX4_side 59 = .ok (.getfield 155, 3) := dk_180 0 155 (dk_at dksX4_side_2 13 rfl rfl)
theorem dX4_side_62 : decode cX4_side 62 = .ok (.iload 6, 2) := dk_21 6 (dk_at dksX4_side_2 16 rfl rfl)
theorem dX4_side_64 : decode cX4_side 64 = .ok (.iaload, 1) := dk_46 (dk_at dksX4_side_2 18 rfl rfl)
theorem dX4_side_65 : decode cX4_side 65 = .ok (.i2l, 1) := dk_133 (dk_at dksX4_side_2 19 rfl rfl)
theorem dX4_side_66 : decode cX4_side 66 = .ok (.goto 11, 3) := dk_167 0 11 (dk_at dksX4_side_2 20 rfl rfl)
theorem dX4_side_69 : decode cX4_side 69 = .ok (.aload_n 0, 1) := dk_42 (dk_at dksX4_side_2 23 rfl rfl)
theorem dX4_side_70 : decode cX4_side 70 = .ok (.getfield 158, 3) := dk_180 0 158 (dk_at dksX4_side_3 0 rfl rfl)
theorem dX4_side_73 : decode cX4_side 73 = .ok (.iload 6, 2) := dk_21 6 (dk_at dksX4_side_3 3 rfl rfl)
theorem dX4_side_75 : decode cX4_side 75 = .ok (.iaload, 1) := dk_46 (dk_at dksX4_side_3 5 rfl rfl)
theorem dX4_side_76 : decode cX4_side 76 = .ok (.i2l, 1) := dk_133 (dk_at dksX4_side_3 6 rfl rfl)
theorem dX4_side_77 : decode cX4_side 77 = .ok (.iload_n 1, 1) := dk_27 (dk_at dksX4_side_3 7 rfl rfl)
theorem dX4_side_78 : decode cX4_side 78 = .ok (.i2l, 1) := dk_133 (dk_at dksX4_side_3 8 rfl rfl)
theorem dX4_side_79 : decode cX4_side 79 = .ok (.iload_n 2, 1) := dk_28 (dk_at dksX4_side_3 9 rfl rfl)
theorem dX4_side_80 : decode cX4_side 80 = .ok (.i2l, 1) := dk_133 (dk_at dksX4_side_3 10 rfl rfl)
theorem dX4_side_81 : decode cX4_side 81 = .ok (.invokestatic 182, 3) := dk_184 0 182 (dk_at dksX4_side_3 11 rfl rfl)
theorem dX4_side_84 : decode cX4_side 84 = .ok (.ifCond .eq 13, 3) := dk_153 0 13 (dk_at dksX4_side_3 14 rfl rfl)
theorem dX4_side_87 : decode cX4_side 87 = .ok (.aload_n 0, 1) := dk_42 (dk_at dksX4_side_3 17 rfl rfl)
theorem dX4_side_88 : decode cX4_side 88 = .ok (.getfield 161, 3) := dk_180 0 161 (dk_at dksX4_side_3 18 rfl rfl)
theorem dX4_side_91 : decode cX4_side 91 = .ok (.iload 6, 2) := dk_21 6 (dk_at dksX4_side_3 21 rfl rfl)
theorem dX4_side_93 : decode cX4_side 93 = .ok (.laload, 1) := dk_47 (dk_at dksX4_side_3 23 rfl rfl)
theorem dX4_side_94 : decode cX4_side 94 = .ok (.goto 4, 3) := dk_167 0 4 (dk_at dksX4_side_4 0 rfl rfl)
theorem dX4_side_97 : decode cX4_side 97 = .ok (.lconst 0, 1) := dk_9 (dk_at dksX4_side_4 3 rfl rfl)
theorem dX4_side_98 : decode cX4_side 98 = .ok (.ladd, 1) := dk_97 (dk_at dksX4_side_4 4 rfl rfl)
theorem dX4_side_99 : decode cX4_side 99 = .ok (.lstore 4, 2) := dk_55 4 (dk_at dksX4_side_4 5 rfl rfl)
theorem dX4_side_101 : decode cX4_side 101 = .ok (.iinc 6 1, 3) := dk_132 6 1 (dk_at dksX4_side_4 7 rfl rfl)
theorem dX4_side_104 : decode cX4_side 104 = .ok (.goto (-61), 3) := dk_167 255 195 (dk_at dksX4_side_4 10 rfl rfl)
theorem dX4_side_107 : decode cX4_side 107 = .ok (.lload 4, 2) := dk_22 4 (dk_at dksX4_side_4 13 rfl rfl)
theorem dX4_side_109 : decode cX4_side 109 = .ok (.lreturn, 1) := dk_173 (dk_at dksX4_side_4 15 rfl rfl)
def dkwX4_nextAccount_4 : List UInt8 := [182, 0, 205, 153, 0, 7, 3, 167, 0, 4, 28, 172]
abbrev dktX4_nextAccount_4 : List UInt8 := dkwX4_nextAccount_4 ++ []
def dkwX4_nextAccount_3 : List UInt8 := [167, 0, 4, 28, 61, 132, 3, 1, 167, 255, 183, 42, 28, 16, 100, 160, 0, 7, 4, 167, 0, 4, 3]
abbrev dktX4_nextAccount_3 : List UInt8 := dkwX4_nextAccount_3 ++ dktX4_nextAccount_4
def dkwX4_nextAccount_2 : List UInt8 := [29, 46, 27, 164, 0, 22, 42, 180, 0, 158, 29, 46, 28, 162, 0, 12, 42, 180, 0, 158, 29, 46]
abbrev dktX4_nextAccount_2 : List UInt8 := dkwX4_nextAccount_2 ++ dktX4_nextAccount_3
def dkwX4_nextAccount_1 : List UInt8 := [180, 0, 155, 29, 46, 28, 162, 0, 12, 42, 180, 0, 155, 29, 46, 167, 0, 4, 28, 61, 42, 180, 0, 158]
abbrev dktX4_nextAccount_1 : List UInt8 := dkwX4_nextAccount_1 ++ dktX4_nextAccount_2
def dkwX4_nextAccount_0 : List UInt8 := [16, 100, 61, 3, 62, 29, 42, 180, 1, 119, 162, 0, 71, 42, 180, 0, 155, 29, 46, 27, 164, 0, 22, 42]
abbrev dktX4_nextAccount_0 : List UInt8 := dkwX4_nextAccount_0 ++ dktX4_nextAccount_1
theorem dksX4_nextAccount_0 : cX4_nextAccount.data.toList.drop 0 = dktX4_nextAccount_0 := by decide +kernel
theorem dksX4_nextAccount_1 : cX4_nextAccount.data.toList.drop 24 = dktX4_nextAccount_1 := dk_seg dksX4_nextAccount_0 24 rfl rfl
theorem dksX4_nextAccount_2 : cX4_nextAccount.data.toList.drop 48 = dktX4_nextAccount_2 := dk_seg dksX4_nextAccount_1 24 rfl rfl
theorem dksX4_nextAccount_3 : cX4_nextAccount.data.toList.drop 70 = dktX4_nextAccount_3 := dk_seg dksX4_nextAccount_2 22 rfl rfl
theorem dksX4_nextAccount_4 : cX4_nextAccount.data.toList.drop 93 = dktX4_nextAccount_4 := dk_seg dksX4_nextAccount_3 23 rfl rfl
theorem dX4_nextAccount_0 : decode cX4_nextAccount 0 = .ok (.bipush 100, 2) := dk_16 100 (dk_at dksX4_nextAccount_0 0 rfl rfl)
theorem dX4_nextAccount_2 : decode cX4_nextAccount 2 = .ok (.istore_n 2, 1) := dk_61 (dk_at dksX4_nextAccount_0 2 rfl rfl)
theorem dX4_nextAccount_3 : decode cX4_nextAccount 3 = .ok (.iconst 0, 1) := dk_3 (dk_at dksX4_nextAccount_0 3 rfl rfl)
theorem dX4_nextAccount_4 : decode cX4_nextAccount 4 = .ok (.istore_n 3, 1) := dk_62 (dk_at dksX4_nextAccount_0 4 rfl rfl)
theorem dX4_nextAccount_5 : decode cX4_nextAccount 5 = .ok (.iload_n 3, 1) := dk_29 (dk_at dksX4_nextAccount_0 5 rfl rfl)
theorem dX4_nextAccount_6 : decode cX4_nextAccount 6 = .ok (.aload_n 0, 1) := dk_42 (dk_at dksX4_nextAccount_0 6 rfl rfl)
theorem dX4_nextAccount_7 : decode cX4_nextAccount 7 = .ok (.getfield 375, 3) := dk_180 1 119 (dk_at dksX4_nextAccount_0 7 rfl rfl)
theorem dX4_nextAccount_10 : decode cX4_nextAccount 10 = .ok (.if_icmp .ge 71, 3) := dk_162 0 71 (dk_at dksX4_nextAccount_0 10 rfl rfl)
theorem dX4_nextAccount_13 : decode cX4_nextAccount 13 = .ok (.aload_n 0, 1) := dk_42 (dk_at dksX4_nextAccount_0 13 rfl rfl)
theorem dX4_nextAccount_14 : decode cX4_nextAccount 14 = .ok (.getfield 155, 3) := dk_180 0 155 (dk_at dksX4_nextAccount_0 14 rfl rfl)
theorem dX4_nextAccount_17 : decode cX4_nextAccount 17 = .ok (.iload_n 3, 1) := dk_29 (dk_at dksX4_nextAccount_0 17 rfl rfl)
theorem dX4_nextAccount_18 : decode cX4_nextAccount 18 = .ok (.iaload, 1) := dk_46 (dk_at dksX4_nextAccount_0 18 rfl rfl)
theorem dX4_nextAccount_19 : decode cX4_nextAccount 19 = .ok (.iload_n 1, 1) := dk_27 (dk_at dksX4_nextAccount_0 19 rfl rfl)
theorem dX4_nextAccount_20 : decode cX4_nextAccount 20 = .ok (.if_icmp .le 22, 3) := dk_164 0 22 (dk_at dksX4_nextAccount_0 20 rfl rfl)
theorem dX4_nextAccount_23 : decode cX4_nextAccount 23 = .ok (.aload_n 0, 1) := dk_42 (dk_at dksX4_nextAccount_0 23 rfl rfl)
theorem dX4_nextAccount_24 : decode cX4_nextAccount 24 = .ok (.getfield 155, 3) := dk_180 0 155 (dk_at dksX4_nextAccount_1 0 rfl rfl)
theorem dX4_nextAccount_27 : decode cX4_nextAccount 27 = .ok (.iload_n 3, 1) := dk_29 (dk_at dksX4_nextAccount_1 3 rfl rfl)
theorem dX4_nextAccount_28 : decode cX4_nextAccount 28 = .ok (.iaload, 1) := dk_46 (dk_at dksX4_nextAccount_1 4 rfl rfl)
theorem dX4_nextAccount_29 : decode cX4_nextAccount 29 = .ok (.iload_n 2, 1) := dk_28 (dk_at dksX4_nextAccount_1 5 rfl rfl)
theorem dX4_nextAccount_30 : decode cX4_nextAccount 30 = .ok (.if_icmp .ge 12, 3) := dk_162 0 12 (dk_at dksX4_nextAccount_1 6 rfl rfl)
theorem dX4_nextAccount_33 : decode cX4_nextAccount 33 = .ok (.aload_n 0, 1) := dk_42 (dk_at dksX4_nextAccount_1 9 rfl rfl)
theorem dX4_nextAccount_34 : decode cX4_nextAccount 34 = .ok (.getfield 155, 3) := dk_180 0 155 (dk_at dksX4_nextAccount_1 10 rfl rfl)
theorem dX4_nextAccount_37 : decode cX4_nextAccount 37 = .ok (.iload_n 3, 1) := dk_29 (dk_at dksX4_nextAccount_1 13 rfl rfl)
theorem dX4_nextAccount_38 : decode cX4_nextAccount 38 = .ok (.iaload, 1) := dk_46 (dk_at dksX4_nextAccount_1 14 rfl rfl)
theorem dX4_nextAccount_39 : decode cX4_nextAccount 39 = .ok (.goto 4, 3) := dk_167 0 4 (dk_at dksX4_nextAccount_1 15 rfl rfl)
theorem dX4_nextAccount_42 : decode cX4_nextAccount 42 = .ok (.iload_n 2, 1) := dk_28 (dk_at dksX4_nextAccount_1 18 rfl rfl)
theorem dX4_nextAccount_43 : decode cX4_nextAccount 43 = .ok (.istore_n 2, 1) := dk_61 (dk_at dksX4_nextAccount_1 19 rfl rfl)
theorem dX4_nextAccount_44 : decode cX4_nextAccount 44 = .ok (.aload_n 0, 1) := dk_42 (dk_at dksX4_nextAccount_1 20 rfl rfl)
theorem dX4_nextAccount_45 : decode cX4_nextAccount 45 = .ok (.getfield 158, 3) := dk_180 0 158 (dk_at dksX4_nextAccount_1 21 rfl rfl)
theorem dX4_nextAccount_48 : decode cX4_nextAccount 48 = .ok (.iload_n 3, 1) := dk_29 (dk_at dksX4_nextAccount_2 0 rfl rfl)
theorem dX4_nextAccount_49 : decode cX4_nextAccount 49 = .ok (.iaload, 1) := dk_46 (dk_at dksX4_nextAccount_2 1 rfl rfl)
theorem dX4_nextAccount_50 : decode cX4_nextAccount 50 = .ok (.iload_n 1, 1) := dk_27 (dk_at dksX4_nextAccount_2 2 rfl rfl)
theorem dX4_nextAccount_51 : decode cX4_nextAccount 51 = .ok (.if_icmp .le 22, 3) := dk_164 0 22 (dk_at dksX4_nextAccount_2 3 rfl rfl)
theorem dX4_nextAccount_54 : decode cX4_nextAccount 54 = .ok (.aload_n 0, 1) := dk_42 (dk_at dksX4_nextAccount_2 6 rfl rfl)
theorem dX4_nextAccount_55 : decode cX4_nextAccount 55 = .ok (.getfield 158, 3) := dk_180 0 158 (dk_at dksX4_nextAccount_2 7 rfl rfl)
theorem dX4_nextAccount_58 : decode cX4_nextAccount 58 = .ok (.iload_n 3, 1) := dk_29 (dk_at dksX4_nextAccount_2 10 rfl rfl)
theorem dX4_nextAccount_59 : decode cX4_nextAccount 59 = .ok (.iaload, 1) := dk_46 (dk_at dksX4_nextAccount_2 11 rfl rfl)
theorem dX4_nextAccount_60 : decode cX4_nextAccount 60 = .ok (.iload_n 2, 1) := dk_28 (dk_at dksX4_nextAccount_2 12 rfl rfl)
theorem dX4_nextAccount_61 : decode cX4_nextAccount 61 = .ok (.if_icmp .ge 12, 3) := dk_162 0 12 (dk_at dksX4_nextAccount_2 13 rfl rfl)
theorem dX4_nextAccount_64 : decode cX4_nextAccount 64 = .ok (.aload_n 0, 1) := dk_42 (dk_at dksX4_nextAccount_2 16 rfl rfl)
theorem dX4_nextAccount_65 : decode cX4_nextAccount 65 = .ok (.getfield 158, 3) := dk_180 0 158 (dk_at dksX4_nextAccount_2 17 rfl rfl)
theorem dX4_nextAccount_68 : decode cX4_nextAccount 68 = .ok (.iload_n 3, 1) := dk_29 (dk_at dksX4_nextAccount_2 20 rfl rfl)
theorem dX4_nextAccount_69 : decode cX4_nextAccount 69 = .ok (.iaload, 1) := dk_46 (dk_at dksX4_nextAccount_2 21 rfl rfl)
theorem dX4_nextAccount_70 : decode cX4_nextAccount 70 = .ok (.goto 4, 3) := dk_167 0 4 (dk_at dksX4_nextAccount_3 0 rfl rfl)
theorem dX4_nextAccount_73 : decode cX4_nextAccount 73 = .ok (.iload_n 2, 1) := dk_28 (dk_at dksX4_nextAccount_3 3 rfl rfl)
theorem dX4_nextAccount_74 : decode cX4_nextAccount 74 = .ok (.istore_n 2, 1) := dk_61 (dk_at dksX4_nextAccount_3 4 rfl rfl)
theorem dX4_nextAccount_75 : decode cX4_nextAccount 75 = .ok (.iinc 3 1, 3) := dk_132 3 1 (dk_at dksX4_nextAccount_3 5 rfl rfl)
theorem dX4_nextAccount_78 : decode cX4_nextAccount 78 = .ok (.goto (-73), 3) := dk_167 255 183 (dk_at dksX4_nextAccount_3 8 rfl rfl)
theorem dX4_nextAccount_81 : decode cX4_nextAccount 81 = .ok (.aload_n 0, 1) := dk_42 (dk_at dksX4_nextAccount_3 11 rfl rfl)
theorem dX4_nextAccount_82 : decode cX4_nextAccount 82 = .ok (.iload_n 2, 1) := dk_28 (dk_at dksX4_nextAccount_3 12 rfl rfl)
theorem dX4_nextAccount_83 : decode cX4_nextAccount 83 = .ok (.bipush 100, 2) := dk_16 100 (dk_at dksX4_nextAccount_3 13 rfl rfl)
theorem dX4_nextAccount_85 : decode cX4_nextAccount 85 = .ok (.if_icmp .ne 7, 3) := dk_160 0 7 (dk_at dksX4_nextAccount_3 15 rfl rfl)
theorem dX4_nextAccount_88 : decode cX4_nextAccount 88 = .ok (.iconst 1, 1) := dk_4 (dk_at dksX4_nextAccount_3 18 rfl rfl)
theorem dX4_nextAccount_89 : decode cX4_nextAccount 89 = .ok (.goto 4, 3) := dk_167 0 4 (dk_at dksX4_nextAccount_3 19 rfl rfl)
theorem dX4_nextAccount_92 : decode cX4_nextAccount 92 = .ok (.iconst 0, 1) := dk_3 (dk_at dksX4_nextAccount_3 22 rfl rfl)
theorem dX4_nextAccount_93 : decode cX4_nextAccount 93 = .ok (.invokevirtual 205, 3) := dk_182 0 205 (dk_at dksX4_nextAccount_4 0 rfl rfl)
theorem dX4_nextAccount_96 : decode cX4_nextAccount 96 = .ok (.ifCond .eq 7, 3) := dk_153 0 7 (dk_at dksX4_nextAccount_4 3 rfl rfl)
theorem dX4_nextAccount_99 : decode cX4_nextAccount 99 = .ok (.iconst 0, 1) := dk_3 (dk_at dksX4_nextAccount_4 6 rfl rfl)
theorem dX4_nextAccount_100 : decode cX4_nextAccount 100 = .ok (.goto 4, 3) := dk_167 0 4 (dk_at dksX4_nextAccount_4 7 rfl rfl)
theorem dX4_nextAccount_103 : decode cX4_nextAccount 103 = .ok (.iload_n 2, 1) := dk_28 (dk_at dksX4_nextAccount_4 10 rfl rfl)
theorem dX4_nextAccount_104 : decode cX4_nextAccount 104 = .ok (.ireturn, 1) := dk_172 (dk_at dksX4_nextAccount_4 11 rfl rfl)
def dkwX4_shut_3 : List UInt8 := [167, 0, 4, 3, 96, 61, 132, 3, 1, 167, 255, 224, 28, 172]
abbrev dktX4_shut_3 : List UInt8 := dkwX4_shut_3 ++ []
def dkwX4_shut_2 : List UInt8 := [62, 29, 42, 180, 1, 119, 162, 0, 30, 28, 42, 180, 0, 152, 29, 46, 42, 180, 0, 164, 163, 0, 7, 4]
abbrev dktX4_shut_2 : List UInt8 := dkwX4_shut_2 ++ dktX4_shut_3
def dkwX4_shut_1 : List UInt8 := [163, 0, 7, 5, 167, 0, 4, 3, 182, 0, 205, 153, 0, 5, 3, 172, 42, 27, 181, 0, 164, 3, 61, 3]
abbrev dktX4_shut_1 : List UInt8 := dkwX4_shut_1 ++ dktX4_shut_2
def dkwX4_shut_0 : List UInt8 := [42, 27, 133, 9, 20, 1, 53, 184, 0, 182, 154, 0, 7, 4, 167, 0, 16, 27, 42, 180, 0, 164]
abbrev dktX4_shut_0 : List UInt8 := dkwX4_shut_0 ++ dktX4_shut_1
theorem dksX4_shut_0 : cX4_shut.data.toList.drop 0 = dktX4_shut_0 := by decide +kernel
theorem dksX4_shut_1 : cX4_shut.data.toList.drop 22 = dktX4_shut_1 := dk_seg dksX4_shut_0 22 rfl rfl
theorem dksX4_shut_2 : cX4_shut.data.toList.drop 46 = dktX4_shut_2 := dk_seg dksX4_shut_1 24 rfl rfl
theorem dksX4_shut_3 : cX4_shut.data.toList.drop 70 = dktX4_shut_3 := dk_seg dksX4_shut_2 24 rfl rfl
theorem dX4_shut_0 : decode cX4_shut 0 = .ok (.aload_n 0, 1) := dk_42 (dk_at dksX4_shut_0 0 rfl rfl)
theorem dX4_shut_1 : decode cX4_shut 1 = .ok (.iload_n 1, 1) := dk_27 (dk_at dksX4_shut_0 1 rfl rfl)
theorem dX4_shut_2 : decode cX4_shut 2 = .ok (.i2l, 1) := dk_133 (dk_at dksX4_shut_0 2 rfl rfl)
theorem dX4_shut_3 : decode cX4_shut 3 = .ok (.lconst 0, 1) := dk_9 (dk_at dksX4_shut_0 3 rfl rfl)
theorem dX4_shut_4 : decode cX4_shut 4 = .ok (.ldc2_w 309, 3) := dk_20 1 53 (dk_at dksX4_shut_0 4 rfl rfl)
theorem dX4_shut_7 : decode cX4_shut 7 = .ok (.invokestatic 182, 3) := dk_184 0 182 (dk_at dksX4_shut_0 7 rfl rfl)
theorem dX4_shut_10 : decode cX4_shut 10 = .ok (.ifCond .ne 7, 3) := dk_154 0 7 (dk_at dksX4_shut_0 10 rfl rfl)
theorem dX4_shut_13 : decode cX4_shut 13 = .ok (.iconst 1, 1) := dk_4 (dk_at dksX4_shut_0 13 rfl rfl)
theorem dX4_shut_14 : decode cX4_shut 14 = .ok (.goto 16, 3) := dk_167 0 16 (dk_at dksX4_shut_0 14 rfl rfl)
theorem dX4_shut_17 : decode cX4_shut 17 = .ok (.iload_n 1, 1) := dk_27 (dk_at dksX4_shut_0 17 rfl rfl)
theorem dX4_shut_18 : decode cX4_shut 18 = .ok (.aload_n 0, 1) := dk_42 (dk_at dksX4_shut_0 18 rfl rfl)
theorem dX4_shut_19 : decode cX4_shut 19 = .ok (.getfield 164, 3) := dk_180 0 164 (dk_at dksX4_shut_0 19 rfl rfl)
theorem dX4_shut_22 : decode cX4_shut 22 = .ok (.if_icmp .gt 7, 3) := dk_163 0 7 (dk_at dksX4_shut_1 0 rfl rfl)
theorem dX4_shut_25 : decode cX4_shut 25 = .ok (.iconst 2, 1) := dk_5 (dk_at dksX4_shut_1 3 rfl rfl)
theorem dX4_shut_26 : decode cX4_shut 26 = .ok (.goto 4, 3) := dk_167 0 4 (dk_at dksX4_shut_1 4 rfl rfl)
theorem dX4_shut_29 : decode cX4_shut 29 = .ok (.iconst 0, 1) := dk_3 (dk_at dksX4_shut_1 7 rfl rfl)
theorem dX4_shut_30 : decode cX4_shut 30 = .ok (.invokevirtual 205, 3) := dk_182 0 205 (dk_at dksX4_shut_1 8 rfl rfl)
theorem dX4_shut_33 : decode cX4_shut 33 = .ok (.ifCond .eq 5, 3) := dk_153 0 5 (dk_at dksX4_shut_1 11 rfl rfl)
theorem dX4_shut_36 : decode cX4_shut 36 = .ok (.iconst 0, 1) := dk_3 (dk_at dksX4_shut_1 14 rfl rfl)
theorem dX4_shut_37 : decode cX4_shut 37 = .ok (.ireturn, 1) := dk_172 (dk_at dksX4_shut_1 15 rfl rfl)
theorem dX4_shut_38 : decode cX4_shut 38 = .ok (.aload_n 0, 1) := dk_42 (dk_at dksX4_shut_1 16 rfl rfl)
theorem dX4_shut_39 : decode cX4_shut 39 = .ok (.iload_n 1, 1) := dk_27 (dk_at dksX4_shut_1 17 rfl rfl)
theorem dX4_shut_40 : decode cX4_shut 40 = .ok (.putfield 164, 3) := dk_181 0 164 (dk_at dksX4_shut_1 18 rfl rfl)
theorem dX4_shut_43 : decode cX4_shut 43 = .ok (.iconst 0, 1) := dk_3 (dk_at dksX4_shut_1 21 rfl rfl)
theorem dX4_shut_44 : decode cX4_shut 44 = .ok (.istore_n 2, 1) := dk_61 (dk_at dksX4_shut_1 22 rfl rfl)
theorem dX4_shut_45 : decode cX4_shut 45 = .ok (.iconst 0, 1) := dk_3 (dk_at dksX4_shut_1 23 rfl rfl)
theorem dX4_shut_46 : decode cX4_shut 46 = .ok (.istore_n 3, 1) := dk_62 (dk_at dksX4_shut_2 0 rfl rfl)
theorem dX4_shut_47 : decode cX4_shut 47 = .ok (.iload_n 3, 1) := dk_29 (dk_at dksX4_shut_2 1 rfl rfl)
theorem dX4_shut_48 : decode cX4_shut 48 = .ok (.aload_n 0, 1) := dk_42 (dk_at dksX4_shut_2 2 rfl rfl)
theorem dX4_shut_49 : decode cX4_shut 49 = .ok (.getfield 375, 3) := dk_180 1 119 (dk_at dksX4_shut_2 3 rfl rfl)
theorem dX4_shut_52 : decode cX4_shut 52 = .ok (.if_icmp .ge 30, 3) := dk_162 0 30 (dk_at dksX4_shut_2 6 rfl rfl)
theorem dX4_shut_55 : decode cX4_shut 55 = .ok (.iload_n 2, 1) := dk_28 (dk_at dksX4_shut_2 9 rfl rfl)
theorem dX4_shut_56 : decode cX4_shut 56 = .ok (.aload_n 0, 1) := dk_42 (dk_at dksX4_shut_2 10 rfl rfl)
theorem dX4_shut_57 : decode cX4_shut 57 = .ok (.getfield 152, 3) := dk_180 0 152 (dk_at dksX4_shut_2 11 rfl rfl)
theorem dX4_shut_60 : decode cX4_shut 60 = .ok (.iload_n 3, 1) := dk_29 (dk_at dksX4_shut_2 14 rfl rfl)
theorem dX4_shut_61 : decode cX4_shut 61 = .ok (.iaload, 1) := dk_46 (dk_at dksX4_shut_2 15 rfl rfl)
theorem dX4_shut_62 : decode cX4_shut 62 = .ok (.aload_n 0, 1) := dk_42 (dk_at dksX4_shut_2 16 rfl rfl)
theorem dX4_shut_63 : decode cX4_shut 63 = .ok (.getfield 164, 3) := dk_180 0 164 (dk_at dksX4_shut_2 17 rfl rfl)
theorem dX4_shut_66 : decode cX4_shut 66 = .ok (.if_icmp .gt 7, 3) := dk_163 0 7 (dk_at dksX4_shut_2 20 rfl rfl)
theorem dX4_shut_69 : decode cX4_shut 69 = .ok (.iconst 1, 1) := dk_4 (dk_at dksX4_shut_2 23 rfl rfl)
theorem dX4_shut_70 : decode cX4_shut 70 = .ok (.goto 4, 3) := dk_167 0 4 (dk_at dksX4_shut_3 0 rfl rfl)
theorem dX4_shut_73 : decode cX4_shut 73 = .ok (.iconst 0, 1) := dk_3 (dk_at dksX4_shut_3 3 rfl rfl)
theorem dX4_shut_74 : decode cX4_shut 74 = .ok (.iadd, 1) := dk_96 (dk_at dksX4_shut_3 4 rfl rfl)
theorem dX4_shut_75 : decode cX4_shut 75 = .ok (.istore_n 2, 1) := dk_61 (dk_at dksX4_shut_3 5 rfl rfl)
theorem dX4_shut_76 : decode cX4_shut 76 = .ok (.iinc 3 1, 3) := dk_132 3 1 (dk_at dksX4_shut_3 6 rfl rfl)
theorem dX4_shut_79 : decode cX4_shut 79 = .ok (.goto (-32), 3) := dk_167 255 224 (dk_at dksX4_shut_3 9 rfl rfl)
theorem dX4_shut_82 : decode cX4_shut 82 = .ok (.iload_n 2, 1) := dk_28 (dk_at dksX4_shut_3 12 rfl rfl)
theorem dX4_shut_83 : decode cX4_shut 83 = .ok (.ireturn, 1) := dk_172 (dk_at dksX4_shut_3 13 rfl rfl)
def dkwX4_undo_4 : List UInt8 := [180, 1, 119, 172]
abbrev dktX4_undo_4 : List UInt8 := dkwX4_undo_4 ++ []
def dkwX4_undo_3 : List UInt8 := [180, 1, 116, 46, 155, 0, 18, 42, 180, 0, 116, 42, 180, 0, 174, 42, 180, 1, 116, 46, 3, 84, 42]
abbrev dktX4_undo_3 : List UInt8 := dkwX4_undo_3 ++ dktX4_undo_4
def dkwX4_undo_2 : List UInt8 := [4, 100, 181, 1, 116, 42, 42, 180, 0, 168, 42, 180, 1, 116, 46, 181, 1, 119, 42, 180, 0, 174, 42]
abbrev dktX4_undo_2 : List UInt8 := dkwX4_undo_2 ++ dktX4_undo_3
def dkwX4_undo_1 : List UInt8 := [180, 0, 164, 163, 0, 7, 5, 167, 0, 4, 3, 182, 0, 205, 153, 0, 5, 3, 172, 42, 89, 180, 1, 116]
abbrev dktX4_undo_1 : List UInt8 := dkwX4_undo_1 ++ dktX4_undo_2
def dkwX4_undo_0 : List UInt8 := [42, 42, 180, 1, 116, 154, 0, 7, 4, 167, 0, 26, 42, 180, 0, 171, 42, 180, 1, 116, 4, 100, 46, 42]
abbrev dktX4_undo_0 : List UInt8 := dkwX4_undo_0 ++ dktX4_undo_1
theorem dksX4_undo_0 : cX4_undo.data.toList.drop 0 = dktX4_undo_0 := by decide +kernel
theorem dksX4_undo_1 : cX4_undo.data.toList.drop 24 = dktX4_undo_1 := dk_seg dksX4_undo_0 24 rfl rfl
theorem dksX4_undo_2 : cX4_undo.data.toList.drop 48 = dktX4_undo_2 := dk_seg dksX4_undo_1 24 rfl rfl
theorem dksX4_undo_3 : cX4_undo.data.toList.drop 71 = dktX4_undo_3 := dk_seg dksX4_undo_2 23 rfl rfl
theorem dksX4_undo_4 : cX4_undo.data.toList.drop 94 = dktX4_undo_4 := dk_seg dksX4_undo_3 23 rfl rfl
theorem dX4_undo_0 : decode cX4_undo 0 = .ok (.aload_n 0, 1) := dk_42 (dk_at dksX4_undo_0 0 rfl rfl)
theorem dX4_undo_1 : decode cX4_undo 1 = .ok (.aload_n 0, 1) := dk_42 (dk_at dksX4_undo_0 1 rfl rfl)
theorem dX4_undo_2 : decode cX4_undo 2 = .ok (.getfield 372, 3) := dk_180 1 116 (dk_at dksX4_undo_0 2 rfl rfl)
theorem dX4_undo_5 : decode cX4_undo 5 = .ok (.ifCond .ne 7, 3) := dk_154 0 7 (dk_at dksX4_undo_0 5 rfl rfl)
theorem dX4_undo_8 : decode cX4_undo 8 = .ok (.iconst 1, 1) := dk_4 (dk_at dksX4_undo_0 8 rfl rfl)
theorem dX4_undo_9 : decode cX4_undo 9 = .ok (.goto 26, 3) := dk_167 0 26 (dk_at dksX4_undo_0 9 rfl rfl)
theorem dX4_undo_12 : decode cX4_undo 12 = .ok (.aload_n 0, 1) := dk_42 (dk_at dksX4_undo_0 12 rfl rfl)
theorem dX4_undo_13 : decode cX4_undo 13 = .ok (.getfield 171, 3) := dk_180 0 171 (dk_at dksX4_undo_0 13 rfl rfl)
theorem dX4_undo_16 : decode cX4_undo 16 = .ok (.aload_n 0, 1) := dk_42 (dk_at dksX4_undo_0 16 rfl rfl)
theorem dX4_undo_17 : decode cX4_undo 17 = .ok (.getfield 372, 3) := dk_180 1 116 (dk_at dksX4_undo_0 17 rfl rfl)
theorem dX4_undo_20 : decode cX4_undo 20 = .ok (.iconst 1, 1) := dk_4 (dk_at dksX4_undo_0 20 rfl rfl)
theorem dX4_undo_21 : decode cX4_undo 21 = .ok (.isub, 1) := dk_100 (dk_at dksX4_undo_0 21 rfl rfl)
theorem dX4_undo_22 : decode cX4_undo 22 = .ok (.iaload, 1) := dk_46 (dk_at dksX4_undo_0 22 rfl rfl)
theorem dX4_undo_23 : decode cX4_undo 23 = .ok (.aload_n 0, 1) := dk_42 (dk_at dksX4_undo_0 23 rfl rfl)
theorem dX4_undo_24 : decode cX4_undo 24 = .ok (.getfield 164, 3) := dk_180 0 164 (dk_at dksX4_undo_1 0 rfl rfl)
theorem dX4_undo_27 : decode cX4_undo 27 = .ok (.if_icmp .gt 7, 3) := dk_163 0 7 (dk_at dksX4_undo_1 3 rfl rfl)
theorem dX4_undo_30 : decode cX4_undo 30 = .ok (.iconst 2, 1) := dk_5 (dk_at dksX4_undo_1 6 rfl rfl)
theorem dX4_undo_31 : decode cX4_undo 31 = .ok (.goto 4, 3) := dk_167 0 4 (dk_at dksX4_undo_1 7 rfl rfl)
theorem dX4_undo_34 : decode cX4_undo 34 = .ok (.iconst 0, 1) := dk_3 (dk_at dksX4_undo_1 10 rfl rfl)
theorem dX4_undo_35 : decode cX4_undo 35 = .ok (.invokevirtual 205, 3) := dk_182 0 205 (dk_at dksX4_undo_1 11 rfl rfl)
theorem dX4_undo_38 : decode cX4_undo 38 = .ok (.ifCond .eq 5, 3) := dk_153 0 5 (dk_at dksX4_undo_1 14 rfl rfl)
theorem dX4_undo_41 : decode cX4_undo 41 = .ok (.iconst 0, 1) := dk_3 (dk_at dksX4_undo_1 17 rfl rfl)
theorem dX4_undo_42 : decode cX4_undo 42 = .ok (.ireturn, 1) := dk_172 (dk_at dksX4_undo_1 18 rfl rfl)
theorem dX4_undo_43 : decode cX4_undo 43 = .ok (.aload_n 0, 1) := dk_42 (dk_at dksX4_undo_1 19 rfl rfl)
theorem dX4_undo_44 : decode cX4_undo 44 = .ok (.dup, 1) := dk_89 (dk_at dksX4_undo_1 20 rfl rfl)
theorem dX4_undo_45 : decode cX4_undo 45 = .ok (.getfield 372, 3) := dk_180 1 116 (dk_at dksX4_undo_1 21 rfl rfl)
theorem dX4_undo_48 : decode cX4_undo 48 = .ok (.iconst 1, 1) := dk_4 (dk_at dksX4_undo_2 0 rfl rfl)
theorem dX4_undo_49 : decode cX4_undo 49 = .ok (.isub, 1) := dk_100 (dk_at dksX4_undo_2 1 rfl rfl)
theorem dX4_undo_50 : decode cX4_undo 50 = .ok (.putfield 372, 3) := dk_181 1 116 (dk_at dksX4_undo_2 2 rfl rfl)
theorem dX4_undo_53 : decode cX4_undo 53 = .ok (.aload_n 0, 1) := dk_42 (dk_at dksX4_undo_2 5 rfl rfl)
theorem dX4_undo_54 : decode cX4_undo 54 = .ok (.aload_n 0, 1) := dk_42 (dk_at dksX4_undo_2 6 rfl rfl)
theorem dX4_undo_55 : decode cX4_undo 55 = .ok (.getfield 168, 3) := dk_180 0 168 (dk_at dksX4_undo_2 7 rfl rfl)
theorem dX4_undo_58 : decode cX4_undo 58 = .ok (.aload_n 0, 1) := dk_42 (dk_at dksX4_undo_2 10 rfl rfl)
theorem dX4_undo_59 : decode cX4_undo 59 = .ok (.getfield 372, 3) := dk_180 1 116 (dk_at dksX4_undo_2 11 rfl rfl)
theorem dX4_undo_62 : decode cX4_undo 62 = .ok (.iaload, 1) := dk_46 (dk_at dksX4_undo_2 14 rfl rfl)
theorem dX4_undo_63 : decode cX4_undo 63 = .ok (.putfield 375, 3) := dk_181 1 119 (dk_at dksX4_undo_2 15 rfl rfl)
theorem dX4_undo_66 : decode cX4_undo 66 = .ok (.aload_n 0, 1) := dk_42 (dk_at dksX4_undo_2 18 rfl rfl)
theorem dX4_undo_67 : decode cX4_undo 67 = .ok (.getfield 174, 3) := dk_180 0 174 (dk_at dksX4_undo_2 19 rfl rfl)
theorem dX4_undo_70 : decode cX4_undo 70 = .ok (.aload_n 0, 1) := dk_42 (dk_at dksX4_undo_2 22 rfl rfl)
theorem dX4_undo_71 : decode cX4_undo 71 = .ok (.getfield 372, 3) := dk_180 1 116 (dk_at dksX4_undo_3 0 rfl rfl)
theorem dX4_undo_74 : decode cX4_undo 74 = .ok (.iaload, 1) := dk_46 (dk_at dksX4_undo_3 3 rfl rfl)
theorem dX4_undo_75 : decode cX4_undo 75 = .ok (.ifCond .lt 18, 3) := dk_155 0 18 (dk_at dksX4_undo_3 4 rfl rfl)
theorem dX4_undo_78 : decode cX4_undo 78 = .ok (.aload_n 0, 1) := dk_42 (dk_at dksX4_undo_3 7 rfl rfl)
theorem dX4_undo_79 : decode cX4_undo 79 = .ok (.getfield 116, 3) := dk_180 0 116 (dk_at dksX4_undo_3 8 rfl rfl)
theorem dX4_undo_82 : decode cX4_undo 82 = .ok (.aload_n 0, 1) := dk_42 (dk_at dksX4_undo_3 11 rfl rfl)
theorem dX4_undo_83 : decode cX4_undo 83 = .ok (.getfield 174, 3) := dk_180 0 174 (dk_at dksX4_undo_3 12 rfl rfl)
theorem dX4_undo_86 : decode cX4_undo 86 = .ok (.aload_n 0, 1) := dk_42 (dk_at dksX4_undo_3 15 rfl rfl)
theorem dX4_undo_87 : decode cX4_undo 87 = .ok (.getfield 372, 3) := dk_180 1 116 (dk_at dksX4_undo_3 16 rfl rfl)
theorem dX4_undo_90 : decode cX4_undo 90 = .ok (.iaload, 1) := dk_46 (dk_at dksX4_undo_3 19 rfl rfl)
theorem dX4_undo_91 : decode cX4_undo 91 = .ok (.iconst 0, 1) := dk_3 (dk_at dksX4_undo_3 20 rfl rfl)
theorem dX4_undo_92 : decode cX4_undo 92 = .ok (.bastore, 1) := dk_84 (dk_at dksX4_undo_3 21 rfl rfl)
theorem dX4_undo_93 : decode cX4_undo 93 = .ok (.aload_n 0, 1) := dk_42 (dk_at dksX4_undo_3 22 rfl rfl)
theorem dX4_undo_94 : decode cX4_undo 94 = .ok (.getfield 375, 3) := dk_180 1 119 (dk_at dksX4_undo_4 0 rfl rfl)
theorem dX4_undo_97 : decode cX4_undo 97 = .ok (.ireturn, 1) := dk_172 (dk_at dksX4_undo_4 3 rfl rfl)
def dkwX4_isSound_0 : List UInt8 := [42, 3, 181, 0, 177, 4, 172]
abbrev dktX4_isSound_0 : List UInt8 := dkwX4_isSound_0 ++ []
theorem dksX4_isSound_0 : cX4_isSound.data.toList.drop 0 = dktX4_isSound_0 := by decide +kernel
theorem dX4_isSound_0 : decode cX4_isSound 0 = .ok (.aload_n 0, 1) := dk_42 (dk_at dksX4_isSound_0 0 rfl rfl)
theorem dX4_isSound_1 : decode cX4_isSound 1 = .ok (.iconst 0, 1) := dk_3 (dk_at dksX4_isSound_0 1 rfl rfl)
theorem dX4_isSound_2 : decode cX4_isSound 2 = .ok (.putfield 177, 3) := dk_181 0 177 (dk_at dksX4_isSound_0 2 rfl rfl)
theorem dX4_isSound_5 : decode cX4_isSound 5 = .ok (.iconst 1, 1) := dk_4 (dk_at dksX4_isSound_0 5 rfl rfl)
theorem dX4_isSound_6 : decode cX4_isSound 6 = .ok (.ireturn, 1) := dk_172 (dk_at dksX4_isSound_0 6 rfl rfl)
