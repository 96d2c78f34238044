set_option maxRecDepth 100000
def dkwJ23_fill_2_0 : List UInt8 := [3, 61, 42, 190, 62, 28, 29, 162, 0, 13, 42, 28, 27, 79, 132, 2, 1, 167, 255, 244, 177]
abbrev dktJ23_fill_2_0 : List UInt8 := dkwJ23_fill_2_0 ++ []
theorem dksJ23_fill_2_0 : cJ23_fill_2.data.toList.drop 0 = dktJ23_fill_2_0 := by decide +kernel
theorem dJ23_fill_2_0 : decode cJ23_fill_2 0 = .ok (.iconst 0, 1) := dk_3 (dk_at dksJ23_fill_2_0 0 rfl rfl)
theorem dJ23_fill_2_1 : decode cJ23_fill_2 1 = .ok (.istore_n 2, 1) := dk_61 (dk_at dksJ23_fill_2_0 1 rfl rfl)
theorem dJ23_fill_2_2 : decode cJ23_fill_2 2 = .ok (.aload_n 0, 1) := dk_42 (dk_at dksJ23_fill_2_0 2 rfl rfl)
theorem dJ23_fill_2_3 : decode cJ23_fill_2 3 = .ok (.arraylength, 1) := dk_190 (dk_at dksJ23_fill_2_0 3 rfl rfl)
theorem dJ23_fill_2_4 : decode cJ23_fill_2 4 = .ok (.istore_n 3, 1) := dk_62 (dk_at dksJ23_fill_2_0 4 rfl rfl)
theorem dJ23_fill_2_5 : decode cJ23_fill_2 5 = .ok (.iload_n 2, 1) := dk_28 (dk_at dksJ23_fill_2_0 5 rfl rfl)
theorem dJ23_fill_2_6 : decode cJ23_fill_2 6 = .ok (.iload_n 3, 1) := dk_29 (dk_at dksJ23_fill_2_0 6 rfl rfl)
theorem dJ23_fill_2_7 : decode cJ23_fill_2 7 = .ok (.if_icmp .ge 13, 3) := dk_162 0 13 (dk_at dksJ23_fill_2_0 7 rfl rfl)
theorem dJ23_fill_2_10 : decode cJ23_fill_2 10 = .ok (.aload_n 0, 1) := dk_42 (dk_at dksJ23_fill_2_0 10 rfl rfl)
theorem dJ23_fill_2_11 : decode cJ23_fill_2 11 = .ok (.iload_n 2, 1) := dk_28 (dk_at dksJ23_fill_2_0 11 rfl rfl)
theorem dJ23_fill_2_12 : decode cJ23_fill_2 12 = .ok (.iload_n 1, 1) := dk_27 (dk_at dksJ23_fill_2_0 12 rfl rfl)
theorem dJ23_fill_2_13 : decode cJ23_fill_2 13 = .ok (.iastore, 1) := dk_79 (dk_at dksJ23_fill_2_0 13 rfl rfl)
theorem dJ23_fill_2_14 : decode cJ23_fill_2 14 = .ok (.iinc 2 1, 3) := dk_132 2 1 (dk_at dksJ23_fill_2_0 14 rfl rfl)
theorem dJ23_fill_2_17 : decode cJ23_fill_2 17 = .ok (.goto (-12), 3) := dk_167 255 244 (dk_at dksJ23_fill_2_0 17 rfl rfl)
theorem dJ23_fill_2_20 : decode cJ23_fill_2 20 = .ok (.return_, 1) := dk_177 (dk_at dksJ23_fill_2_0 20 rfl rfl)
def dkwJ35_init_0 : List UInt8 := [42, 183, 0, 5, 42, 3, 181, 0, 11, 42, 43, 181, 0, 17, 42, 43, 190, 181, 0, 21, 177]
abbrev dktJ35_init_0 : List UInt8 := dkwJ35_init_0 ++ []
theorem dksJ35_init_0 : cJ35_init.data.toList.drop 0 = dktJ35_init_0 := by decide +kernel
theorem dJ35_init_0 : decode cJ35_init 0 = .ok (.aload_n 0, 1) := dk_42 (dk_at dksJ35_init_0 0 rfl rfl)
theorem dJ35_init_1 : decode cJ35_init 1 = .ok (.invokespecial 5, 3) := dk_183 0 5 (dk_at dksJ35_init_0 1 rfl rfl)
theorem dJ35_init_4 : decode cJ35_init 4 = .ok (.aload_n 0, 1) := dk_42 (dk_at dksJ35_init_0 4 rfl rfl)
theorem dJ35_init_5 : decode cJ35_init 5 = .ok (.iconst 0, 1) := dk_3 (dk_at dksJ35_init_0 5 rfl rfl)
theorem dJ35_init_6 : decode cJ35_init 6 = .ok (.putfield 11, 3) := dk_181 0 11 (dk_at dksJ35_init_0 6 rfl rfl)
theorem dJ35_init_9 : decode cJ35_init 9 = .ok (.aload_n 0, 1) := dk_42 (dk_at dksJ35_init_0 9 rfl rfl)
theorem dJ35_init_10 : decode cJ35_init 10 = .ok (.aload_n 1, 1) := dk_43 (dk_at dksJ35_init_0 10 rfl rfl)
theorem dJ35_init_11 : decode cJ35_init 11 = .ok (.putfield 17, 3) := dk_181 0 17 (dk_at dksJ35_init_0 11 rfl rfl)
theorem dJ35_init_14 : decode cJ35_init 14 = .ok (.aload_n 0, 1) := dk_42 (dk_at dksJ35_init_0 14 rfl rfl)
theorem dJ35_init_15 : decode cJ35_init 15 = .ok (.aload_n 1, 1) := dk_43 (dk_at dksJ35_init_0 15 rfl rfl)
theorem dJ35_init_16 : decode cJ35_init 16 = .ok (.arraylength, 1) := dk_190 (dk_at dksJ35_init_0 16 rfl rfl)
theorem dJ35_init_17 : decode cJ35_init 17 = .ok (.putfield 21, 3) := dk_181 0 21 (dk_at dksJ35_init_0 17 rfl rfl)
theorem dJ35_init_20 : decode cJ35_init 20 = .ok (.return_, 1) := dk_177 (dk_at dksJ35_init_0 20 rfl rfl)
def dkwJ35_init_2_0 : List UInt8 := [42, 183, 0, 5, 42, 3, 181, 0, 11, 42, 4, 188, 10, 181, 0, 17, 42, 3, 181, 0, 21, 177]
abbrev dktJ35_init_2_0 : List UInt8 := dkwJ35_init_2_0 ++ []
theorem dksJ35_init_2_0 : cJ35_init_2.data.toList.drop 0 = dktJ35_init_2_0 := by decide +kernel
theorem dJ35_init_2_0 : decode cJ35_init_2 0 = .ok (.aload_n 0, 1) := dk_42 (dk_at dksJ35_init_2_0 0 rfl rfl)
theorem dJ35_init_2_1 : decode cJ35_init_2 1 = .ok (.invokespecial 5, 3) := dk_183 0 5 (dk_at dksJ35_init_2_0 1 rfl rfl)
theorem dJ35_init_2_4 : decode cJ35_init_2 4 = .ok (.aload_n 0, 1) := dk_42 (dk_at dksJ35_init_2_0 4 rfl rfl)
theorem dJ35_init_2_5 : decode cJ35_init_2 5 = .ok (.iconst 0, 1) := dk_3 (dk_at dksJ35_init_2_0 5 rfl rfl)
theorem dJ35_init_2_6 : decode cJ35_init_2 6 = .ok (.putfield 11, 3) := dk_181 0 11 (dk_at dksJ35_init_2_0 6 rfl rfl)
theorem dJ35_init_2_9 : decode cJ35_init_2 9 = .ok (.aload_n 0, 1) := dk_42 (dk_at dksJ35_init_2_0 9 rfl rfl)
theorem dJ35_init_2_10 : decode cJ35_init_2 10 = .ok (.iconst 1, 1) := dk_4 (dk_at dksJ35_init_2_0 10 rfl rfl)
theorem dJ35_init_2_11 : decode cJ35_init_2 11 = .ok (.newarray .int, 2) := dk_188_10 (dk_at dksJ35_init_2_0 11 rfl rfl)
theorem dJ35_init_2_13 : decode cJ35_init_2 13 = .ok (.putfield 17, 3) := dk_181 0 17 (dk_at dksJ35_init_2_0 13 rfl rfl)
theorem dJ35_init_2_16 : decode cJ35_init_2 16 = .ok (.aload_n 0, 1) := dk_42 (dk_at dksJ35_init_2_0 16 rfl rfl)
theorem dJ35_init_2_17 : decode cJ35_init_2 17 = .ok (.iconst 0, 1) := dk_3 (dk_at dksJ35_init_2_0 17 rfl rfl)
theorem dJ35_init_2_18 : decode cJ35_init_2 18 = .ok (.putfield 21, 3) := dk_181 0 21 (dk_at dksJ35_init_2_0 18 rfl rfl)
theorem dJ35_init_2_21 : decode cJ35_init_2 21 = .ok (.return_, 1) := dk_177 (dk_at dksJ35_init_2_0 21 rfl rfl)
def dkwJ35_clear_1 : List UInt8 := [180, 0, 17, 27, 3, 79, 132, 1, 1, 167, 255, 241, 177]
abbrev dktJ35_clear_1 : List UInt8 := dkwJ35_clear_1 ++ []
def dkwJ35_clear_0 : List UInt8 := [42, 42, 3, 90, 181, 0, 21, 181, 0, 11, 3, 60, 42, 180, 0, 17, 190, 61, 27, 28, 162, 0, 16, 42]
abbrev dktJ35_clear_0 : List UInt8 := dkwJ35_clear_0 ++ dktJ35_clear_1
theorem dksJ35_clear_0 : cJ35_clear.data.toList.drop 0 = dktJ35_clear_0 := by decide +kernel
theorem dksJ35_clear_1 : cJ35_clear.data.toList.drop 24 = dktJ35_clear_1 := dk_seg dksJ35_clear_0 24 rfl rfl
theorem dJ35_clear_0 : decode cJ35_clear 0 = .ok (.aload_n 0, 1) := dk_42 (dk_at dksJ35_clear_0 0 rfl rfl)
theorem dJ35_clear_1 : decode cJ35_clear 1 = .ok (.aload_n 0, 1) := dk_42 (dk_at dksJ35_clear_0 1 rfl rfl)
theorem dJ35_clear_2 : decode cJ35_clear 2 = .ok (.iconst 0, 1) := dk_3 (dk_at dksJ35_clear_0 2 rfl rfl)
theorem dJ35_clear_3 : decode cJ35_clear 3 = .ok (.dup_x1, 1) := dk_90 (dk_at dksJ35_clear_0 3 rfl rfl)
theorem dJ35_clear_4 : decode cJ35_clear 4 = .ok (.putfield 21, 3) := dk_181 0 21 (dk_at dksJ35_clear_0 4 rfl rfl)
theorem dJ35_clear_7 : decode cJ35_clear 7 = .ok (.putfield 11, 3) := dk_181 0 11 (dk_at dksJ35_clear_0 7 rfl rfl)
theorem dJ35_clear_10 : decode cJ35_clear 10 = .ok (.iconst 0, 1) := dk_3 (dk_at dksJ35_clear_0 10 rfl rfl)
theorem dJ35_clear_11 : decode cJ35_clear 11 = .ok (.istore_n 1, 1) := dk_60 (dk_at dksJ35_clear_0 11 rfl rfl)
theorem dJ35_clear_12 : decode cJ35_clear 12 = .ok (.aload_n 0, 1) := dk_42 (dk_at dksJ35_clear_0 12 rfl rfl)
theorem dJ35_clear_13 : decode cJ35_clear 13 = .ok (.getfield 17, 3) := dk_180 0 17 (dk_at dksJ35_clear_0 13 rfl rfl)
theorem dJ35_clear_16 : decode cJ35_clear 16 = .ok (.arraylength, 1) := dk_190 (dk_at dksJ35_clear_0 16 rfl rfl)
theorem dJ35_clear_17 : decode cJ35_clear 17 = .ok (.istore_n 2, 1) := dk_61 (dk_at dksJ35_clear_0 17 rfl rfl)
theorem dJ35_clear_18 : decode cJ35_clear 18 = .ok (.iload_n 1, 1) := dk_27 (dk_at dksJ35_clear_0 18 rfl rfl)
theorem dJ35_clear_19 : decode cJ35_clear 19 = .ok (.iload_n 2, 1) := dk_28 (dk_at dksJ35_clear_0 19 rfl rfl)
theorem dJ35_clear_20 : decode cJ35_clear 20 = .ok (.if_icmp .ge 16, 3) := dk_162 0 16 (dk_at dksJ35_clear_0 20 rfl rfl)
theorem dJ35_clear_23 : decode cJ35_clear 23 = .ok (.aload_n 0, 1) := dk_42 (dk_at dksJ35_clear_0 23 rfl rfl)
theorem dJ35_clear_24 : decode cJ35_clear 24 = .ok (.getfield 17, 3) := dk_180 0 17 (dk_at dksJ35_clear_1 0 rfl rfl)
theorem dJ35_clear_27 : decode cJ35_clear 27 = .ok (.iload_n 1, 1) := dk_27 (dk_at dksJ35_clear_1 3 rfl rfl)
theorem dJ35_clear_28 : decode cJ35_clear 28 = .ok (.iconst 0, 1) := dk_3 (dk_at dksJ35_clear_1 4 rfl rfl)
theorem dJ35_clear_29 : decode cJ35_clear 29 = .ok (.iastore, 1) := dk_79 (dk_at dksJ35_clear_1 5 rfl rfl)
theorem dJ35_clear_30 : decode cJ35_clear 30 = .ok (.iinc 1 1, 3) := dk_132 1 1 (dk_at dksJ35_clear_1 6 rfl rfl)
theorem dJ35_clear_33 : decode cJ35_clear 33 = .ok (.goto (-15), 3) := dk_167 255 241 (dk_at dksJ35_clear_1 9 rfl rfl)
theorem dJ35_clear_36 : decode cJ35_clear 36 = .ok (.return_, 1) := dk_177 (dk_at dksJ35_clear_1 12 rfl rfl)
def dkwJ35_divideOneWord_14 : List UInt8 := [21, 6, 172]
abbrev dktJ35_divideOneWord_14 : List UInt8 := dkwJ35_divideOneWord_14 ++ []
def dkwJ35_divideOneWord_13 : List UInt8 := [133, 20, 0, 52, 127, 55, 7, 167, 255, 142, 44, 182, 0, 64, 21, 5, 158, 0, 8, 21, 6, 27, 112, 172]
abbrev dktJ35_divideOneWord_13 : List UInt8 := dkwJ35_divideOneWord_13 ++ dktJ35_divideOneWord_14
def dkwJ35_divideOneWord_12 : List UInt8 := [22, 13, 16, 32, 125, 136, 54, 6, 44, 180, 0, 17, 42, 180, 0, 21, 21, 9, 100, 21, 12, 79, 21, 6]
abbrev dktJ35_divideOneWord_12 : List UInt8 := dkwJ35_divideOneWord_12 ++ dktJ35_divideOneWord_13
def dkwJ35_divideOneWord_11 : List UInt8 := [136, 54, 6, 167, 0, 28, 22, 10, 27, 184, 0, 155, 55, 13, 22, 13, 20, 0, 52, 127, 136, 54, 12]
abbrev dktJ35_divideOneWord_11 : List UInt8 := dkwJ35_divideOneWord_11 ++ dktJ35_divideOneWord_12
def dkwJ35_divideOneWord_10 : List UInt8 := [55, 10, 22, 10, 9, 148, 155, 0, 24, 22, 10, 33, 109, 136, 54, 12, 22, 10, 21, 12, 133, 33, 105, 101]
abbrev dktJ35_divideOneWord_10 : List UInt8 := dkwJ35_divideOneWord_10 ++ dktJ35_divideOneWord_11
def dkwJ35_divideOneWord_9 : List UInt8 := [121, 42, 180, 0, 17, 42, 180, 0, 11, 42, 180, 0, 21, 96, 21, 9, 100, 46, 133, 20, 0, 52, 127, 129]
abbrev dktJ35_divideOneWord_9 : List UInt8 := dkwJ35_divideOneWord_9 ++ dktJ35_divideOneWord_10
def dkwJ35_divideOneWord_8 : List UInt8 := [20, 0, 52, 127, 55, 7, 42, 180, 0, 21, 54, 9, 132, 9, 255, 21, 9, 158, 0, 112, 22, 7, 16, 32]
abbrev dktJ35_divideOneWord_8 : List UInt8 := dkwJ35_divideOneWord_8 ++ dktJ35_divideOneWord_9
def dkwJ35_divideOneWord_7 : List UInt8 := [22, 7, 33, 109, 136, 79, 22, 7, 44, 180, 0, 17, 3, 46, 133, 33, 105, 101, 136, 54, 6, 21, 6, 133]
abbrev dktJ35_divideOneWord_7 : List UInt8 := dkwJ35_divideOneWord_7 ++ dktJ35_divideOneWord_8
def dkwJ35_divideOneWord_6 : List UInt8 := [55, 7, 22, 7, 33, 148, 156, 0, 13, 44, 180, 0, 17, 3, 3, 79, 167, 0, 38, 44, 180, 0, 17, 3]
abbrev dktJ35_divideOneWord_6 : List UInt8 := dkwJ35_divideOneWord_6 ++ dktJ35_divideOneWord_7
def dkwJ35_divideOneWord_5 : List UInt8 := [184, 0, 152, 54, 5, 42, 180, 0, 17, 42, 180, 0, 11, 46, 54, 6, 21, 6, 133, 20, 0, 52, 127]
abbrev dktJ35_divideOneWord_5 : List UInt8 := dkwJ35_divideOneWord_5 ++ dktJ35_divideOneWord_6
def dkwJ35_divideOneWord_4 : List UInt8 := [180, 0, 21, 188, 10, 181, 0, 17, 44, 3, 181, 0, 11, 44, 42, 180, 0, 21, 181, 0, 21, 27]
abbrev dktJ35_divideOneWord_4 : List UInt8 := dkwJ35_divideOneWord_4 ++ dktJ35_divideOneWord_5
def dkwJ35_divideOneWord_3 : List UInt8 := [44, 3, 181, 0, 11, 21, 8, 172, 44, 180, 0, 17, 190, 42, 180, 0, 21, 162, 0, 13, 44, 42]
abbrev dktJ35_divideOneWord_3 : List UInt8 := dkwJ35_divideOneWord_3 ++ dktJ35_divideOneWord_4
def dkwJ35_divideOneWord_2 : List UInt8 := [54, 8, 44, 180, 0, 17, 3, 21, 7, 79, 44, 21, 7, 154, 0, 7, 3, 167, 0, 4, 4, 181, 0, 21]
abbrev dktJ35_divideOneWord_2 : List UInt8 := dkwJ35_divideOneWord_2 ++ dktJ35_divideOneWord_3
def dkwJ35_divideOneWord_1 : List UInt8 := [133, 20, 0, 52, 127, 55, 5, 22, 5, 33, 109, 136, 54, 7, 22, 5, 21, 7, 133, 33, 105, 101, 136]
abbrev dktJ35_divideOneWord_1 : List UInt8 := dkwJ35_divideOneWord_1 ++ dktJ35_divideOneWord_2
def dkwJ35_divideOneWord_0 : List UInt8 := [27, 133, 20, 0, 52, 127, 66, 42, 180, 0, 21, 4, 160, 0, 67, 42, 180, 0, 17, 42, 180, 0, 11, 46]
abbrev dktJ35_divideOneWord_0 : List UInt8 := dkwJ35_divideOneWord_0 ++ dktJ35_divideOneWord_1
theorem dksJ35_divideOneWord_0 : cJ35_divideOneWord.data.toList.drop 0 = dktJ35_divideOneWord_0 := by decide +kernel
theorem dksJ35_divideOneWord_1 : cJ35_divideOneWord.data.toList.drop 24 = dktJ35_divideOneWord_1 := dk_seg dksJ35_divideOneWord_0 24 rfl rfl
theorem dksJ35_divideOneWord_2 : cJ35_divideOneWord.data.toList.drop 47 = dktJ35_divideOneWord_2 := dk_seg dksJ35_divideOneWord_1 23 rfl rfl
theorem dksJ35_divideOneWord_3 : cJ35_divideOneWord.data.toList.drop 71 = dktJ35_divideOneWord_3 := dk_seg dksJ35_divideOneWord_2 24 rfl rfl
theorem dksJ35_divideOneWord_4 : cJ35_divideOneWord.data.toList.drop 93 = dktJ35_divideOneWord_4 := dk_seg dksJ35_divideOneWord_3 22 rfl rfl
theorem dksJ35_divideOneWord_5 : cJ35_divideOneWord.data.toList.drop 115 = dktJ35_divideOneWord_5 := dk_seg dksJ35_divideOneWord_4 22 rfl rfl
theorem dksJ35_divideOneWord_6 : cJ35_divideOneWord.data.toList.drop 138 = dktJ35_divideOneWord_6 := dk_seg dksJ35_divideOneWord_5 23 rfl rfl
theorem dksJ35_divideOneWord_7 : cJ35_divideOneWord.data.toList.drop 162 = dktJ35_divideOneWord_7 := dk_seg dksJ35_divideOneWord_6 24 rfl rfl
theorem dksJ35_divideOneWord_8 : cJ35_divideOneWord.data.toList.drop 186 = dktJ35_divideOneWord_8 := dk_seg dksJ35_divideOneWord_7 24 rfl rfl
theorem dksJ35_divideOneWord_9 : cJ35_divideOneWord.data.toList.drop 210 = dktJ35_divideOneWord_9 := dk_seg dksJ35_divideOneWord_8 24 rfl rfl
theorem dksJ35_divideOneWord_10 : cJ35_divideOneWord.data.toList.drop 234 = dktJ35_divideOneWord_10 := dk_seg dksJ35_divideOneWord_9 24 rfl rfl
theorem dksJ35_divideOneWord_11 : cJ35_divideOneWord.data.toList.drop 258 = dktJ35_divideOneWord_11 := dk_seg dksJ35_divideOneWord_10 24 rfl rfl
theorem dksJ35_divideOneWord_12 : cJ35_divideOneWord.data.toList.drop 281 = dktJ35_divideOneWord_12 := dk_seg dksJ35_divideOneWord_11 23 rfl rfl
theorem dksJ35_divideOneWord_13 : cJ35_divideOneWord.data.toList.drop 305 = dktJ35_divideOneWord_13 := dk_seg dksJ35_divideOneWord_12 24 rfl rfl
theorem dksJ35_divideOneWord_14 : cJ35_divideOneWord.data.toList.drop 329 = dktJ35_divideOneWord_14 := dk_seg dksJ35_divideOneWord_13 24 rfl rfl
theorem dJ35_divideOneWord_0 : decode cJ35_divideOneWord 0 = .ok (.iload_n 1, 1) := dk_27 (dk_at dksJ35_divideOneWord_0 0 rfl rfl)
theorem dJ35_divideOneWord_1 : decode cJ35_divideOneWord 1 = .ok (.i2l, 1) := dk_133 (dk_at dksJ35_divideOneWord_0 1 rfl rfl)
theorem dJ35_divideOneWord_2 : decode cJ35_divideOneWord 2 = .ok (.ldc2_w 52, 3) := dk_20 0 52 (dk_at dksJ35_divideOneWord_0 2 rfl rfl)
theorem dJ35_divideOneWord_5 : decode cJ35_divideOneWord 5 = .ok (.land, 1) := dk_127 (dk_at dksJ35_divideOneWord_0 5 rfl rfl)
theorem dJ35_divideOneWord_6 : decode cJ35_divideOneWord 6 = .ok (.lstore_n 3, 1) := dk_66 (dk_at dksJ35_divideOneWord_0 6 rfl rfl)
theorem dJ35_divideOneWord_7 : decode cJ35_divideOneWord 7 = .ok (.aload_n 0, 1) := dk_42 (dk_at dksJ35_divideOneWord_0 7 rfl rfl)
theorem dJ35_divideOneWord_8 : decode cJ35_divideOneWord 8 = .ok (.getfield 21, 3) := dk_180 0 21 (dk_at dksJ35_divideOneWord_0 8 rfl rfl)
theorem dJ35_divideOneWord_11 : decode cJ35_divideOneWord 11 = .ok (.iconst 1, 1) := dk_4 (dk_at dksJ35_divideOneWord_0 11 rfl rfl)
theorem dJ35_divideOneWord_12 : decode cJ35_divideOneWord 12 = .ok (.if_icmp .ne 67, 3) := dk_160 0 67 (dk_at dksJ35_divideOneWord_0 12 rfl rfl)
theorem dJ35_divideOneWord_15 : decode cJ35_divideOneWord 15 = .ok (.aload_n 0, 1) := dk_42 (dk_at dksJ35_divideOneWord_0 15 rfl rfl)
theorem dJ35_divideOneWord_16 : decode cJ35_divideOneWord 16 = .ok (.getfield 17, 3) := dk_180 0 17 (dk_at dksJ35_divideOneWord_0 16 rfl rfl)
theorem dJ35_divideOneWord_19 : decode cJ35_divideOneWord 19 = .ok (.aload_n 0, 1) := dk_42 (dk_at dksJ35_divideOneWord_0 19 rfl rfl)
theorem dJ35_divideOneWord_20 : decode cJ35_divideOneWord 20 = .ok (.getfield 11, 3) := dk_180 0 11 (dk_at dksJ35_divideOneWord_0 20 rfl rfl)
theorem dJ35_divideOneWord_23 : decode cJ35_divideOneWord 23 = .ok (.iaload, 1) := dk_46 (dk_at dksJ35_divideOneWord_0 23 rfl rfl)
theorem dJ35_divideOneWord_24 : decode cJ35_divideOneWord 24 = .ok (.i2l, 1) := dk_133 (dk_at dksJ35_divideOneWord_1 0 rfl rfl)
theorem dJ35_divideOneWord_25 : decode cJ35_divideOneWord 25 = .ok (.ldc2_w 52, 3) := dk_20 0 52 (dk_at dksJ35_divideOneWord_1 1 rfl rfl)
theorem dJ35_divideOneWord_28 : decode cJ35_divideOneWord 28 = .ok (.land, 1) := dk_127 (dk_at dksJ35_divideOneWord_1 4 rfl rfl)
theorem dJ35_divideOneWord_29 : decode cJ35_divideOneWord 29 = .ok (.lstore 5, 2) := dk_55 5 (dk_at dksJ35_divideOneWord_1 5 rfl rfl)
theorem dJ35_divideOneWord_31 : decode cJ35_divideOneWord 31 = .ok (.lload 5, 2) := dk_22 5 (dk_at dksJ35_divideOneWord_1 7 rfl rfl)
theorem dJ35_divideOneWord_33 : decode cJ35_divideOneWord 33 = .ok (.lload_n 3, 1) := dk_33 (dk_at dksJ35_divideOneWord_1 9 rfl rfl)
theorem dJ35_divideOneWord_34 : decode cJ35_divideOneWord 34 = .ok (.ldiv, 1) := dk_109 (dk_at dksJ35_divideOneWord_1 10 rfl rfl)
theorem dJ35_divideOneWord_35 : decode cJ35_divideOneWord 35 = .ok (.l2i, 1) := dk_136 (dk_at dksJ35_divideOneWord_1 11 rfl rfl)
theorem dJ35_divideOneWord_36 : decode cJ35_divideOneWord 36 = .ok (.istore 7, 2) := dk_54 7 (dk_at dksJ35_divideOneWord_1 12 rfl rfl)
theorem dJ35_divideOneWord_38 : decode cJ35_divideOneWord 38 = .ok (.lload 5, 2) := dk_22 5 (dk_at dksJ35_divideOneWord_1 14 rfl rfl)
theorem dJ35_divideOneWord_40 : decode cJ35_divideOneWord 40 = .ok (.iload 7, 2) := dk_21 7 (dk_at dksJ35_divideOneWord_1 16 rfl rfl)
theorem dJ35_divideOneWord_42 : decode cJ35_divideOneWord 42 = .ok (.i2l, 1) := dk_133 (dk_at dksJ35_divideOneWord_1 18 rfl rfl)
theorem dJ35_divideOneWord_43 : decode cJ35_divideOneWord 43 = .ok (.lload_n 3, 1) := dk_33 (dk_at dksJ35_divideOneWord_1 19 rfl rfl)
theorem dJ35_divideOneWord_44 : decode cJ35_divideOneWord 44 = .ok (.lmul, 1) := dk_105 (dk_at dksJ35_divideOneWord_1 20 rfl rfl)
theorem dJ35_divideOneWord_45 : decode cJ35_divideOneWord 45 = .ok (.lsub, 1) := dk_101 (dk_at dksJ35_divideOneWord_1 21 rfl rfl)
theorem dJ35_divideOneWord_46 : decode cJ35_divideOneWord 46 = .ok (.l2i, 1) := dk_136 (dk_at dksJ35_divideOneWord_1 22 rfl rfl)
theorem dJ35_divideOneWord_47 : decode cJ35_divideOneWord 47 = .ok (.istore 8, 2) := dk_54 8 (dk_at dksJ35_divideOneWord_2 0 rfl rfl)
theorem dJ35_divideOneWord_49 : decode cJ35_divideOneWord 49 = .ok (.aload_n 2, 1) := dk_44 (dk_at dksJ35_divideOneWord_2 2 rfl rfl)
theorem dJ35_divideOneWord_50 : decode cJ35_divideOneWord 50 = .ok (.getfield 17, 3) := dk_180 0 17 (dk_at dksJ35_divideOneWord_2 3 rfl rfl)
theorem dJ35_divideOneWord_53 : decode cJ35_divideOneWord 53 = .ok (.iconst 0, 1) := dk_3 (dk_at dksJ35_divideOneWord_2 6 rfl rfl)
theorem dJ35_divideOneWord_54 : decode cJ35_divideOneWord 54 = .ok (.iload 7, 2) := dk_21 7 (dk_at dksJ35_divideOneWord_2 7 rfl rfl)
theorem dJ35_divideOneWord_56 : decode cJ35_divideOneWord 56 = .ok (.iastore, 1) := dk_79 (dk_at dksJ35_divideOneWord_2 9 rfl rfl)
theorem dJ35_divideOneWord_57 : decode cJ35_divideOneWord 57 = .ok (.aload_n 2, 1) := dk_44 (dk_at dksJ35_divideOneWord_2 10 rfl rfl)
theorem dJ35_divideOneWord_58 : decode cJ35_divideOneWord 58 = .ok (.iload 7, 2) := dk_21 7 (dk_at dksJ35_divideOneWord_2 11 rfl rfl)
theorem dJ35_divideOneWord_60 : decode cJ35_divideOneWord 60 = .ok (.ifCond .ne 7, 3) := dk_154 0 7 (dk_at dksJ35_divideOneWord_2 13 rfl rfl)
theorem dJ35_divideOneWord_63 : decode cJ35_divideOneWord 63 = .ok (.iconst 0, 1) := dk_3 (dk_at dksJ35_divideOneWord_2 16 rfl rfl)
theorem dJ35_divideOneWord_64 : decode cJ35_divideOneWord 64 = .ok (.goto 4, 3) := dk_167 0 4 (dk_at dksJ35_divideOneWord_2 17 rfl rfl)
theorem dJ35_divideOneWord_67 : decode cJ35_divideOneWord 67 = .ok (.iconst 1, 1) := dk_4 (dk_at dksJ35_divideOneWord_2 20 rfl rfl)
theorem dJ35_divideOneWord_68 : decode cJ35_divideOneWord 68 = .ok (.putfield 21, 3) := dk_181 0 21 (dk_at dksJ35_divideOneWord_2 21 rfl rfl)
theorem dJ35_divideOneWord_71 : decode cJ35_divideOneWord 71 = .ok (.aload_n 2, 1) := dk_44 (dk_at dksJ35_divideOneWord_3 0 rfl rfl)
theorem dJ35_divideOneWord_72 : decode cJ35_divideOneWord 72 = .ok (.iconst 0, 1) := dk_3 (dk_at dksJ35_divideOneWord_3 1 rfl rfl)
theorem dJ35_divideOneWord_73 : decode cJ35_divideOneWord 73 = .ok (.putfield 11, 3) := dk_181 0 11 (dk_at dksJ35_divideOneWord_3 2 rfl rfl)
theorem dJ35_divideOneWord_76 : decode cJ35_divideOneWord 76 = .ok (.iload 8, 2) := dk_21 8 (dk_at dksJ35_divideOneWord_3 5 rfl rfl)
theorem dJ35_divideOneWord_78 : decode cJ35_divideOneWord 78 = .ok (.ireturn, 1) := dk_172 (dk_at dksJ35_divideOneWord_3 7 rfl rfl)
theorem dJ35_divideOneWord_79 : decode cJ35_divideOneWord 79 = .ok (.aload_n 2, 1) := dk_44 (dk_at dksJ35_divideOneWord_3 8 rfl rfl)
theorem dJ35_divideOneWord_80 : decode cJ35_divideOneWord 80 = .ok (.getfield 17, 3) := dk_180 0 17 (dk_at dksJ35_divideOneWord_3 9 rfl rfl)
theorem dJ35_divideOneWord_83 : decode cJ35_divideOneWord 83 = .ok (.arraylength, 1) := dk_190 (dk_at dksJ35_divideOneWord_3 12 rfl rfl)
theorem dJ35_divideOneWord_84 : decode cJ35_divideOneWord 84 = .ok (.aload_n 0, 1) := dk_42 (dk_at dksJ35_divideOneWord_3 13 rfl rfl)
theorem dJ35_divideOneWord_85 : decode cJ35_divideOneWord 85 = .ok (.getfield 21, 3) := dk_180 0 21 (dk_at dksJ35_divideOneWord_3 14 rfl rfl)
theorem dJ35_divideOneWord_88 : decode cJ35_divideOneWord 88 = .ok (.if_icmp .ge 13, 3) := dk_162 0 13 (dk_at dksJ35_divideOneWord_3 17 rfl rfl)
theorem dJ35_divideOneWord_91 : decode cJ35_divideOneWord 91 = .ok (.aload_n 2, 1) := dk_44 (dk_at dksJ35_divideOneWord_3 20 rfl rfl)
theorem dJ35_divideOneWord_92 : decode cJ35_divideOneWord 92 = .ok (.aload_n 0, 1) := dk_42 (dk_at dksJ35_divideOneWord_3 21 rfl rfl)
theorem dJ35_divideOneWord_93 : decode cJ35_divideOneWord 93 = .ok (.getfield 21, 3) := dk_180 0 21 (dk_at dksJ35_divideOneWord_4 0 rfl rfl)
theorem dJ35_divideOneWord_96 : decode cJ35_divideOneWord 96 = .ok (.newarray .int, 2) := dk_188_10 (dk_at dksJ35_divideOneWord_4 3 rfl rfl)
theorem dJ35_divideOneWord_98 : decode cJ35_divideOneWord 98 = .ok (.putfield 17, 3) := dk_181 0 17 (dk_at dksJ35_divideOneWord_4 5 rfl rfl)
theorem dJ35_divideOneWord_101 : decode cJ35_divideOneWord 101 = .ok (.aload_n 2, 1) := dk_44 (dk_at dksJ35_divideOneWord_4 8 rfl rfl)
theorem dJ35_divideOneWord_102 : decode cJ35_divideOneWord 102 = .ok (.iconst 0, 1) := dk_3 (dk_at dksJ35_divideOneWord_4 9 rfl rfl)
theorem dJ35_divideOneWord_103 : decode cJ35_divideOneWord 103 = .ok (.putfield 11, 3) := dk_181 0 11 (dk_at dksJ35_divideOneWord_4 10 rfl rfl)
theorem dJ35_divideOneWord_106 : decode cJ35_divideOneWord 106 = .ok (.aload_n 2, 1) := dk_44 (dk_at dksJ35_divideOneWord_4 13 rfl rfl)
theorem dJ35_divideOneWord_107 : decode cJ35_divideOneWord 107 = .ok (.aload_n 0, 1) := dk_42 (dk_at dksJ35_divideOneWord_4 14 rfl rfl)
theorem dJ35_divideOneWord_108 : decode cJ35_divideOneWord 108 = .ok (.getfield 21, 3) := dk_180 0 21 (dk_at dksJ35_divideOneWord_4 15 rfl rfl)
theorem dJ35_divideOneWord_111 : decode cJ35_divideOneWord 111 = .ok (.putfield 21, 3) := dk_181 0 21 (dk_at dksJ35_divideOneWord_4 18 rfl rfl)
theorem dJ35_divideOneWord_114 : decode cJ35_divideOneWord 114 = .ok (.iload_n 1, 1) := dk_27 (dk_at dksJ35_divideOneWord_4 21 rfl rfl)
theorem dJ35_divideOneWord_115 : decode cJ35_divideOneWord 115 = .ok (.invokestatic 152, 3) := dk_184 0 152 (dk_at dksJ35_divideOneWord_5 0 rfl rfl)
theorem dJ35_divideOneWord_118 : decode cJ35_divideOneWord 118 = .ok (.istore 5, 2) := dk_54 5 (dk_at dksJ35_divideOneWord_5 3 rfl rfl)
theorem dJ35_divideOneWord_120 : decode cJ35_divideOneWord 120 = .ok (.aload_n 0, 1) := dk_42 (dk_at dksJ35_divideOneWord_5 5 rfl rfl)
theorem dJ35_divideOneWord_121 : decode cJ35_divideOneWord 121 = .ok (.getfield 17, 3) := dk_180 0 17 (dk_at dksJ35_divideOneWord_5 6 rfl rfl)
theorem dJ35_divideOneWord_124 : decode cJ35_divideOneWord 124 = .ok (.aload_n 0, 1) := dk_42 (dk_at dksJ35_divideOneWord_5 9 rfl rfl)
theorem dJ35_divideOneWord_125 : decode cJ35_divideOneWord 125 = .ok (.getfield 11, 3) := dk_180 0 11 (dk_at dksJ35_divideOneWord_5 10 rfl rfl)
theorem dJ35_divideOneWord_128 : decode cJ35_divideOneWord 128 = .ok (.iaload, 1) := dk_46 (dk_at dksJ35_divideOneWord_5 13 rfl rfl)
theorem dJ35_divideOneWord_129 : decode cJ35_divideOneWord 129 = .ok (.istore 6, 2) := dk_54 6 (dk_at dksJ35_divideOneWord_5 14 rfl rfl)
theorem dJ35_divideOneWord_131 : decode cJ35_divideOneWord 131 = .ok (.iload 6, 2) := dk_21 6 (dk_at dksJ35_divideOneWord_5 16 rfl rfl)
theorem dJ35_divideOneWord_133 : decode cJ35_divideOneWord 133 = .ok (.i2l, 1) := dk_133 (dk_at dksJ35_divideOneWord_5 18 rfl rfl)
theorem dJ35_divideOneWord_134 : decode cJ35_divideOneWord 134 = .ok (.ldc2_w 52, 3) := dk_20 0 52 (dk_at dksJ35_divideOneWord_5 19 rfl rfl)
theorem dJ35_divideOneWord_137 : decode cJ35_divideOneWord 137 = .ok (.land, 1) := dk_127 (dk_at dksJ35_divideOneWord_5 22 rfl rfl)
theorem dJ35_divideOneWord_138 : decode cJ35_divideOneWord 138 = .ok (.lstore 7, 2) := dk_55 7 (dk_at dksJ35_divideOneWord_6 0 rfl rfl)
theorem dJ35_divideOneWord_140 : decode cJ35_divideOneWord 140 = .ok (.lload 7, 2) := dk_22 7 (dk_at dksJ35_divideOneWord_6 2 rfl rfl)
theorem dJ35_divideOneWord_142 : decode cJ35_divideOneWord 142 = .ok (.lload_n 3, 1) := dk_33 (dk_at dksJ35_divideOneWord_6 4 rfl rfl)
theorem dJ35_divideOneWord_143 : decode cJ35_divideOneWord 143 = .ok (.lcmp, 1) := dk_148 (dk_at dksJ35_divideOneWord_6 5 rfl rfl)
theorem dJ35_divideOneWord_144 : decode cJ35_divideOneWord 144 = .ok (.ifCond .ge 13, 3) := dk_156 0 13 (dk_at dksJ35_divideOneWord_6 6 rfl rfl)
theorem dJ35_divideOneWord_147 : decode cJ35_divideOneWord 147 = .ok (.aload_n 2, 1) := dk_44 (dk_at dksJ35_divideOneWord_6 9 rfl rfl)
theorem dJ35_divideOneWord_148 : decode cJ35_divideOneWord 148 = .ok (.getfield 17, 3) := dk_180 0 17 (dk_at dksJ35_divideOneWord_6 10 rfl rfl)
theorem dJ35_divideOneWord_151 : decode cJ35_divideOneWord 151 = .ok (.iconst 0, 1) := dk_3 (dk_at dksJ35_divideOneWord_6 13 rfl rfl)
theorem dJ35_divideOneWord_152 : decode cJ35_divideOneWord 152 = .ok (.iconst 0, 1) := dk_3 (dk_at dksJ35_divideOneWord_6 14 rfl rfl)
theorem dJ35_divideOneWord_153 : decode cJ35_divideOneWord 153 = .ok (.iastore, 1) := dk_79 (dk_at dksJ35_divideOneWord_6 15 rfl rfl)
theorem dJ35_divideOneWord_154 : decode cJ35_divideOneWord 154 = .ok (.goto 38, 3) := dk_167 0 38 (dk_at dksJ35_divideOneWord_6 16 rfl rfl)
theorem dJ35_divideOneWord_157 : decode cJ35_divideOneWord 157 = .ok (.aload_n 2, 1) := dk_44 (dk_at dksJ35_divideOneWord_6 19 rfl rfl)
theorem dJ35_divideOneWord_158 : decode cJ35_divideOneWord 158 = .ok (.getfield 17, 3) := dk_180 0 17 (dk_at dksJ35_divideOneWord_6 20 rfl rfl)
theorem dJ35_divideOneWord_161 : decode cJ35_divideOneWord 161 = .ok (.iconst 0, 1) := dk_3 (dk_at dksJ35_divideOneWord_6 23 rfl rfl)
theorem dJ35_divideOneWord_162 : decode cJ35_divideOneWord 162 = .ok (.lload 7, 2) := dk_22 7 (dk_at dksJ35_divideOneWord_7 0 rfl rfl)
theorem dJ35_divideOneWord_164 : decode cJ35_divideOneWord 164 = .ok (.lload_n 3, 1) := dk_33 (dk_at dksJ35_divideOneWord_7 2 rfl rfl)
theorem dJ35_divideOneWord_165 : decode cJ35_divideOneWord 165 = .ok (.ldiv, 1) := dk_109 (dk_at dksJ35_divideOneWord_7 3 rfl rfl)
theorem dJ35_divideOneWord_166 : decode cJ35_divideOneWord 166 = .ok (.l2i, 1) := dk_136 (dk_at dksJ35_divideOneWord_7 4 rfl rfl)
theorem dJ35_divideOneWord_167 : decode cJ35_divideOneWord 167 = .ok (.iastore, 1) := dk_79 (dk_at dksJ35_divideOneWord_7 5 rfl rfl)
theorem dJ35_divideOneWord_168 : decode cJ35_divideOneWord 168 = .ok (.lload 7, 2) := dk_22 7 (dk_at dksJ35_divideOneWord_7 6 rfl rfl)
theorem dJ35_divideOneWord_170 : decode cJ35_divideOneWord 170 = .ok (.aload_n 2, 1) := dk_44 (dk_at dksJ35_divideOneWord_7 8 rfl rfl)
theorem dJ35_divideOneWord_171 : decode cJ35_divideOneWord 171 = .ok (.getfield 17, 3) := dk_180 0 17 (dk_at dksJ35_divideOneWord_7 9 rfl rfl)
theorem dJ35_divideOneWord_174 : decode cJ35_divideOneWord 174 = .ok (.iconst 0, 1) := dk_3 (dk_at dksJ35_divideOneWord_7 12 rfl rfl)
theorem dJ35_divideOneWord_175 : decode cJ35_divideOneWord 175 = .ok (.iaload, 1) := dk_46 (dk_at dksJ35_divideOneWord_7 13 rfl rfl)
theorem dJ35_divideOneWord_176 : decode cJ35_divideOneWord 176 = .ok (.i2l, 1) := dk_133 (dk_at dksJ35_divideOneWord_7 14 rfl rfl)
theorem dJ35_divideOneWord_177 : decode cJ35_divideOneWord 177 = .ok (.lload_n 3, 1) := dk_33 (dk_at dksJ35_divideOneWord_7 15 rfl rfl)
theorem dJ35_divideOneWord_178 : decode cJ35_divideOneWord 178 = .ok (.lmul, 1) := dk_105 (dk_at dksJ35_divideOneWord_7 16 rfl rfl)
theorem dJ35_divideOneWord_179 : decode cJ35_divideOneWord 179 = .ok (.lsub, 1) := dk_101 (dk_at dksJ35_divideOneWord_7 17 rfl rfl)
theorem dJ35_divideOneWord_180 : decode cJ35_divideOneWord 180 = .ok (.l2i, 1) := dk_136 (dk_at dksJ35_divideOneWord_7 18 rfl rfl)
theorem dJ35_divideOneWord_181 : decode cJ35_divideOneWord 181 = .ok (.istore 6, 2) := dk_54 6 (dk_at dksJ35_divideOneWord_7 19 rfl rfl)
theorem dJ35_divideOneWord_183 : decode cJ35_divideOneWord 183 = .ok (.iload 6, 2) := dk_21 6 (dk_at dksJ35_divideOneWord_7 21 rfl rfl)
theorem dJ35_divideOneWord_185 : decode cJ35_divideOneWord 185 = .ok (.i2l, 1) := dk_133 (dk_at dksJ35_divideOneWord_7 23 rfl rfl)
theorem dJ35_divideOneWord_186 : decode cJ35_divideOneWord 186 = .ok (.ldc2_w 52, 3) := dk_20 0 52 (dk_at dksJ35_divideOneWord_8 0 rfl rfl)
theorem dJ35_divideOneWord_189 : decode cJ35_divideOneWord 189 = .ok (.land, 1) := dk_127 (dk_at dksJ35_divideOneWord_8 3 rfl rfl)
theorem dJ35_divideOneWord_190 : decode cJ35_divideOneWord 190 = .ok (.lstore 7, 2) := dk_55 7 (dk_at dksJ35_divideOneWord_8 4 rfl rfl)
theorem dJ35_divideOneWord_192 : decode cJ35_divideOneWord 192 = .ok (.aload_n 0, 1) := dk_42 (dk_at dksJ35_divideOneWord_8 6 rfl rfl)
theorem dJ35_divideOneWord_193 : decode cJ35_divideOneWord 193 = .ok (.getfield 21, 3) := dk_180 0 21 (dk_at dksJ35_divideOneWord_8 7 rfl rfl)
theorem dJ35_divideOneWord_196 : decode cJ35_divideOneWord 196 = .ok (.istore 9, 2) := dk_54 9 (dk_at dksJ35_divideOneWord_8 10 rfl rfl)
theorem dJ35_divideOneWord_198 : decode cJ35_divideOneWord 198 = .ok (.iinc 9 (-1), 3) := dk_132 9 255 (dk_at dksJ35_divideOneWord_8 12 rfl rfl)
theorem dJ35_divideOneWord_201 : decode cJ35_divideOneWord 201 = .ok (.iload 9, 2) := dk_21 9 (dk_at dksJ35_divideOneWord_8 15 rfl rfl)
theorem dJ35_divideOneWord_203 : decode cJ35_divideOneWord 203 = .ok (.ifCond .le 112, 3) := dk_158 0 112 (dk_at dksJ35_divideOneWord_8 17 rfl rfl)
theorem dJ35_divideOneWord_206 : decode cJ35_divideOneWord 206 = .ok (.lload 7, 2) := dk_22 7 (dk_at dksJ35_divideOneWord_8 20 rfl rfl)
theorem dJ35_divideOneWord_208 : decode cJ35_divideOneWord 208 = .ok (.bipush 32, 2) := dk_16 32 (dk_at dksJ35_divideOneWord_8 22 rfl rfl)
theorem dJ35_divideOneWord_210 : decode cJ35_divideOneWord 210 = .ok (.lshl, 1) := dk_121 (dk_at dksJ35_divideOneWord_9 0 rfl rfl)
theorem dJ35_divideOneWord_211 : decode cJ35_divideOneWord 211 = .ok (.aload_n 0, 1) := dk_42 (dk_at dksJ35_divideOneWord_9 1 rfl rfl)
theorem dJ35_divideOneWord_212 : decode cJ35_divideOneWord 212 = .ok (.getfield 17, 3) := dk_180 0 17 (dk_at dksJ35_divideOneWord_9 2 rfl rfl)
theorem dJ35_divideOneWord_215 : decode cJ35_divideOneWord 215 = .ok (.aload_n 0, 1) := dk_42 (dk_at dksJ35_divideOneWord_9 5 rfl rfl)
theorem dJ35_divideOneWord_216 : decode cJ35_divideOneWord 216 = .ok (.getfield 11, 3) := dk_180 0 11 (dk_at dksJ35_divideOneWord_9 6 rfl rfl)
theorem dJ35_divideOneWord_219 : decode cJ35_divideOneWord 219 = .ok (.aload_n 0, 1) := dk_42 (dk_at dksJ35_divideOneWord_9 9 rfl rfl)
theorem dJ35_divideOneWord_220 : decode cJ35_divideOneWord 220 = .ok (.getfield 21, 3) := dk_180 0 21 (dk_at dksJ35_divideOneWord_9 10 rfl rfl)
theorem dJ35_divideOneWord_223 : decode cJ35_divideOneWord 223 = .ok (.iadd, 1) := dk_96 (dk_at dksJ35_divideOneWord_9 13 rfl rfl)
theorem dJ35_divideOneWord_224 : decode cJ35_divideOneWord 224 = .ok (.iload 9, 2) := dk_21 9 (dk_at dksJ35_divideOneWord_9 14 rfl rfl)
theorem dJ35_divideOneWord_226 : decode cJ35_divideOneWord 226 = .ok (.isub, 1) := dk_100 (dk_at dksJ35_divideOneWord_9 16 rfl rfl)
theorem dJ35_divideOneWord_227 : decode cJ35_divideOneWord 227 = .ok (.iaload, 1) := dk_46 (dk_at dksJ35_divideOneWord_9 17 rfl rfl)
theorem dJ35_divideOneWord_228 : decode cJ35_divideOneWord 228 = .ok (.i2l, 1) := dk_133 (dk_at dksJ35_divideOneWord_9 18 rfl rfl)
theorem dJ35_divideOneWord_229 : decode cJ35_divideOneWord 229 = .ok (.ldc2_w 52, 3) := dk_20 0 52 (dk_at dksJ35_divideOneWord_9 19 rfl rfl)
theorem dJ35_divideOneWord_232 : decode cJ35_divideOneWord 232 = .ok (.land, 1) := dk_127 (dk_at dksJ35_divideOneWord_9 22 rfl rfl)
theorem dJ35_divideOneWord_233 : decode cJ35_divideOneWord 233 = .ok (.lor, 1) := dk_129 (dk_at dksJ35_divideOneWord_9 23 rfl rfl)
theorem dJ35_divideOneWord_234 : decode cJ35_divideOneWord 234 = .ok (.lstore 10, 2) := dk_55 10 (dk_at dksJ35_divideOneWord_10 0 rfl rfl)
theorem dJ35_divideOneWord_236 : decode cJ35_divideOneWord 236 = .ok (.lload 10, 2) := dk_22 10 (dk_at dksJ35_divideOneWord_10 2 rfl rfl)
theorem dJ35_divideOneWord_238 : decode cJ35_divideOneWord 238 = .ok (.lconst 0, 1) := dk_9 (dk_at dksJ35_divideOneWord_10 4 rfl rfl)
theorem dJ35_divideOneWord_239 : decode cJ35_divideOneWord 239 = .ok (.lcmp, 1) := dk_148 (dk_at dksJ35_divideOneWord_10 5 rfl rfl)
theorem dJ35_divideOneWord_240 : decode cJ35_divideOneWord 240 = .ok (.ifCond .lt 24, 3) := dk_155 0 24 (dk_at dksJ35_divideOneWord_10 6 rfl rfl)
theorem dJ35_divideOneWord_243 : decode cJ35_divideOneWord 243 = .ok (.lload 10, 2) := dk_22 10 (dk_at dksJ35_divideOneWord_10 9 rfl rfl)
theorem dJ35_divideOneWord_245 : decode cJ35_divideOneWord 245 = .ok (.lload_n 3, 1) := dk_33 (dk_at dksJ35_divideOneWord_10 11 rfl rfl)
theorem dJ35_divideOneWord_246 : decode cJ35_divideOneWord 246 = .ok (.ldiv, 1) := dk_109 (dk_at dksJ35_divideOneWord_10 12 rfl rfl)
theorem dJ35_divideOneWord_247 : decode cJ35_divideOneWord 247 = .ok (.l2i, 1) := dk_136 (dk_at dksJ35_divideOneWord_10 13 rfl rfl)
theorem dJ35_divideOneWord_248 : decode cJ35_divideOneWord 248 = .ok (.istore 12, 2) := dk_54 12 (dk_at dksJ35_divideOneWord_10 14 rfl rfl)
theorem dJ35_divideOneWord_250 : decode cJ35_divideOneWord 250 = .ok (.lload 10, 2) := dk_22 10 (dk_at dksJ35_divideOneWord_10 16 rfl rfl)
theorem dJ35_divideOneWord_252 : decode cJ35_divideOneWord 252 = .ok (.iload 12, 2) := dk_21 12 (dk_at dksJ35_divideOneWord_10 18 rfl rfl)
theorem dJ35_divideOneWord_254 : decode cJ35_divideOneWord 254 = .ok (.i2l, 1) := dk_133 (dk_at dksJ35_divideOneWord_10 20 rfl rfl)
theorem dJ35_divideOneWord_255 : decode cJ35_divideOneWord 255 = .ok (.lload_n 3, 1) := dk_33 (dk_at dksJ35_divideOneWord_10 21 rfl rfl)
theorem dJ35_divideOneWord_256 : decode cJ35_divideOneWord 256 = .ok (.lmul, 1) := dk_105 (dk_at dksJ35_divideOneWord_10 22 rfl rfl)
theorem dJ35_divideOneWord_257 : decode cJ35_divideOneWord 257 = .ok (.lsub, 1) := dk_101 (dk_at dksJ35_divideOneWord_10 23 rfl rfl)
theorem dJ35_divideOneWord_258 : decode cJ35_divideOneWord 258 = .ok (.l2i, 1) := dk_136 (dk_at dksJ35_divideOneWord_11 0 rfl rfl)
theorem dJ35_divideOneWord_259 : decode cJ35_divideOneWord 259 = .ok (.istore 6, 2) := dk_54 6 (dk_at dksJ35_divideOneWord_11 1 rfl rfl)
theorem dJ35_divideOneWord_261 : decode cJ35_divideOneWord 261 = .ok (.goto 28, 3) := dk_167 0 28 (dk_at dksJ35_divideOneWord_11 3 rfl rfl)
theorem dJ35_divideOneWord_264 : decode cJ35_divideOneWord 264 = .ok (.lload 10, 2) := dk_22 10 (dk_at dksJ35_divideOneWord_11 6 rfl rfl)
theorem dJ35_divideOneWord_266 : decode cJ35_divideOneWord 266 = .ok (.iload_n 1, 1) := dk_27 (dk_at dksJ35_divideOneWord_11 8 rfl rfl)
theorem dJ35_divideOneWord_267 : decode cJ35_divideOneWord 267 = .ok (.invokestatic 155, 3) := dk_184 0 155 (dk_at dksJ35_divideOneWord_11 9 rfl rfl)
theorem dJ35_divideOneWord_270 : decode cJ35_divideOneWord 270 = .ok (.lstore 13, 2) := dk_55 13 (dk_at dksJ35_divideOneWord_11 12 rfl rfl)
theorem dJ35_divideOneWord_272 : decode cJ35_divideOneWord 272 = .ok (.lload 13, 2) := dk_22 13 (dk_at dksJ35_divideOneWord_11 14 rfl rfl)
theorem dJ35_divideOneWord_274 : decode cJ35_divideOneWord 274 = .ok (.ldc2_w 52, 3) := dk_20 0 52 (dk_at dksJ35_divideOneWord_11 16 rfl rfl)
theorem dJ35_divideOneWord_277 : decode cJ35_divideOneWord 277 = .ok (.land, 1) := dk_127 (dk_at dksJ35_divideOneWord_11 19 rfl rfl)
theorem dJ35_divideOneWord_278 : decode cJ35_divideOneWord 278 = .ok (.l2i, 1) := dk_136 (dk_at dksJ35_divideOneWord_11 20 rfl rfl)
theorem dJ35_divideOneWord_279 : decode cJ35_divideOneWord 279 = .ok (.istore 12, 2) := dk_54 12 (dk_at dksJ35_divideOneWord_11 21 rfl rfl)
theorem dJ35_divideOneWord_281 : decode cJ35_divideOneWord 281 = .ok (.lload 13, 2) := dk_22 13 (dk_at dksJ35_divideOneWord_12 0 rfl rfl)
theorem dJ35_divideOneWord_283 : decode cJ35_divideOneWord 283 = .ok (.bipush 32, 2) := dk_16 32 (dk_at dksJ35_divideOneWord_12 2 rfl rfl)
theorem dJ35_divideOneWord_285 : decode cJ35_divideOneWord 285 = .ok (.lushr, 1) := dk_125 (dk_at dksJ35_divideOneWord_12 4 rfl rfl)
theorem dJ35_divideOneWord_286 : decode cJ35_divideOneWord 286 = .ok (.l2i, 1) := dk_136 (dk_at dksJ35_divideOneWord_12 5 rfl rfl)
theorem dJ35_divideOneWord_287 : decode cJ35_divideOneWord 287 = .ok (.istore 6, 2) := dk_54 6 (dk_at dksJ35_divideOneWord_12 6 rfl rfl)
theorem dJ35_divideOneWord_289 : decode cJ35_divideOneWord 289 = .ok (.aload_n 2, 1) := dk_44 (dk_at dksJ35_divideOneWord_12 8 rfl rfl)
theorem dJ35_divideOneWord_290 : decode cJ35_divideOneWord 290 = .ok (.getfield 17, 3) := dk_180 0 17 (dk_at dksJ35_divideOneWord_12 9 rfl rfl)
theorem dJ35_divideOneWord_293 : decode cJ35_divideOneWord 293 = .ok (.aload_n 0, 1) := dk_42 (dk_at dksJ35_divideOneWord_12 12 rfl rfl)
theorem dJ35_divideOneWord_294 : decode cJ35_divideOneWord 294 = .ok (.getfield 21, 3) := dk_180 0 21 (dk_at dksJ35_divideOneWord_12 13 rfl rfl)
theorem dJ35_divideOneWord_297 : decode cJ35_divideOneWord 297 = .ok (.iload 9, 2) := dk_21 9 (dk_at dksJ35_divideOneWord_12 16 rfl rfl)
theorem dJ35_divideOneWord_299 : decode cJ35_divideOneWord 299 = .ok (.isub, 1) := dk_100 (dk_at dksJ35_divideOneWord_12 18 rfl rfl)
theorem dJ35_divideOneWord_300 : decode cJ35_divideOneWord 300 = .ok (.iload 12, 2) := dk_21 12 (dk_at dksJ35_divideOneWord_12 19 rfl rfl)
theorem dJ35_divideOneWord_302 : decode cJ35_divideOneWord 302 = .ok (.iastore, 1) := dk_79 (dk_at dksJ35_divideOneWord_12 21 rfl rfl)
theorem dJ35_divideOneWord_303 : decode cJ35_divideOneWord 303 = .ok (.iload 6, 2) := dk_21 6 (dk_at dksJ35_divideOneWord_12 22 rfl rfl)
theorem dJ35_divideOneWord_305 : decode cJ35_divideOneWord 305 = .ok (.i2l, 1) := dk_133 (dk_at dksJ35_divideOneWord_13 0 rfl rfl)
theorem dJ35_divideOneWord_306 : decode cJ35_divideOneWord 306 = .ok (.ldc2_w 52, 3) := dk_20 0 52 (dk_at dksJ35_divideOneWord_13 1 rfl rfl)
theorem dJ35_divideOneWord_309 : decode cJ35_divideOneWord 309 = .ok (.land, 1) := dk_127 (dk_at dksJ35_divideOneWord_13 4 rfl rfl)
theorem dJ35_divideOneWord_310 : decode cJ35_divideOneWord 310 = .ok (.lstore 7, 2) := dk_55 7 (dk_at dksJ35_divideOneWord_13 5 rfl rfl)
theorem dJ35_divideOneWord_312 : decode cJ35_divideOneWord 312 = .ok (.goto (-114), 3) := dk_167 255 142 (dk_at dksJ35_divideOneWord_13 7 rfl rfl)
theorem dJ35_divideOneWord_315 : decode cJ35_divideOneWord 315 = .ok (.aload_n 2, 1) := dk_44 (dk_at dksJ35_divideOneWord_13 10 rfl rfl)
theorem dJ35_divideOneWord_316 : decode cJ35_divideOneWord 316 = .ok (.invokevirtual 64, 3) := dk_182 0 64 (dk_at dksJ35_divideOneWord_13 11 rfl rfl)
theorem dJ35_divideOneWord_319 : decode cJ35_divideOneWord 319 = .ok (.iload 5, 2) := dk_21 5 (dk_at dksJ35_divideOneWord_13 14 rfl rfl)
theorem dJ35_divideOneWord_321 : decode cJ35_divideOneWord 321 = .ok (.ifCond .le 8, 3) := dk_158 0 8 (dk_at dksJ35_divideOneWord_13 16 rfl rfl)
theorem dJ35_divideOneWord_324 : decode cJ35_divideOneWord 324 = .ok (.iload 6, 2) := dk_21 6 (dk_at dksJ35_divideOneWord_13 19 rfl rfl)
theorem dJ35_divideOneWord_326 : decode cJ35_divideOneWord 326 = .ok (.iload_n 1, 1) := dk_27 (dk_at dksJ35_divideOneWord_13 21 rfl rfl)
theorem dJ35_divideOneWord_327 : decode cJ35_divideOneWord 327 = .ok (.irem, 1) := dk_112 (dk_at dksJ35_divideOneWord_13 22 rfl rfl)
theorem dJ35_divideOneWord_328 : decode cJ35_divideOneWord 328 = .ok (.ireturn, 1) := dk_172 (dk_at dksJ35_divideOneWord_13 23 rfl rfl)
theorem dJ35_divideOneWord_329 : decode cJ35_divideOneWord 329 = .ok (.iload 6, 2) := dk_21 6 (dk_at dksJ35_divideOneWord_14 0 rfl rfl)
theorem dJ35_divideOneWord_331 : decode cJ35_divideOneWord 331 = .ok (.ireturn, 1) := dk_172 (dk_at dksJ35_divideOneWord_14 2 rfl rfl)
def dkwJ35_divWord_4 : List UInt8 := [167, 255, 237, 22, 5, 16, 32, 121, 22, 7, 20, 0, 52, 127, 129, 173]
abbrev dktJ35_divWord_4 : List UInt8 := dkwJ35_divWord_4 ++ []
def dkwJ35_divWord_3 : List UInt8 := [167, 255, 237, 22, 5, 33, 148, 155, 0, 18, 22, 5, 33, 101, 55, 5, 22, 7, 10, 97, 55, 7]
abbrev dktJ35_divWord_3 : List UInt8 := dkwJ35_divWord_3 ++ dktJ35_divWord_4
def dkwJ35_divWord_2 : List UInt8 := [105, 101, 55, 5, 22, 5, 9, 148, 156, 0, 18, 22, 5, 33, 97, 55, 5, 22, 7, 10, 101, 55, 7]
abbrev dktJ35_divWord_2 : List UInt8 := dkwJ35_divWord_2 ++ dktJ35_divWord_3
def dkwJ35_divWord_1 : List UInt8 := [16, 32, 121, 22, 7, 20, 0, 52, 127, 129, 173, 30, 4, 125, 33, 4, 125, 109, 55, 7, 30, 22, 7, 33]
abbrev dktJ35_divWord_1 : List UInt8 := dkwJ35_divWord_1 ++ dktJ35_divWord_2
def dkwJ35_divWord_0 : List UInt8 := [28, 133, 20, 0, 52, 127, 66, 33, 10, 148, 154, 0, 24, 30, 136, 133, 55, 7, 9, 55, 5, 22, 5]
abbrev dktJ35_divWord_0 : List UInt8 := dkwJ35_divWord_0 ++ dktJ35_divWord_1
theorem dksJ35_divWord_0 : cJ35_divWord.data.toList.drop 0 = dktJ35_divWord_0 := by decide +kernel
theorem dksJ35_divWord_1 : cJ35_divWord.data.toList.drop 23 = dktJ35_divWord_1 := dk_seg dksJ35_divWord_0 23 rfl rfl
theorem dksJ35_divWord_2 : cJ35_divWord.data.toList.drop 47 = dktJ35_divWord_2 := dk_seg dksJ35_divWord_1 24 rfl rfl
theorem dksJ35_divWord_3 : cJ35_divWord.data.toList.drop 70 = dktJ35_divWord_3 := dk_seg dksJ35_divWord_2 23 rfl rfl
theorem dksJ35_divWord_4 : cJ35_divWord.data.toList.drop 92 = dktJ35_divWord_4 := dk_seg dksJ35_divWord_3 22 rfl rfl
theorem dJ35_divWord_0 : decode cJ35_divWord 0 = .ok (.iload_n 2, 1) := dk_28 (dk_at dksJ35_divWord_0 0 rfl rfl)
theorem dJ35_divWord_1 : decode cJ35_divWord 1 = .ok (.i2l, 1) := dk_133 (dk_at dksJ35_divWord_0 1 rfl rfl)
theorem dJ35_divWord_2 : decode cJ35_divWord 2 = .ok (.ldc2_w 52, 3) := dk_20 0 52 (dk_at dksJ35_divWord_0 2 rfl rfl)
theorem dJ35_divWord_5 : decode cJ35_divWord 5 = .ok (.land, 1) := dk_127 (dk_at dksJ35_divWord_0 5 rfl rfl)
theorem dJ35_divWord_6 : decode cJ35_divWord 6 = .ok (.lstore_n 3, 1) := dk_66 (dk_at dksJ35_divWord_0 6 rfl rfl)
theorem dJ35_divWord_7 : decode cJ35_divWord 7 = .ok (.lload_n 3, 1) := dk_33 (dk_at dksJ35_divWord_0 7 rfl rfl)
theorem dJ35_divWord_8 : decode cJ35_divWord 8 = .ok (.lconst 1, 1) := dk_10 (dk_at dksJ35_divWord_0 8 rfl rfl)
theorem dJ35_divWord_9 : decode cJ35_divWord 9 = .ok (.lcmp, 1) := dk_148 (dk_at dksJ35_divWord_0 9 rfl rfl)
theorem dJ35_divWord_10 : decode cJ35_divWord 10 = .ok (.ifCond .ne 24, 3) := dk_154 0 24 (dk_at dksJ35_divWord_0 10 rfl rfl)
theorem dJ35_divWord_13 : decode cJ35_divWord 13 = .ok (.lload_n 0, 1) := dk_30 (dk_at dksJ35_divWord_0 13 rfl rfl)
theorem dJ35_divWord_14 : decode cJ35_divWord 14 = .ok (.l2i, 1) := dk_136 (dk_at dksJ35_divWord_0 14 rfl rfl)
theorem dJ35_divWord_15 : decode cJ35_divWord 15 = .ok (.i2l, 1) := dk_133 (dk_at dksJ35_divWord_0 15 rfl rfl)
theorem dJ35_divWord_16 : decode cJ35_divWord 16 = .ok (.lstore 7, 2) := dk_55 7 (dk_at dksJ35_divWord_0 16 rfl rfl)
theorem dJ35_divWord_18 : decode cJ35_divWord 18 = .ok (.lconst 0, 1) := dk_9 (dk_at dksJ35_divWord_0 18 rfl rfl)
theorem dJ35_divWord_19 : decode cJ35_divWord 19 = .ok (.lstore 5, 2) := dk_55 5 (dk_at dksJ35_divWord_0 19 rfl rfl)
theorem dJ35_divWord_21 : decode cJ35_divWord 21 = .ok (.lload 5, 2) := dk_22 5 (dk_at dksJ35_divWord_0 21 rfl rfl)
theorem dJ35_divWord_23 : decode cJ35_divWord 23 = .ok (.bipush 32, 2) := dk_16 32 (dk_at dksJ35_divWord_1 0 rfl rfl)
theorem dJ35_divWord_25 : decode cJ35_divWord 25 = .ok (.lshl, 1) := dk_121 (dk_at dksJ35_divWord_1 2 rfl rfl)
theorem dJ35_divWord_26 : decode cJ35_divWord 26 = .ok (.lload 7, 2) := dk_22 7 (dk_at dksJ35_divWord_1 3 rfl rfl)
theorem dJ35_divWord_28 : decode cJ35_divWord 28 = .ok (.ldc2_w 52, 3) := dk_20 0 52 (dk_at dksJ35_divWord_1 5 rfl rfl)
theorem dJ35_divWord_31 : decode cJ35_divWord 31 = .ok (.land, 1) := dk_127 (dk_at dksJ35_divWord_1 8 rfl rfl)
theorem dJ35_divWord_32 : decode cJ35_divWord 32 = .ok (.lor, 1) := dk_129 (dk_at dksJ35_divWord_1 9 rfl rfl)
theorem dJ35_divWord_33 : decode cJ35_divWord 33 = .ok (.lreturn, 1) := dk_173 (dk_at dksJ35_divWord_1 10 rfl rfl)
theorem dJ35_divWord_34 : decode cJ35_divWord 34 = .ok (.lload_n 0, 1) := dk_30 (dk_at dksJ35_divWord_1 11 rfl rfl)
theorem dJ35_divWord_35 : decode cJ35_divWord 35 = .ok (.iconst 1, 1) := dk_4 (dk_at dksJ35_divWord_1 12 rfl rfl)
theorem dJ35_divWord_36 : decode cJ35_divWord 36 = .ok (.lushr, 1) := dk_125 (dk_at dksJ35_divWord_1 13 rfl rfl)
theorem dJ35_divWord_37 : decode cJ35_divWord 37 = .ok (.lload_n 3, 1) := dk_33 (dk_at dksJ35_divWord_1 14 rfl rfl)
theorem dJ35_divWord_38 : decode cJ35_divWord 38 = .ok (.iconst 1, 1) := dk_4 (dk_at dksJ35_divWord_1 15 rfl rfl)
theorem dJ35_divWord_39 : decode cJ35_divWord 39 = .ok (.lushr, 1) := dk_125 (dk_at dksJ35_divWord_1 16 rfl rfl)
theorem dJ35_divWord_40 : decode cJ35_divWord 40 = .ok (.ldiv, 1) := dk_109 (dk_at dksJ35_divWord_1 17 rfl rfl)
theorem dJ35_divWord_41 : decode cJ35_divWord 41 = .ok (.lstore 7, 2) := dk_55 7 (dk_at dksJ35_divWord_1 18 rfl rfl)
theorem dJ35_divWord_43 : decode cJ35_divWord 43 = .ok (.lload_n 0, 1) := dk_30 (dk_at dksJ35_divWord_1 20 rfl rfl)
theorem dJ35_divWord_44 : decode cJ35_divWord 44 = .ok (.lload 7, 2) := dk_22 7 (dk_at dksJ35_divWord_1 21 rfl rfl)
theorem dJ35_divWord_46 : decode cJ35_divWord 46 = .ok (.lload_n 3, 1) := dk_33 (dk_at dksJ35_divWord_1 23 rfl rfl)
theorem dJ35_divWord_47 : decode cJ35_divWord 47 = .ok (.lmul, 1) := dk_105 (dk_at dksJ35_divWord_2 0 rfl rfl)
theorem dJ35_divWord_48 : decode cJ35_divWord 48 = .ok (.lsub, 1) := dk_101 (dk_at dksJ35_divWord_2 1 rfl rfl)
theorem dJ35_divWord_49 : decode cJ35_divWord 49 = .ok (.lstore 5, 2) := dk_55 5 (dk_at dksJ35_divWord_2 2 rfl rfl)
theorem dJ35_divWord_51 : decode cJ35_divWord 51 = .ok (.lload 5, 2) := dk_22 5 (dk_at dksJ35_divWord_2 4 rfl rfl)
theorem dJ35_divWord_53 : decode cJ35_divWord 53 = .ok (.lconst 0, 1) := dk_9 (dk_at dksJ35_divWord_2 6 rfl rfl)
theorem dJ35_divWord_54 : decode cJ35_divWord 54 = .ok (.lcmp, 1) := dk_148 (dk_at dksJ35_divWord_2 7 rfl rfl)
theorem dJ35_divWord_55 : decode cJ35_divWord 55 = .ok (.ifCond .ge 18, 3) := dk_156 0 18 (dk_at dksJ35_divWord_2 8 rfl rfl)
theorem dJ35_divWord_58 : decode cJ35_divWord 58 = .ok (.lload 5, 2) := dk_22 5 (dk_at dksJ35_divWord_2 11 rfl rfl)
theorem dJ35_divWord_60 : decode cJ35_divWord 60 = .ok (.lload_n 3, 1) := dk_33 (dk_at dksJ35_divWord_2 13 rfl rfl)
theorem dJ35_divWord_61 : decode cJ35_divWord 61 = .ok (.ladd, 1) := dk_97 (dk_at dksJ35_divWord_2 14 rfl rfl)
theorem dJ35_divWord_62 : decode cJ35_divWord 62 = .ok (.lstore 5, 2) := dk_55 5 (dk_at dksJ35_divWord_2 15 rfl rfl)
theorem dJ35_divWord_64 : decode cJ35_divWord 64 = .ok (.lload 7, 2) := dk_22 7 (dk_at dksJ35_divWord_2 17 rfl rfl)
theorem dJ35_divWord_66 : decode cJ35_divWord 66 = .ok (.lconst 1, 1) := dk_10 (dk_at dksJ35_divWord_2 19 rfl rfl)
theorem dJ35_divWord_67 : decode cJ35_divWord 67 = .ok (.lsub, 1) := dk_101 (dk_at dksJ35_divWord_2 20 rfl rfl)
theorem dJ35_divWord_68 : decode cJ35_divWord 68 = .ok (.lstore 7, 2) := dk_55 7 (dk_at dksJ35_divWord_2 21 rfl rfl)
theorem dJ35_divWord_70 : decode cJ35_divWord 70 = .ok (.goto (-19), 3) := dk_167 255 237 (dk_at dksJ35_divWord_3 0 rfl rfl)
theorem dJ35_divWord_73 : decode cJ35_divWord 73 = .ok (.lload 5, 2) := dk_22 5 (dk_at dksJ35_divWord_3 3 rfl rfl)
theorem dJ35_divWord_75 : decode cJ35_divWord 75 = .ok (.lload_n 3, 1) := dk_33 (dk_at dksJ35_divWord_3 5 rfl rfl)
theorem dJ35_divWord_76 : decode cJ35_divWord 76 = .ok (.lcmp, 1) := dk_148 (dk_at dksJ35_divWord_3 6 rfl rfl)
theorem dJ35_divWord_77 : decode cJ35_divWord 77 = .ok (.ifCond .lt 18, 3) := dk_155 0 18 (dk_at dksJ35_divWord_3 7 rfl rfl)
theorem dJ35_divWord_80 : decode cJ35_divWord 80 = .ok (.lload 5, 2) := dk_22 5 (dk_at dksJ35_divWord_3 10 rfl rfl)
theorem dJ35_divWord_82 : decode cJ35_divWord 82 = .ok (.lload_n 3, 1) := dk_33 (dk_at dksJ35_divWord_3 12 rfl rfl)
theorem dJ35_divWord_83 : decode cJ35_divWord 83 = .ok (.lsub, 1) := dk_101 (dk_at dksJ35_divWord_3 13 rfl rfl)
theorem dJ35_divWord_84 : decode cJ35_divWord 84 = .ok (.lstore 5, 2) := dk_55 5 (dk_at dksJ35_divWord_3 14 rfl rfl)
theorem dJ35_divWord_86 : decode cJ35_divWord 86 = .ok (.lload 7, 2) := dk_22 7 (dk_at dksJ35_divWord_3 16 rfl rfl)
theorem dJ35_divWord_88 : decode cJ35_divWord 88 = .ok (.lconst 1, 1) := dk_10 (dk_at dksJ35_divWord_3 18 rfl rfl)
theorem dJ35_divWord_89 : decode cJ35_divWord 89 = .ok (.ladd, 1) := dk_97 (dk_at dksJ35_divWord_3 19 rfl rfl)
theorem dJ35_divWord_90 : decode cJ35_divWord 90 = .ok (.lstore 7, 2) := dk_55 7 (dk_at dksJ35_divWord_3 20 rfl rfl)
theorem dJ35_divWord_92 : decode cJ35_divWord 92 = .ok (.goto (-19), 3) := dk_167 255 237 (dk_at dksJ35_divWord_4 0 rfl rfl)
theorem dJ35_divWord_95 : decode cJ35_divWord 95 = .ok (.lload 5, 2) := dk_22 5 (dk_at dksJ35_divWord_4 3 rfl rfl)
theorem dJ35_divWord_97 : decode cJ35_divWord 97 = .ok (.bipush 32, 2) := dk_16 32 (dk_at dksJ35_divWord_4 5 rfl rfl)
theorem dJ35_divWord_99 : decode cJ35_divWord 99 = .ok (.lshl, 1) := dk_121 (dk_at dksJ35_divWord_4 7 rfl rfl)
theorem dJ35_divWord_100 : decode cJ35_divWord 100 = .ok (.lload 7, 2) := dk_22 7 (dk_at dksJ35_divWord_4 8 rfl rfl)
theorem dJ35_divWord_102 : decode cJ35_divWord 102 = .ok (.ldc2_w 52, 3) := dk_20 0 52 (dk_at dksJ35_divWord_4 10 rfl rfl)
theorem dJ35_divWord_105 : decode cJ35_divWord 105 = .ok (.land, 1) := dk_127 (dk_at dksJ35_divWord_4 13 rfl rfl)
theorem dJ35_divWord_106 : decode cJ35_divWord 106 = .ok (.lor, 1) := dk_129 (dk_at dksJ35_divWord_4 14 rfl rfl)
theorem dJ35_divWord_107 : decode cJ35_divWord 107 = .ok (.lreturn, 1) := dk_173 (dk_at dksJ35_divWord_4 15 rfl rfl)
def dkwJ35_normalize_3 : List UInt8 := [180, 0, 21, 154, 0, 7, 3, 167, 0, 9, 42, 180, 0, 11, 29, 96, 181, 0, 11, 177]
abbrev dktJ35_normalize_3 : List UInt8 := dkwJ35_normalize_3 ++ []
def dkwJ35_normalize_2 : List UInt8 := [46, 153, 255, 242, 27, 42, 180, 0, 11, 100, 62, 42, 89, 180, 0, 21, 29, 100, 181, 0, 21, 42, 42]
abbrev dktJ35_normalize_2 : List UInt8 := dkwJ35_normalize_2 ++ dktJ35_normalize_3
def dkwJ35_normalize_1 : List UInt8 := [153, 0, 4, 177, 27, 42, 180, 0, 21, 96, 61, 132, 1, 1, 27, 28, 162, 0, 12, 42, 180, 0, 17, 27]
abbrev dktJ35_normalize_1 : List UInt8 := dkwJ35_normalize_1 ++ dktJ35_normalize_2
def dkwJ35_normalize_0 : List UInt8 := [42, 180, 0, 21, 154, 0, 9, 42, 3, 181, 0, 11, 177, 42, 180, 0, 11, 60, 42, 180, 0, 17, 27, 46]
abbrev dktJ35_normalize_0 : List UInt8 := dkwJ35_normalize_0 ++ dktJ35_normalize_1
theorem dksJ35_normalize_0 : cJ35_normalize.data.toList.drop 0 = dktJ35_normalize_0 := by decide +kernel
theorem dksJ35_normalize_1 : cJ35_normalize.data.toList.drop 24 = dktJ35_normalize_1 := dk_seg dksJ35_normalize_0 24 rfl rfl
theorem dksJ35_normalize_2 : cJ35_normalize.data.toList.drop 48 = dktJ35_normalize_2 := dk_seg dksJ35_normalize_1 24 rfl rfl
theorem dksJ35_normalize_3 : cJ35_normalize.data.toList.drop 71 = dktJ35_normalize_3 := dk_seg dksJ35_normalize_2 23 rfl rfl
theorem dJ35_normalize_0 : decode cJ35_normalize 0 = .ok (.aload_n 0, 1) := dk_42 (dk_at dksJ35_normalize_0 0 rfl rfl)
theorem dJ35_normalize_1 : decode cJ35_normalize 1 = .ok (.getfield 21, 3) := dk_180 0 21 (dk_at dksJ35_normalize_0 1 rfl rfl)
theorem dJ35_normalize_4 : decode cJ35_normalize 4 = .ok (.ifCond .ne 9, 3) := dk_154 0 9 (dk_at dksJ35_normalize_0 4 rfl rfl)
theorem dJ35_normalize_7 : decode cJ35_normalize 7 = .ok (.aload_n 0, 1) := dk_42 (dk_at dksJ35_normalize_0 7 rfl rfl)
theorem dJ35_normalize_8 : decode cJ35_normalize 8 = .ok (.iconst 0, 1) := dk_3 (dk_at dksJ35_normalize_0 8 rfl rfl)
theorem dJ35_normalize_9 : decode cJ35_normalize 9 = .ok (.putfield 11, 3) := dk_181 0 11 (dk_at dksJ35_normalize_0 9 rfl rfl)
theorem dJ35_normalize_12 : decode cJ35_normalize 12 = .ok (.return_, 1) := dk_177 (dk_at dksJ35_normalize_0 12 rfl rfl)
theorem dJ35_normalize_13 : decode cJ35_normalize 13 = .ok (.aload_n 0, 1) := dk_42 (dk_at dksJ35_normalize_0 13 rfl rfl)
theorem dJ35_normalize_14 : decode cJ35_normalize 14 = .ok (.getfield 11, 3) := dk_180 0 11 (dk_at dksJ35_normalize_0 14 rfl rfl)
theorem dJ35_normalize_17 : decode cJ35_normalize 17 = .ok (.istore_n 1, 1) := dk_60 (dk_at dksJ35_normalize_0 17 rfl rfl)
theorem dJ35_normalize_18 : decode cJ35_normalize 18 = .ok (.aload_n 0, 1) := dk_42 (dk_at dksJ35_normalize_0 18 rfl rfl)
theorem dJ35_normalize_19 : decode cJ35_normalize 19 = .ok (.getfield 17, 3) := dk_180 0 17 (dk_at dksJ35_normalize_0 19 rfl rfl)
theorem dJ35_normalize_22 : decode cJ35_normalize 22 = .ok (.iload_n 1, 1) := dk_27 (dk_at dksJ35_normalize_0 22 rfl rfl)
theorem dJ35_normalize_23 : decode cJ35_normalize 23 = .ok (.iaload, 1) := dk_46 (dk_at dksJ35_normalize_0 23 rfl rfl)
theorem dJ35_normalize_24 : decode cJ35_normalize 24 = .ok (.ifCond .eq 4, 3) := dk_153 0 4 (dk_at dksJ35_normalize_1 0 rfl rfl)
theorem dJ35_normalize_27 : decode cJ35_normalize 27 = .ok (.return_, 1) := dk_177 (dk_at dksJ35_normalize_1 3 rfl rfl)
theorem dJ35_normalize_28 : decode cJ35_normalize 28 = .ok (.iload_n 1, 1) := dk_27 (dk_at dksJ35_normalize_1 4 rfl rfl)
theorem dJ35_normalize_29 : decode cJ35_normalize 29 = .ok (.aload_n 0, 1) := dk_42 (dk_at dksJ35_normalize_1 5 rfl rfl)
theorem dJ35_normalize_30 : decode cJ35_normalize 30 = .ok (.getfield 21, 3) := dk_180 0 21 (dk_at dksJ35_normalize_1 6 rfl rfl)
theorem dJ35_normalize_33 : decode cJ35_normalize 33 = .ok (.iadd, 1) := dk_96 (dk_at dksJ35_normalize_1 9 rfl rfl)
theorem dJ35_normalize_34 : decode cJ35_normalize 34 = .ok (.istore_n 2, 1) := dk_61 (dk_at dksJ35_normalize_1 10 rfl rfl)
theorem dJ35_normalize_35 : decode cJ35_normalize 35 = .ok (.iinc 1 1, 3) := dk_132 1 1 (dk_at dksJ35_normalize_1 11 rfl rfl)
theorem dJ35_normalize_38 : decode cJ35_normalize 38 = .ok (.iload_n 1, 1) := dk_27 (dk_at dksJ35_normalize_1 14 rfl rfl)
theorem dJ35_normalize_39 : decode cJ35_normalize 39 = .ok (.iload_n 2, 1) := dk_28 (dk_at dksJ35_normalize_1 15 rfl rfl)
theorem dJ35_normalize_40 : decode cJ35_normalize 40 = .ok (.if_icmp .ge 12, 3) := dk_162 0 12 (dk_at dksJ35_normalize_1 16 rfl rfl)
theorem dJ35_normalize_43 : decode cJ35_normalize 43 = .ok (.aload_n 0, 1) := dk_42 (dk_at dksJ35_normalize_1 19 rfl rfl)
theorem dJ35_normalize_44 : decode cJ35_normalize 44 = .ok (.getfield 17, 3) := dk_180 0 17 (dk_at dksJ35_normalize_1 20 rfl rfl)
theorem dJ35_normalize_47 : decode cJ35_normalize 47 = .ok (.iload_n 1, 1) := dk_27 (dk_at dksJ35_normalize_1 23 rfl rfl)
theorem dJ35_normalize_48 : decode cJ35_normalize 48 = .ok (.iaload, 1) := dk_46 (dk_at dksJ35_normalize_2 0 rfl rfl)
theorem dJ35_normalize_49 : decode cJ35_normalize 49 = .ok (.ifCond .eq (-14), 3) := dk_153 255 242 (dk_at dksJ35_normalize_2 1 rfl rfl)
theorem dJ35_normalize_52 : decode cJ35_normalize 52 = .ok (.iload_n 1, 1) := dk_27 (dk_at dksJ35_normalize_2 4 rfl rfl)
theorem dJ35_normalize_53 : decode cJ35_normalize 53 = .ok (.aload_n 0, 1) := dk_42 (dk_at dksJ35_normalize_2 5 rfl rfl)
theorem dJ35_normalize_54 : decode cJ35_normalize 54 = .ok (.getfield 11, 3) := dk_180 0 11 (dk_at dksJ35_normalize_2 6 rfl rfl)
theorem dJ35_normalize_57 : decode cJ35_normalize 57 = .ok (.isub, 1) := dk_100 (dk_at dksJ35_normalize_2 9 rfl rfl)
theorem dJ35_normalize_58 : decode cJ35_normalize 58 = .ok (.istore_n 3, 1) := dk_62 (dk_at dksJ35_normalize_2 10 rfl rfl)
theorem dJ35_normalize_59 : decode cJ35_normalize 59 = .ok (.aload_n 0, 1) := dk_42 (dk_at dksJ35_normalize_2 11 rfl rfl)
theorem dJ35_normalize_60 : decode cJ35_normalize 60 = .ok (.dup, 1) := dk_89 (dk_at dksJ35_normalize_2 12 rfl rfl)
theorem dJ35_normalize_61 : decode cJ35_normalize 61 = .ok (.getfield 21, 3) := dk_180 0 21 (dk_at dksJ35_normalize_2 13 rfl rfl)
theorem dJ35_normalize_64 : decode cJ35_normalize 64 = .ok (.iload_n 3, 1) := dk_29 (dk_at dksJ35_normalize_2 16 rfl rfl)
theorem dJ35_normalize_65 : decode cJ35_normalize 65 = .ok (.isub, 1) := dk_100 (dk_at dksJ35_normalize_2 17 rfl rfl)
theorem dJ35_normalize_66 : decode cJ35_normalize 66 = .ok (.putfield 21, 3) := dk_181 0 21 (dk_at dksJ35_normalize_2 18 rfl rfl)
theorem dJ35_normalize_69 : decode cJ35_normalize 69 = .ok (.aload_n 0, 1) := dk_42 (dk_at dksJ35_normalize_2 21 rfl rfl)
theorem dJ35_normalize_70 : decode cJ35_normalize 70 = .ok (.aload_n 0, 1) := dk_42 (dk_at dksJ35_normalize_2 22 rfl rfl)
theorem dJ35_normalize_71 : decode cJ35_normalize 71 = .ok (.getfield 21, 3) := dk_180 0 21 (dk_at dksJ35_normalize_3 0 rfl rfl)
theorem dJ35_normalize_74 : decode cJ35_normalize 74 = .ok (.ifCond .ne 7, 3) := dk_154 0 7 (dk_at dksJ35_normalize_3 3 rfl rfl)
theorem dJ35_normalize_77 : decode cJ35_normalize 77 = .ok (.iconst 0, 1) := dk_3 (dk_at dksJ35_normalize_3 6 rfl rfl)
theorem dJ35_normalize_78 : decode cJ35_normalize 78 = .ok (.goto 9, 3) := dk_167 0 9 (dk_at dksJ35_normalize_3 7 rfl rfl)
theorem dJ35_normalize_81 : decode cJ35_normalize 81 = .ok (.aload_n 0, 1) := dk_42 (dk_at dksJ35_normalize_3 10 rfl rfl)
theorem dJ35_normalize_82 : decode cJ35_normalize 82 = .ok (.getfield 11, 3) := dk_180 0 11 (dk_at dksJ35_normalize_3 11 rfl rfl)
theorem dJ35_normalize_85 : decode cJ35_normalize 85 = .ok (.iload_n 3, 1) := dk_29 (dk_at dksJ35_normalize_3 14 rfl rfl)
theorem dJ35_normalize_86 : decode cJ35_normalize 86 = .ok (.iadd, 1) := dk_96 (dk_at dksJ35_normalize_3 15 rfl rfl)
theorem dJ35_normalize_87 : decode cJ35_normalize 87 = .ok (.putfield 11, 3) := dk_181 0 11 (dk_at dksJ35_normalize_3 16 rfl rfl)
theorem dJ35_normalize_90 : decode cJ35_normalize 90 = .ok (.return_, 1) := dk_177 (dk_at dksJ35_normalize_3 19 rfl rfl)
def dkwJ35_unsignedLongCompare_0 : List UInt8 := [31, 20, 0, 79, 97, 33, 20, 0, 79, 97, 148, 158, 0, 7, 4, 167, 0, 4, 3, 172]
abbrev dktJ35_unsignedLongCompare_0 : List UInt8 := dkwJ35_unsignedLongCompare_0 ++ []
theorem dksJ35_unsignedLongCompare_0 : cJ35_unsignedLongCompare.data.toList.drop 0 = dktJ35_unsignedLongCompare_0 := by decide +kernel
theorem dJ35_unsignedLongCompare_0 : decode cJ35_unsignedLongCompare 0 = .ok (.lload_n 1, 1) := dk_31 (dk_at dksJ35_unsignedLongCompare_0 0 rfl rfl)
theorem dJ35_unsignedLongCompare_1 : decode cJ35_unsignedLongCompare 1 = .ok (.ldc2_w 79, 3) := dk_20 0 79 (dk_at dksJ35_unsignedLongCompare_0 1 rfl rfl)
theorem dJ35_unsignedLongCompare_4 : decode cJ35_unsignedLongCompare 4 = .ok (.ladd, 1) := dk_97 (dk_at dksJ35_unsignedLongCompare_0 4 rfl rfl)
theorem dJ35_unsignedLongCompare_5 : decode cJ35_unsignedLongCompare 5 = .ok (.lload_n 3, 1) := dk_33 (dk_at dksJ35_unsignedLongCompare_0 5 rfl rfl)
theorem dJ35_unsignedLongCompare_6 : decode cJ35_unsignedLongCompare 6 = .ok (.ldc2_w 79, 3) := dk_20 0 79 (dk_at dksJ35_unsignedLongCompare_0 6 rfl rfl)
theorem dJ35_unsignedLongCompare_9 : decode cJ35_unsignedLongCompare 9 = .ok (.ladd, 1) := dk_97 (dk_at dksJ35_unsignedLongCompare_0 9 rfl rfl)
theorem dJ35_unsignedLongCompare_10 : decode cJ35_unsignedLongCompare 10 = .ok (.lcmp, 1) := dk_148 (dk_at dksJ35_unsignedLongCompare_0 10 rfl rfl)
theorem dJ35_unsignedLongCompare_11 : decode cJ35_unsignedLongCompare 11 = .ok (.ifCond .le 7, 3) := dk_158 0 7 (dk_at dksJ35_unsignedLongCompare_0 11 rfl rfl)
theorem dJ35_unsignedLongCompare_14 : decode cJ35_unsignedLongCompare 14 = .ok (.iconst 1, 1) := dk_4 (dk_at dksJ35_unsignedLongCompare_0 14 rfl rfl)
theorem dJ35_unsignedLongCompare_15 : decode cJ35_unsignedLongCompare 15 = .ok (.goto 4, 3) := dk_167 0 4 (dk_at dksJ35_unsignedLongCompare_0 15 rfl rfl)
theorem dJ35_unsignedLongCompare_18 : decode cJ35_unsignedLongCompare 18 = .ok (.iconst 0, 1) := dk_3 (dk_at dksJ35_unsignedLongCompare_0 18 rfl rfl)
theorem dJ35_unsignedLongCompare_19 : decode cJ35_unsignedLongCompare 19 = .ok (.ireturn, 1) := dk_172 (dk_at dksJ35_unsignedLongCompare_0 19 rfl rfl)
def dkwJ35_mulsubLong_6 : List UInt8 := [97, 55, 12, 22, 12, 136, 172]
abbrev dktJ35_mulsubLong_6 : List UInt8 := dkwJ35_mulsubLong_6 ++ []
def dkwJ35_mulsubLong_5 : List UInt8 := [20, 0, 52, 127, 22, 8, 136, 2, 130, 133, 20, 0, 52, 127, 148, 158, 0, 7, 4, 167, 0, 4, 3, 133]
abbrev dktJ35_mulsubLong_5 : List UInt8 := dkwJ35_mulsubLong_5 ++ dktJ35_mulsubLong_6
def dkwJ35_mulsubLong_4 : List UInt8 := [22, 8, 101, 55, 10, 43, 21, 5, 132, 5, 255, 22, 10, 136, 79, 22, 8, 16, 32, 125, 22, 10]
abbrev dktJ35_mulsubLong_4 : List UInt8 := dkwJ35_mulsubLong_4 ++ dktJ35_mulsubLong_5
def dkwJ35_mulsubLong_3 : List UInt8 := [3, 133, 97, 55, 12, 28, 133, 20, 0, 52, 127, 22, 6, 105, 22, 12, 97, 55, 8, 43, 21, 5, 46, 133]
abbrev dktJ35_mulsubLong_3 : List UInt8 := dkwJ35_mulsubLong_3 ++ dktJ35_mulsubLong_4
def dkwJ35_mulsubLong_2 : List UInt8 := [22, 10, 20, 0, 52, 127, 22, 8, 136, 2, 130, 133, 20, 0, 52, 127, 148, 158, 0, 7, 4, 167, 0, 4]
abbrev dktJ35_mulsubLong_2 : List UInt8 := dkwJ35_mulsubLong_2 ++ dktJ35_mulsubLong_3
def dkwJ35_mulsubLong_1 : List UInt8 := [21, 5, 46, 133, 22, 8, 101, 55, 10, 43, 21, 5, 132, 5, 255, 22, 10, 136, 79, 22, 8, 16, 32, 125]
abbrev dktJ35_mulsubLong_1 : List UInt8 := dkwJ35_mulsubLong_1 ++ dktJ35_mulsubLong_2
def dkwJ35_mulsubLong_0 : List UInt8 := [21, 4, 133, 20, 0, 52, 127, 55, 6, 132, 5, 2, 29, 133, 20, 0, 52, 127, 22, 6, 105, 55, 8, 43]
abbrev dktJ35_mulsubLong_0 : List UInt8 := dkwJ35_mulsubLong_0 ++ dktJ35_mulsubLong_1
theorem dksJ35_mulsubLong_0 : cJ35_mulsubLong.data.toList.drop 0 = dktJ35_mulsubLong_0 := by decide +kernel
theorem dksJ35_mulsubLong_1 : cJ35_mulsubLong.data.toList.drop 24 = dktJ35_mulsubLong_1 := dk_seg dksJ35_mulsubLong_0 24 rfl rfl
theorem dksJ35_mulsubLong_2 : cJ35_mulsubLong.data.toList.drop 48 = dktJ35_mulsubLong_2 := dk_seg dksJ35_mulsubLong_1 24 rfl rfl
theorem dksJ35_mulsubLong_3 : cJ35_mulsubLong.data.toList.drop 72 = dktJ35_mulsubLong_3 := dk_seg dksJ35_mulsubLong_2 24 rfl rfl
theorem dksJ35_mulsubLong_4 : cJ35_mulsubLong.data.toList.drop 96 = dktJ35_mulsubLong_4 := dk_seg dksJ35_mulsubLong_3 24 rfl rfl
theorem dksJ35_mulsubLong_5 : cJ35_mulsubLong.data.toList.drop 118 = dktJ35_mulsubLong_5 := dk_seg dksJ35_mulsubLong_4 22 rfl rfl
theorem dksJ35_mulsubLong_6 : cJ35_mulsubLong.data.toList.drop 142 = dktJ35_mulsubLong_6 := dk_seg dksJ35_mulsubLong_5 24 rfl rfl
theorem dJ35_mulsubLong_0 : decode cJ35_mulsubLong 0 = .ok (.iload 4, 2) := dk_21 4 (dk_at dksJ35_mulsubLong_0 0 rfl rfl)
theorem dJ35_mulsubLong_2 : decode cJ35_mulsubLong 2 = .ok (.i2l, 1) := dk_133 (dk_at dksJ35_mulsubLong_0 2 rfl rfl)
theorem dJ35_mulsubLong_3 : decode cJ35_mulsubLong 3 = .ok (.ldc2_w 52, 3) := dk_20 0 52 (dk_at dksJ35_mulsubLong_0 3 rfl rfl)
theorem dJ35_mulsubLong_6 : decode cJ35_mulsubLong 6 = .ok (.land, 1) := dk_127 (dk_at dksJ35_mulsubLong_0 6 rfl rfl)
theorem dJ35_mulsubLong_7 : decode cJ35_mulsubLong 7 = .ok (.lstore 6, 2) := dk_55 6 (dk_at dksJ35_mulsubLong_0 7 rfl rfl)
theorem dJ35_mulsubLong_9 : decode cJ35_mulsubLong 9 = .ok (.iinc 5 2, 3) := dk_132 5 2 (dk_at dksJ35_mulsubLong_0 9 rfl rfl)
theorem dJ35_mulsubLong_12 : decode cJ35_mulsubLong 12 = .ok (.iload_n 3, 1) := dk_29 (dk_at dksJ35_mulsubLong_0 12 rfl rfl)
theorem dJ35_mulsubLong_13 : decode cJ35_mulsubLong 13 = .ok (.i2l, 1) := dk_133 (dk_at dksJ35_mulsubLong_0 13 rfl rfl)
theorem dJ35_mulsubLong_14 : decode cJ35_mulsubLong 14 = .ok (.ldc2_w 52, 3) := dk_20 0 52 (dk_at dksJ35_mulsubLong_0 14 rfl rfl)
theorem dJ35_mulsubLong_17 : decode cJ35_mulsubLong 17 = .ok (.land, 1) := dk_127 (dk_at dksJ35_mulsubLong_0 17 rfl rfl)
theorem dJ35_mulsubLong_18 : decode cJ35_mulsubLong 18 = .ok (.lload 6, 2) := dk_22 6 (dk_at dksJ35_mulsubLong_0 18 rfl rfl)
theorem dJ35_mulsubLong_20 : decode cJ35_mulsubLong 20 = .ok (.lmul, 1) := dk_105 (dk_at dksJ35_mulsubLong_0 20 rfl rfl)
theorem dJ35_mulsubLong_21 : decode cJ35_mulsubLong 21 = .ok (.lstore 8, 2) := dk_55 8 (dk_at dksJ35_mulsubLong_0 21 rfl rfl)
theorem dJ35_mulsubLong_23 : decode cJ35_mulsubLong 23 = .ok (.aload_n 1, 1) := dk_43 (dk_at dksJ35_mulsubLong_0 23 rfl rfl)
theorem dJ35_mulsubLong_24 : decode cJ35_mulsubLong 24 = .ok (.iload 5, 2) := dk_21 5 (dk_at dksJ35_mulsubLong_1 0 rfl rfl)
theorem dJ35_mulsubLong_26 : decode cJ35_mulsubLong 26 = .ok (.iaload, 1) := dk_46 (dk_at dksJ35_mulsubLong_1 2 rfl rfl)
theorem dJ35_mulsubLong_27 : decode cJ35_mulsubLong 27 = .ok (.i2l, 1) := dk_133 (dk_at dksJ35_mulsubLong_1 3 rfl rfl)
theorem dJ35_mulsubLong_28 : decode cJ35_mulsubLong 28 = .ok (.lload 8, 2) := dk_22 8 (dk_at dksJ35_mulsubLong_1 4 rfl rfl)
theorem dJ35_mulsubLong_30 : decode cJ35_mulsubLong 30 = .ok (.lsub, 1) := dk_101 (dk_at dksJ35_mulsubLong_1 6 rfl rfl)
theorem dJ35_mulsubLong_31 : decode cJ35_mulsubLong 31 = .ok (.lstore 10, 2) := dk_55 10 (dk_at dksJ35_mulsubLong_1 7 rfl rfl)
theorem dJ35_mulsubLong_33 : decode cJ35_mulsubLong 33 = .ok (.aload_n 1, 1) := dk_43 (dk_at dksJ35_mulsubLong_1 9 rfl rfl)
theorem dJ35_mulsubLong_34 : decode cJ35_mulsubLong 34 = .ok (.iload 5, 2) := dk_21 5 (dk_at dksJ35_mulsubLong_1 10 rfl rfl)
theorem dJ35_mulsubLong_36 : decode cJ35_mulsubLong 36 = .ok (.iinc 5 (-1), 3) := dk_132 5 255 (dk_at dksJ35_mulsubLong_1 12 rfl rfl)
theorem dJ35_mulsubLong_39 : decode cJ35_mulsubLong 39 = .ok (.lload 10, 2) := dk_22 10 (dk_at dksJ35_mulsubLong_1 15 rfl rfl)
theorem dJ35_mulsubLong_41 : decode cJ35_mulsubLong 41 = .ok (.l2i, 1) := dk_136 (dk_at dksJ35_mulsubLong_1 17 rfl rfl)
theorem dJ35_mulsubLong_42 : decode cJ35_mulsubLong 42 = .ok (.iastore, 1) := dk_79 (dk_at dksJ35_mulsubLong_1 18 rfl rfl)
theorem dJ35_mulsubLong_43 : decode cJ35_mulsubLong 43 = .ok (.lload 8, 2) := dk_22 8 (dk_at dksJ35_mulsubLong_1 19 rfl rfl)
theorem dJ35_mulsubLong_45 : decode cJ35_mulsubLong 45 = .ok (.bipush 32, 2) := dk_16 32 (dk_at dksJ35_mulsubLong_1 21 rfl rfl)
theorem dJ35_mulsubLong_47 : decode cJ35_mulsubLong 47 = .ok (.lushr, 1) := dk_125 (dk_at dksJ35_mulsubLong_1 23 rfl rfl)
theorem dJ35_mulsubLong_48 : decode cJ35_mulsubLong 48 = .ok (.lload 10, 2) := dk_22 10 (dk_at dksJ35_mulsubLong_2 0 rfl rfl)
theorem dJ35_mulsubLong_50 : decode cJ35_mulsubLong 50 = .ok (.ldc2_w 52, 3) := dk_20 0 52 (dk_at dksJ35_mulsubLong_2 2 rfl rfl)
theorem dJ35_mulsubLong_53 : decode cJ35_mulsubLong 53 = .ok (.land, 1) := dk_127 (dk_at dksJ35_mulsubLong_2 5 rfl rfl)
theorem dJ35_mulsubLong_54 : decode cJ35_mulsubLong 54 = .ok (.lload 8, 2) := dk_22 8 (dk_at dksJ35_mulsubLong_2 6 rfl rfl)
theorem dJ35_mulsubLong_56 : decode cJ35_mulsubLong 56 = .ok (.l2i, 1) := dk_136 (dk_at dksJ35_mulsubLong_2 8 rfl rfl)
theorem dJ35_mulsubLong_57 : decode cJ35_mulsubLong 57 = .ok (.iconst (-1), 1) := dk_2 (dk_at dksJ35_mulsubLong_2 9 rfl rfl)
theorem dJ35_mulsubLong_58 : decode cJ35_mulsubLong 58 = .ok (.ixor, 1) := dk_130 (dk_at dksJ35_mulsubLong_2 10 rfl rfl)
theorem dJ35_mulsubLong_59 : decode cJ35_mulsubLong 59 = .ok (.i2l, 1) := dk_133 (dk_at dksJ35_mulsubLong_2 11 rfl rfl)
theorem dJ35_mulsubLong_60 : decode cJ35_mulsubLong 60 = .ok (.ldc2_w 52, 3) := dk_20 0 52 (dk_at dksJ35_mulsubLong_2 12 rfl rfl)
theorem dJ35_mulsubLong_63 : decode cJ35_mulsubLong 63 = .ok (.land, 1) := dk_127 (dk_at dksJ35_mulsubLong_2 15 rfl rfl)
theorem dJ35_mulsubLong_64 : decode cJ35_mulsubLong 64 = .ok (.lcmp, 1) := dk_148 (dk_at dksJ35_mulsubLong_2 16 rfl rfl)
theorem dJ35_mulsubLong_65 : decode cJ35_mulsubLong 65 = .ok (.ifCond .le 7, 3) := dk_158 0 7 (dk_at dksJ35_mulsubLong_2 17 rfl rfl)
theorem dJ35_mulsubLong_68 : decode cJ35_mulsubLong 68 = .ok (.iconst 1, 1) := dk_4 (dk_at dksJ35_mulsubLong_2 20 rfl rfl)
theorem dJ35_mulsubLong_69 : decode cJ35_mulsubLong 69 = .ok (.goto 4, 3) := dk_167 0 4 (dk_at dksJ35_mulsubLong_2 21 rfl rfl)
theorem dJ35_mulsubLong_72 : decode cJ35_mulsubLong 72 = .ok (.iconst 0, 1) := dk_3 (dk_at dksJ35_mulsubLong_3 0 rfl rfl)
theorem dJ35_mulsubLong_73 : decode cJ35_mulsubLong 73 = .ok (.i2l, 1) := dk_133 (dk_at dksJ35_mulsubLong_3 1 rfl rfl)
theorem dJ35_mulsubLong_74 : decode cJ35_mulsubLong 74 = .ok (.ladd, 1) := dk_97 (dk_at dksJ35_mulsubLong_3 2 rfl rfl)
theorem dJ35_mulsubLong_75 : decode cJ35_mulsubLong 75 = .ok (.lstore 12, 2) := dk_55 12 (dk_at dksJ35_mulsubLong_3 3 rfl rfl)
theorem dJ35_mulsubLong_77 : decode cJ35_mulsubLong 77 = .ok (.iload_n 2, 1) := dk_28 (dk_at dksJ35_mulsubLong_3 5 rfl rfl)
theorem dJ35_mulsubLong_78 : decode cJ35_mulsubLong 78 = .ok (.i2l, 1) := dk_133 (dk_at dksJ35_mulsubLong_3 6 rfl rfl)
theorem dJ35_mulsubLong_79 : decode cJ35_mulsubLong 79 = .ok (.ldc2_w 52, 3) := dk_20 0 52 (dk_at dksJ35_mulsubLong_3 7 rfl rfl)
theorem dJ35_mulsubLong_82 : decode cJ35_mulsubLong 82 = .ok (.land, 1) := dk_127 (dk_at dksJ35_mulsubLong_3 10 rfl rfl)
theorem dJ35_mulsubLong_83 : decode cJ35_mulsubLong 83 = .ok (.lload 6, 2) := dk_22 6 (dk_at dksJ35_mulsubLong_3 11 rfl rfl)
theorem dJ35_mulsubLong_85 : decode cJ35_mulsubLong 85 = .ok (.lmul, 1) := dk_105 (dk_at dksJ35_mulsubLong_3 13 rfl rfl)
theorem dJ35_mulsubLong_86 : decode cJ35_mulsubLong 86 = .ok (.lload 12, 2) := dk_22 12 (dk_at dksJ35_mulsubLong_3 14 rfl rfl)
theorem dJ35_mulsubLong_88 : decode cJ35_mulsubLong 88 = .ok (.ladd, 1) := dk_97 (dk_at dksJ35_mulsubLong_3 16 rfl rfl)
theorem dJ35_mulsubLong_89 : decode cJ35_mulsubLong 89 = .ok (.lstore 8, 2) := dk_55 8 (dk_at dksJ35_mulsubLong_3 17 rfl rfl)
theorem dJ35_mulsubLong_91 : decode cJ35_mulsubLong 91 = .ok (.aload_n 1, 1) := dk_43 (dk_at dksJ35_mulsubLong_3 19 rfl rfl)
theorem dJ35_mulsubLong_92 : decode cJ35_mulsubLong 92 = .ok (.iload 5, 2) := dk_21 5 (dk_at dksJ35_mulsubLong_3 20 rfl rfl)
theorem dJ35_mulsubLong_94 : decode cJ35_mulsubLong 94 = .ok (.iaload, 1) := dk_46 (dk_at dksJ35_mulsubLong_3 22 rfl rfl)
theorem dJ35_mulsubLong_95 : decode cJ35_mulsubLong 95 = .ok (.i2l, 1) := dk_133 (dk_at dksJ35_mulsubLong_3 23 rfl rfl)
theorem dJ35_mulsubLong_96 : decode cJ35_mulsubLong 96 = .ok (.lload 8, 2) := dk_22 8 (dk_at dksJ35_mulsubLong_4 0 rfl rfl)
theorem dJ35_mulsubLong_98 : decode cJ35_mulsubLong 98 = .ok (.lsub, 1) := dk_101 (dk_at dksJ35_mulsubLong_4 2 rfl rfl)
theorem dJ35_mulsubLong_99 : decode cJ35_mulsubLong 99 = .ok (.lstore 10, 2) := dk_55 10 (dk_at dksJ35_mulsubLong_4 3 rfl rfl)
theorem dJ35_mulsubLong_101 : decode cJ35_mulsubLong 101 = .ok (.aload_n 1, 1) := dk_43 (dk_at dksJ35_mulsubLong_4 5 rfl rfl)
theorem dJ35_mulsubLong_102 : decode cJ35_mulsubLong 102 = .ok (.iload 5, 2) := dk_21 5 (dk_at dksJ35_mulsubLong_4 6 rfl rfl)
theorem dJ35_mulsubLong_104 : decode cJ35_mulsubLong 104 = .ok (.iinc 5 (-1), 3) := dk_132 5 255 (dk_at dksJ35_mulsubLong_4 8 rfl rfl)
theorem dJ35_mulsubLong_107 : decode cJ35_mulsubLong 107 = .ok (.lload 10, 2) := dk_22 10 (dk_at dksJ35_mulsubLong_4 11 rfl rfl)
theorem dJ35_mulsubLong_109 : decode cJ35_mulsubLong 109 = .ok (.l2i, 1) := dk_136 (dk_at dksJ35_mulsubLong_4 13 rfl rfl)
theorem dJ35_mulsubLong_110 : decode cJ35_mulsubLong 110 = .ok (.iastore, 1) := dk_79 (dk_at dksJ35_mulsubLong_4 14 rfl rfl)
theorem dJ35_mulsubLong_111 : decode cJ35_mulsubLong 111 = .ok (.lload 8, 2) := dk_22 8 (dk_at dksJ35_mulsubLong_4 15 rfl rfl)
theorem dJ35_mulsubLong_113 : decode cJ35_mulsubLong 113 = .ok (.bipush 32, 2) := dk_16 32 (dk_at dksJ35_mulsubLong_4 17 rfl rfl)
theorem dJ35_mulsubLong_115 : decode cJ35_mulsubLong 115 = .ok (.lushr, 1) := dk_125 (dk_at dksJ35_mulsubLong_4 19 rfl rfl)
theorem dJ35_mulsubLong_116 : decode cJ35_mulsubLong 116 = .ok (.lload 10, 2) := dk_22 10 (dk_at dksJ35_mulsubLong_4 20 rfl rfl)
theorem dJ35_mulsubLong_118 : decode cJ35_mulsubLong 118 = .ok (.ldc2_w 52, 3) := dk_20 0 52 (dk_at dksJ35_mulsubLong_5 0 rfl rfl)
theorem dJ35_mulsubLong_121 : decode cJ35_mulsubLong 121 = .ok (.land, 1) := dk_127 (dk_at dksJ35_mulsubLong_5 3 rfl rfl)
theorem dJ35_mulsubLong_122 : decode cJ35_mulsubLong 122 = .ok (.lload 8, 2) := dk_22 8 (dk_at dksJ35_mulsubLong_5 4 rfl rfl)
theorem dJ35_mulsubLong_124 : decode cJ35_mulsubLong 124 = .ok (.l2i, 1) := dk_136 (dk_at dksJ35_mulsubLong_5 6 rfl rfl)
theorem dJ35_mulsubLong_125 : decode cJ35_mulsubLong 125 = .ok (.iconst (-1), 1) := dk_2 (dk_at dksJ35_mulsubLong_5 7 rfl rfl)
theorem dJ35_mulsubLong_126 : decode cJ35_mulsubLong 126 = .ok (.ixor, 1) := dk_130 (dk_at dksJ35_mulsubLong_5 8 rfl rfl)
theorem dJ35_mulsubLong_127 : decode cJ35_mulsubLong 127 = .ok (.i2l, 1) := dk_133 (dk_at dksJ35_mulsubLong_5 9 rfl rfl)
theorem dJ35_mulsubLong_128 : decode cJ35_mulsubLong 128 = .ok (.ldc2_w 52, 3) := dk_20 0 52 (dk_at dksJ35_mulsubLong_5 10 rfl rfl)
theorem dJ35_mulsubLong_131 : decode cJ35_mulsubLong 131 = .ok (.land, 1) := dk_127 (dk_at dksJ35_mulsubLong_5 13 rfl rfl)
theorem dJ35_mulsubLong_132 : decode cJ35_mulsubLong 132 = .ok (.lcmp, 1) := dk_148 (dk_at dksJ35_mulsubLong_5 14 rfl rfl)
theorem dJ35_mulsubLong_133 : decode cJ35_mulsubLong 133 = .ok (.ifCond .le 7, 3) := dk_158 0 7 (dk_at dksJ35_mulsubLong_5 15 rfl rfl)
theorem dJ35_mulsubLong_136 : decode cJ35_mulsubLong 136 = .ok (.iconst 1, 1) := dk_4 (dk_at dksJ35_mulsubLong_5 18 rfl rfl)
theorem dJ35_mulsubLong_137 : decode cJ35_mulsubLong 137 = .ok (.goto 4, 3) := dk_167 0 4 (dk_at dksJ35_mulsubLong_5 19 rfl rfl)
theorem dJ35_mulsubLong_140 : decode cJ35_mulsubLong 140 = .ok (.iconst 0, 1) := dk_3 (dk_at dksJ35_mulsubLong_5 22 rfl rfl)
theorem dJ35_mulsubLong_141 : decode cJ35_mulsubLong 141 = .ok (.i2l, 1) := dk_133 (dk_at dksJ35_mulsubLong_5 23 rfl rfl)
theorem dJ35_mulsubLong_142 : decode cJ35_mulsubLong 142 = .ok (.ladd, 1) := dk_97 (dk_at dksJ35_mulsubLong_6 0 rfl rfl)
theorem dJ35_mulsubLong_143 : decode cJ35_mulsubLong 143 = .ok (.lstore 12, 2) := dk_55 12 (dk_at dksJ35_mulsubLong_6 1 rfl rfl)
theorem dJ35_mulsubLong_145 : decode cJ35_mulsubLong 145 = .ok (.lload 12, 2) := dk_22 12 (dk_at dksJ35_mulsubLong_6 3 rfl rfl)
theorem dJ35_mulsubLong_147 : decode cJ35_mulsubLong 147 = .ok (.l2i, 1) := dk_136 (dk_at dksJ35_mulsubLong_6 5 rfl rfl)
theorem dJ35_mulsubLong_148 : decode cJ35_mulsubLong 148 = .ok (.ireturn, 1) := dk_172 (dk_at dksJ35_mulsubLong_6 6 rfl rfl)
def dkwJ35_toLong_3 : List UInt8 := [20, 0, 52, 127, 129, 167, 0, 4, 31, 173]
abbrev dktJ35_toLong_3 : List UInt8 := dkwJ35_toLong_3 ++ []
def dkwJ35_toLong_2 : List UInt8 := [42, 180, 0, 21, 5, 160, 0, 27, 31, 16, 32, 121, 42, 180, 0, 17, 42, 180, 0, 11, 4, 96, 46, 133]
abbrev dktJ35_toLong_2 : List UInt8 := dkwJ35_toLong_2 ++ dktJ35_toLong_3
def dkwJ35_toLong_1 : List UInt8 := [42, 180, 0, 21, 154, 0, 5, 9, 173, 42, 180, 0, 17, 42, 180, 0, 11, 46, 133, 20, 0, 52, 127, 64]
abbrev dktJ35_toLong_1 : List UInt8 := dkwJ35_toLong_1 ++ dktJ35_toLong_2
def dkwJ35_toLong_0 : List UInt8 := [178, 0, 41, 154, 0, 21, 42, 180, 0, 21, 5, 164, 0, 13, 187, 0, 45, 89, 18, 47, 183, 0, 49, 191]
abbrev dktJ35_toLong_0 : List UInt8 := dkwJ35_toLong_0 ++ dktJ35_toLong_1
theorem dksJ35_toLong_0 : cJ35_toLong.data.toList.drop 0 = dktJ35_toLong_0 := by decide +kernel
theorem dksJ35_toLong_1 : cJ35_toLong.data.toList.drop 24 = dktJ35_toLong_1 := dk_seg dksJ35_toLong_0 24 rfl rfl
theorem dksJ35_toLong_2 : cJ35_toLong.data.toList.drop 48 = dktJ35_toLong_2 := dk_seg dksJ35_toLong_1 24 rfl rfl
theorem dksJ35_toLong_3 : cJ35_toLong.data.toList.drop 72 = dktJ35_toLong_3 := dk_seg dksJ35_toLong_2 24 rfl rfl
theorem dJ35_toLong_0 : decode cJ35_toLong 0 = .ok (.getstatic 41, 3) := dk_178 0 41 (dk_at dksJ35_toLong_0 0 rfl rfl)
theorem dJ35_toLong_3 : decode cJ35_toLong 3 = .ok (.ifCond .ne 21, 3) := dk_154 0 21 (dk_at dksJ35_toLong_0 3 rfl rfl)
theorem dJ35_toLong_6 : decode cJ35_toLong 6 = .ok (.aload_n 0, 1) := dk_42 (dk_at dksJ35_toLong_0 6 rfl rfl)
theorem dJ35_toLong_7 : decode cJ35_toLong 7 = .ok (.getfield 21, 3) := dk_180 0 21 (dk_at dksJ35_toLong_0 7 rfl rfl)
theorem dJ35_toLong_10 : decode cJ35_toLong 10 = .ok (.iconst 2, 1) := dk_5 (dk_at dksJ35_toLong_0 10 rfl rfl)
theorem dJ35_toLong_11 : decode cJ35_toLong 11 = .ok (.if_icmp .le 13, 3) := dk_164 0 13 (dk_at dksJ35_toLong_0 11 rfl rfl)
theorem dJ35_toLong_14 : decode cJ35_toLong 14 = .ok (.new 45, 3) := dk_187 0 45 (dk_at dksJ35_toLong_0 14 rfl rfl)
theorem dJ35_toLong_17 : decode cJ35_toLong 17 = .ok (.dup, 1) := dk_89 (dk_at dksJ35_toLong_0 17 rfl rfl)
theorem dJ35_toLong_18 : decode cJ35_toLong 18 = .ok (.ldc 47, 2) := dk_18 47 (dk_at dksJ35_toLong_0 18 rfl rfl)
theorem dJ35_toLong_20 : decode cJ35_toLong 20 = .ok (.invokespecial 49, 3) := dk_183 0 49 (dk_at dksJ35_toLong_0 20 rfl rfl)
theorem dJ35_toLong_23 : decode cJ35_toLong 23 = .ok (.athrow, 1) := dk_191 (dk_at dksJ35_toLong_0 23 rfl rfl)
theorem dJ35_toLong_24 : decode cJ35_toLong 24 = .ok (.aload_n 0, 1) := dk_42 (dk_at dksJ35_toLong_1 0 rfl rfl)
theorem dJ35_toLong_25 : decode cJ35_toLong 25 = .ok (.getfield 21, 3) := dk_180 0 21 (dk_at dksJ35_toLong_1 1 rfl rfl)
theorem dJ35_toLong_28 : decode cJ35_toLong 28 = .ok (.ifCond .ne 5, 3) := dk_154 0 5 (dk_at dksJ35_toLong_1 4 rfl rfl)
theorem dJ35_toLong_31 : decode cJ35_toLong 31 = .ok (.lconst 0, 1) := dk_9 (dk_at dksJ35_toLong_1 7 rfl rfl)
theorem dJ35_toLong_32 : decode cJ35_toLong 32 = .ok (.lreturn, 1) := dk_173 (dk_at dksJ35_toLong_1 8 rfl rfl)
theorem dJ35_toLong_33 : decode cJ35_toLong 33 = .ok (.aload_n 0, 1) := dk_42 (dk_at dksJ35_toLong_1 9 rfl rfl)
theorem dJ35_toLong_34 : decode cJ35_toLong 34 = .ok (.getfield 17, 3) := dk_180 0 17 (dk_at dksJ35_toLong_1 10 rfl rfl)
theorem dJ35_toLong_37 : decode cJ35_toLong 37 = .ok (.aload_n 0, 1) := dk_42 (dk_at dksJ35_toLong_1 13 rfl rfl)
theorem dJ35_toLong_38 : decode cJ35_toLong 38 = .ok (.getfield 11, 3) := dk_180 0 11 (dk_at dksJ35_toLong_1 14 rfl rfl)
theorem dJ35_toLong_41 : decode cJ35_toLong 41 = .ok (.iaload, 1) := dk_46 (dk_at dksJ35_toLong_1 17 rfl rfl)
theorem dJ35_toLong_42 : decode cJ35_toLong 42 = .ok (.i2l, 1) := dk_133 (dk_at dksJ35_toLong_1 18 rfl rfl)
theorem dJ35_toLong_43 : decode cJ35_toLong 43 = .ok (.ldc2_w 52, 3) := dk_20 0 52 (dk_at dksJ35_toLong_1 19 rfl rfl)
theorem dJ35_toLong_46 : decode cJ35_toLong 46 = .ok (.land, 1) := dk_127 (dk_at dksJ35_toLong_1 22 rfl rfl)
theorem dJ35_toLong_47 : decode cJ35_toLong 47 = .ok (.lstore_n 1, 1) := dk_64 (dk_at dksJ35_toLong_1 23 rfl rfl)
theorem dJ35_toLong_48 : decode cJ35_toLong 48 = .ok (.aload_n 0, 1) := dk_42 (dk_at dksJ35_toLong_2 0 rfl rfl)
theorem dJ35_toLong_49 : decode cJ35_toLong 49 = .ok (.getfield 21, 3) := dk_180 0 21 (dk_at dksJ35_toLong_2 1 rfl rfl)
theorem dJ35_toLong_52 : decode cJ35_toLong 52 = .ok (.iconst 2, 1) := dk_5 (dk_at dksJ35_toLong_2 4 rfl rfl)
theorem dJ35_toLong_53 : decode cJ35_toLong 53 = .ok (.if_icmp .ne 27, 3) := dk_160 0 27 (dk_at dksJ35_toLong_2 5 rfl rfl)
theorem dJ35_toLong_56 : decode cJ35_toLong 56 = .ok (.lload_n 1, 1) := dk_31 (dk_at dksJ35_toLong_2 8 rfl rfl)
theorem dJ35_toLong_57 : decode cJ35_toLong 57 = .ok (.bipush 32, 2) := dk_16 32 (dk_at dksJ35_toLong_2 9 rfl rfl)
theorem dJ35_toLong_59 : decode cJ35_toLong 59 = .ok (.lshl, 1) := dk_121 (dk_at dksJ35_toLong_2 11 rfl rfl)
theorem dJ35_toLong_60 : decode cJ35_toLong 60 = .ok (.aload_n 0, 1) := dk_42 (dk_at dksJ35_toLong_2 12 rfl rfl)
theorem dJ35_toLong_61 : decode cJ35_toLong 61 = .ok (.getfield 17, 3) := dk_180 0 17 (dk_at dksJ35_toLong_2 13 rfl rfl)
theorem dJ35_toLong_64 : decode cJ35_toLong 64 = .ok (.aload_n 0, 1) := dk_42 (dk_at dksJ35_toLong_2 16 rfl rfl)
theorem dJ35_toLong_65 : decode cJ35_toLong 65 = .ok (.getfield 11, 3) := dk_180 0 11 (dk_at dksJ35_toLong_2 17 rfl rfl)
theorem dJ35_toLong_68 : decode cJ35_toLong 68 = .ok (.iconst 1, 1) := dk_4 (dk_at dksJ35_toLong_2 20 rfl rfl)
theorem dJ35_toLong_69 : decode cJ35_toLong 69 = .ok (.iadd, 1) := dk_96 (dk_at dksJ35_toLong_2 21 rfl rfl)
theorem dJ35_toLong_70 : decode cJ35_toLong 70 = .ok (.iaload, 1) := dk_46 (dk_at dksJ35_toLong_2 22 rfl rfl)
theorem dJ35_toLong_71 : decode cJ35_toLong 71 = .ok (.i2l, 1) := dk_133 (dk_at dksJ35_toLong_2 23 rfl rfl)
theorem dJ35_toLong_72 : decode cJ35_toLong 72 = .ok (.ldc2_w 52, 3) := dk_20 0 52 (dk_at dksJ35_toLong_3 0 rfl rfl)
theorem dJ35_toLong_75 : decode cJ35_toLong 75 = .ok (.land, 1) := dk_127 (dk_at dksJ35_toLong_3 3 rfl rfl)
theorem dJ35_toLong_76 : decode cJ35_toLong 76 = .ok (.lor, 1) := dk_129 (dk_at dksJ35_toLong_3 4 rfl rfl)
theorem dJ35_toLong_77 : decode cJ35_toLong 77 = .ok (.goto 4, 3) := dk_167 0 4 (dk_at dksJ35_toLong_3 5 rfl rfl)
theorem dJ35_toLong_80 : decode cJ35_toLong 80 = .ok (.lload_n 1, 1) := dk_31 (dk_at dksJ35_toLong_3 8 rfl rfl)
theorem dJ35_toLong_81 : decode cJ35_toLong 81 = .ok (.lreturn, 1) := dk_173 (dk_at dksJ35_toLong_3 9 rfl rfl)
def dkwJ35_isOdd_1 : List UInt8 := [4, 100, 46, 4, 126, 4, 160, 0, 7, 4, 167, 0, 4, 3, 172]
abbrev dktJ35_isOdd_1 : List UInt8 := dkwJ35_isOdd_1 ++ []
def dkwJ35_isOdd_0 : List UInt8 := [42, 182, 0, 67, 153, 0, 7, 3, 167, 0, 30, 42, 180, 0, 17, 42, 180, 0, 11, 42, 180, 0, 21, 96]
abbrev dktJ35_isOdd_0 : List UInt8 := dkwJ35_isOdd_0 ++ dktJ35_isOdd_1
theorem dksJ35_isOdd_0 : cJ35_isOdd.data.toList.drop 0 = dktJ35_isOdd_0 := by decide +kernel
theorem dksJ35_isOdd_1 : cJ35_isOdd.data.toList.drop 24 = dktJ35_isOdd_1 := dk_seg dksJ35_isOdd_0 24 rfl rfl
theorem dJ35_isOdd_0 : decode cJ35_isOdd 0 = .ok (.aload_n 0, 1) := dk_42 (dk_at dksJ35_isOdd_0 0 rfl rfl)
theorem dJ35_isOdd_1 : decode cJ35_isOdd 1 = .ok (.invokevirtual 67, 3) := dk_182 0 67 (dk_at dksJ35_isOdd_0 1 rfl rfl)
theorem dJ35_isOdd_4 : decode cJ35_isOdd 4 = .ok (.ifCond .eq 7, 3) := dk_153 0 7 (dk_at dksJ35_isOdd_0 4 rfl rfl)
theorem dJ35_isOdd_7 : decode cJ35_isOdd 7 = .ok (.iconst 0, 1) := dk_3 (dk_at dksJ35_isOdd_0 7 rfl rfl)
theorem dJ35_isOdd_8 : decode cJ35_isOdd 8 = .ok (.goto 30, 3) := dk_167 0 30 (dk_at dksJ35_isOdd_0 8 rfl rfl)
theorem dJ35_isOdd_11 : decode cJ35_isOdd 11 = .ok (.aload_n 0, 1) := dk_42 (dk_at dksJ35_isOdd_0 11 rfl rfl)
theorem dJ35_isOdd_12 : decode cJ35_isOdd 12 = .ok (.getfield 17, 3) := dk_180 0 17 (dk_at dksJ35_isOdd_0 12 rfl rfl)
theorem dJ35_isOdd_15 : decode cJ35_isOdd 15 = .ok (.aload_n 0, 1) := dk_42 (dk_at dksJ35_isOdd_0 15 rfl rfl)
theorem dJ35_isOdd_16 : decode cJ35_isOdd 16 = .ok (.getfield 11, 3) := dk_180 0 11 (dk_at dksJ35_isOdd_0 16 rfl rfl)
theorem dJ35_isOdd_19 : decode cJ35_isOdd 19 = .ok (.aload_n 0, 1) := dk_42 (dk_at dksJ35_isOdd_0 19 rfl rfl)
theorem dJ35_isOdd_20 : decode cJ35_isOdd 20 = .ok (.getfield 21, 3) := dk_180 0 21 (dk_at dksJ35_isOdd_0 20 rfl rfl)
theorem dJ35_isOdd_23 : decode cJ35_isOdd 23 = .ok (.iadd, 1) := dk_96 (dk_at dksJ35_isOdd_0 23 rfl rfl)
theorem dJ35_isOdd_24 : decode cJ35_isOdd 24 = .ok (.iconst 1, 1) := dk_4 (dk_at dksJ35_isOdd_1 0 rfl rfl)
theorem dJ35_isOdd_25 : decode cJ35_isOdd 25 = .ok (.isub, 1) := dk_100 (dk_at dksJ35_isOdd_1 1 rfl rfl)
theorem dJ35_isOdd_26 : decode cJ35_isOdd 26 = .ok (.iaload, 1) := dk_46 (dk_at dksJ35_isOdd_1 2 rfl rfl)
theorem dJ35_isOdd_27 : decode cJ35_isOdd 27 = .ok (.iconst 1, 1) := dk_4 (dk_at dksJ35_isOdd_1 3 rfl rfl)
theorem dJ35_isOdd_28 : decode cJ35_isOdd 28 = .ok (.iand, 1) := dk_126 (dk_at dksJ35_isOdd_1 4 rfl rfl)
theorem dJ35_isOdd_29 : decode cJ35_isOdd 29 = .ok (.iconst 1, 1) := dk_4 (dk_at dksJ35_isOdd_1 5 rfl rfl)
theorem dJ35_isOdd_30 : decode cJ35_isOdd 30 = .ok (.if_icmp .ne 7, 3) := dk_160 0 7 (dk_at dksJ35_isOdd_1 6 rfl rfl)
theorem dJ35_isOdd_33 : decode cJ35_isOdd 33 = .ok (.iconst 1, 1) := dk_4 (dk_at dksJ35_isOdd_1 9 rfl rfl)
theorem dJ35_isOdd_34 : decode cJ35_isOdd 34 = .ok (.goto 4, 3) := dk_167 0 4 (dk_at dksJ35_isOdd_1 10 rfl rfl)
theorem dJ35_isOdd_37 : decode cJ35_isOdd 37 = .ok (.iconst 0, 1) := dk_3 (dk_at dksJ35_isOdd_1 13 rfl rfl)
theorem dJ35_isOdd_38 : decode cJ35_isOdd 38 = .ok (.ireturn, 1) := dk_172 (dk_at dksJ35_isOdd_1 14 rfl rfl)
def dkwJ35_isZero_0 : List UInt8 := [42, 180, 0, 21, 154, 0, 7, 4, 167, 0, 4, 3, 172]
abbrev dktJ35_isZero_0 : List UInt8 := dkwJ35_isZero_0 ++ []
theorem dksJ35_isZero_0 : cJ35_isZero.data.toList.drop 0 = dktJ35_isZero_0 := by decide +kernel
theorem dJ35_isZero_0 : decode cJ35_isZero 0 = .ok (.aload_n 0, 1) := dk_42 (dk_at dksJ35_isZero_0 0 rfl rfl)
theorem dJ35_isZero_1 : decode cJ35_isZero 1 = .ok (.getfield 21, 3) := dk_180 0 21 (dk_at dksJ35_isZero_0 1 rfl rfl)
theorem dJ35_isZero_4 : decode cJ35_isZero 4 = .ok (.ifCond .ne 7, 3) := dk_154 0 7 (dk_at dksJ35_isZero_0 4 rfl rfl)
theorem dJ35_isZero_7 : decode cJ35_isZero 7 = .ok (.iconst 1, 1) := dk_4 (dk_at dksJ35_isZero_0 7 rfl rfl)
theorem dJ35_isZero_8 : decode cJ35_isZero 8 = .ok (.goto 4, 3) := dk_167 0 4 (dk_at dksJ35_isZero_0 8 rfl rfl)
theorem dJ35_isZero_11 : decode cJ35_isZero 11 = .ok (.iconst 0, 1) := dk_3 (dk_at dksJ35_isZero_0 11 rfl rfl)
theorem dJ35_isZero_12 : decode cJ35_isZero 12 = .ok (.ireturn, 1) := dk_172 (dk_at dksJ35_isZero_0 12 rfl rfl)
def dkwJ35_getMagnitudeArray_2 : List UInt8 := [42, 3, 181, 0, 11, 42, 43, 190, 181, 0, 21, 42, 43, 181, 0, 17, 42, 180, 0, 17, 176]
abbrev dktJ35_getMagnitudeArray_2 : List UInt8 := dkwJ35_getMagnitudeArray_2 ++ []
def dkwJ35_getMagnitudeArray_1 : List UInt8 := [180, 0, 11, 42, 180, 0, 11, 42, 180, 0, 21, 96, 184, 0, 33, 76, 42, 180, 0, 17, 3, 184, 0, 37]
abbrev dktJ35_getMagnitudeArray_1 : List UInt8 := dkwJ35_getMagnitudeArray_1 ++ dktJ35_getMagnitudeArray_2
def dkwJ35_getMagnitudeArray_0 : List UInt8 := [42, 180, 0, 11, 157, 0, 15, 42, 180, 0, 17, 190, 42, 180, 0, 21, 159, 0, 48, 42, 180, 0, 17, 42]
abbrev dktJ35_getMagnitudeArray_0 : List UInt8 := dkwJ35_getMagnitudeArray_0 ++ dktJ35_getMagnitudeArray_1
theorem dksJ35_getMagnitudeArray_0 : cJ35_getMagnitudeArray.data.toList.drop 0 = dktJ35_getMagnitudeArray_0 := by decide +kernel
theorem dksJ35_getMagnitudeArray_1 : cJ35_getMagnitudeArray.data.toList.drop 24 = dktJ35_getMagnitudeArray_1 := dk_seg dksJ35_getMagnitudeArray_0 24 rfl rfl
theorem dksJ35_getMagnitudeArray_2 : cJ35_getMagnitudeArray.data.toList.drop 48 = dktJ35_getMagnitudeArray_2 := dk_seg dksJ35_getMagnitudeArray_1 24 rfl rfl
theorem dJ35_getMagnitudeArray_0 : decode cJ35_getMagnitudeArray 0 = .ok (.aload_n 0, 1) := dk_42 (dk_at dksJ35_getMagnitudeArray_0 0 rfl rfl)
theorem dJ35_getMagnitudeArray_1 : decode cJ35_getMagnitudeArray 1 = .ok (.getfield 11, 3) := dk_180 0 11 (dk_at dksJ35_getMagnitudeArray_0 1 rfl rfl)
theorem dJ35_getMagnitudeArray_4 : decode cJ35_getMagnitudeArray 4 = .ok (.ifCond .gt 15, 3) := dk_157 0 15 (dk_at dksJ35_getMagnitudeArray_0 4 rfl rfl)
theorem dJ35_getMagnitudeArray_7 : decode cJ35_getMagnitudeArray 7 = .ok (.aload_n 0, 1) := dk_42 (dk_at dksJ35_getMagnitudeArray_0 7 rfl rfl)
theorem dJ35_getMagnitudeArray_8 : decode cJ35_getMagnitudeArray 8 = .ok (.getfield 17, 3) := dk_180 0 17 (dk_at dksJ35_getMagnitudeArray_0 8 rfl rfl)
theorem dJ35_getMagnitudeArray_11 : decode cJ35_getMagnitudeArray 11 = .ok (.arraylength, 1) := dk_190 (dk_at dksJ35_getMagnitudeArray_0 11 rfl rfl)
theorem dJ35_getMagnitudeArray_12 : decode cJ35_getMagnitudeArray 12 = .ok (.aload_n 0, 1) := dk_42 (dk_at dksJ35_getMagnitudeArray_0 12 rfl rfl)
theorem dJ35_getMagnitudeArray_13 : decode cJ35_getMagnitudeArray 13 = .ok (.getfield 21, 3) := dk_180 0 21 (dk_at dksJ35_getMagnitudeArray_0 13 rfl rfl)
theorem dJ35_getMagnitudeArray_16 : decode cJ35_getMagnitudeArray 16 = .ok (.if_icmp .eq 48, 3) := dk_159 0 48 (dk_at dksJ35_getMagnitudeArray_0 16 rfl rfl)
theorem dJ35_getMagnitudeArray_19 : decode cJ35_getMagnitudeArray 19 = .ok (.aload_n 0, 1) := dk_42 (dk_at dksJ35_getMagnitudeArray_0 19 rfl rfl)
theorem dJ35_getMagnitudeArray_20 : decode cJ35_getMagnitudeArray 20 = .ok (.getfield 17, 3) := dk_180 0 17 (dk_at dksJ35_getMagnitudeArray_0 20 rfl rfl)
theorem dJ35_getMagnitudeArray_23 : decode cJ35_getMagnitudeArray 23 = .ok (.aload_n 0, 1) := dk_42 (dk_at dksJ35_getMagnitudeArray_0 23 rfl rfl)
theorem dJ35_getMagnitudeArray_24 : decode cJ35_getMagnitudeArray 24 = .ok (.getfield 11, 3) := dk_180 0 11 (dk_at dksJ35_getMagnitudeArray_1 0 rfl rfl)
theorem dJ35_getMagnitudeArray_27 : decode cJ35_getMagnitudeArray 27 = .ok (.aload_n 0, 1) := dk_42 (dk_at dksJ35_getMagnitudeArray_1 3 rfl rfl)
theorem dJ35_getMagnitudeArray_28 : decode cJ35_getMagnitudeArray 28 = .ok (.getfield 11, 3) := dk_180 0 11 (dk_at dksJ35_getMagnitudeArray_1 4 rfl rfl)
theorem dJ35_getMagnitudeArray_31 : decode cJ35_getMagnitudeArray 31 = .ok (.aload_n 0, 1) := dk_42 (dk_at dksJ35_getMagnitudeArray_1 7 rfl rfl)
theorem dJ35_getMagnitudeArray_32 : decode cJ35_getMagnitudeArray 32 = .ok (.getfield 21, 3) := dk_180 0 21 (dk_at dksJ35_getMagnitudeArray_1 8 rfl rfl)
theorem dJ35_getMagnitudeArray_35 : decode cJ35_getMagnitudeArray 35 = .ok (.iadd, 1) := dk_96 (dk_at dksJ35_getMagnitudeArray_1 11 rfl rfl)
theorem dJ35_getMagnitudeArray_36 : decode cJ35_getMagnitudeArray 36 = .ok (.invokestatic 33, 3) := dk_184 0 33 (dk_at dksJ35_getMagnitudeArray_1 12 rfl rfl)
theorem dJ35_getMagnitudeArray_39 : decode cJ35_getMagnitudeArray 39 = .ok (.astore_n 1, 1) := dk_76 (dk_at dksJ35_getMagnitudeArray_1 15 rfl rfl)
theorem dJ35_getMagnitudeArray_40 : decode cJ35_getMagnitudeArray 40 = .ok (.aload_n 0, 1) := dk_42 (dk_at dksJ35_getMagnitudeArray_1 16 rfl rfl)
theorem dJ35_getMagnitudeArray_41 : decode cJ35_getMagnitudeArray 41 = .ok (.getfield 17, 3) := dk_180 0 17 (dk_at dksJ35_getMagnitudeArray_1 17 rfl rfl)
theorem dJ35_getMagnitudeArray_44 : decode cJ35_getMagnitudeArray 44 = .ok (.iconst 0, 1) := dk_3 (dk_at dksJ35_getMagnitudeArray_1 20 rfl rfl)
theorem dJ35_getMagnitudeArray_45 : decode cJ35_getMagnitudeArray 45 = .ok (.invokestatic 37, 3) := dk_184 0 37 (dk_at dksJ35_getMagnitudeArray_1 21 rfl rfl)
theorem dJ35_getMagnitudeArray_48 : decode cJ35_getMagnitudeArray 48 = .ok (.aload_n 0, 1) := dk_42 (dk_at dksJ35_getMagnitudeArray_2 0 rfl rfl)
theorem dJ35_getMagnitudeArray_49 : decode cJ35_getMagnitudeArray 49 = .ok (.iconst 0, 1) := dk_3 (dk_at dksJ35_getMagnitudeArray_2 1 rfl rfl)
theorem dJ35_getMagnitudeArray_50 : decode cJ35_getMagnitudeArray 50 = .ok (.putfield 11, 3) := dk_181 0 11 (dk_at dksJ35_getMagnitudeArray_2 2 rfl rfl)
theorem dJ35_getMagnitudeArray_53 : decode cJ35_getMagnitudeArray 53 = .ok (.aload_n 0, 1) := dk_42 (dk_at dksJ35_getMagnitudeArray_2 5 rfl rfl)
theorem dJ35_getMagnitudeArray_54 : decode cJ35_getMagnitudeArray 54 = .ok (.aload_n 1, 1) := dk_43 (dk_at dksJ35_getMagnitudeArray_2 6 rfl rfl)
theorem dJ35_getMagnitudeArray_55 : decode cJ35_getMagnitudeArray 55 = .ok (.arraylength, 1) := dk_190 (dk_at dksJ35_getMagnitudeArray_2 7 rfl rfl)
theorem dJ35_getMagnitudeArray_56 : decode cJ35_getMagnitudeArray 56 = .ok (.putfield 21, 3) := dk_181 0 21 (dk_at dksJ35_getMagnitudeArray_2 8 rfl rfl)
theorem dJ35_getMagnitudeArray_59 : decode cJ35_getMagnitudeArray 59 = .ok (.aload_n 0, 1) := dk_42 (dk_at dksJ35_getMagnitudeArray_2 11 rfl rfl)
theorem dJ35_getMagnitudeArray_60 : decode cJ35_getMagnitudeArray 60 = .ok (.aload_n 1, 1) := dk_43 (dk_at dksJ35_getMagnitudeArray_2 12 rfl rfl)
theorem dJ35_getMagnitudeArray_61 : decode cJ35_getMagnitudeArray 61 = .ok (.putfield 17, 3) := dk_181 0 17 (dk_at dksJ35_getMagnitudeArray_2 13 rfl rfl)
theorem dJ35_getMagnitudeArray_64 : decode cJ35_getMagnitudeArray 64 = .ok (.aload_n 0, 1) := dk_42 (dk_at dksJ35_getMagnitudeArray_2 16 rfl rfl)
theorem dJ35_getMagnitudeArray_65 : decode cJ35_getMagnitudeArray 65 = .ok (.getfield 17, 3) := dk_180 0 17 (dk_at dksJ35_getMagnitudeArray_2 17 rfl rfl)
theorem dJ35_getMagnitudeArray_68 : decode cJ35_getMagnitudeArray 68 = .ok (.areturn, 1) := dk_176 (dk_at dksJ35_getMagnitudeArray_2 20 rfl rfl)
def dkwJ35_toBigDecimal_5 : List UInt8 := [22, 6, 28, 184, 0, 84, 176]
abbrev dktJ35_toBigDecimal_5 : List UInt8 := dkwJ35_toBigDecimal_5 ++ []
def dkwJ35_toBigDecimal_4 : List UInt8 := [167, 0, 10, 21, 5, 133, 20, 0, 52, 127, 55, 6, 27, 2, 160, 0, 9, 22, 6, 117, 167, 0, 5]
abbrev dktJ35_toBigDecimal_4 : List UInt8 := dkwJ35_toBigDecimal_4 ++ dktJ35_toBigDecimal_5
def dkwJ35_toBigDecimal_3 : List UInt8 := [5, 160, 0, 25, 45, 4, 46, 133, 20, 0, 52, 127, 21, 5, 133, 20, 0, 52, 127, 16, 32, 121, 129]
abbrev dktJ35_toBigDecimal_3 : List UInt8 := dkwJ35_toBigDecimal_3 ++ dktJ35_toBigDecimal_4
def dkwJ35_toBigDecimal_2 : List UInt8 := [187, 0, 3, 89, 187, 0, 1, 89, 45, 27, 183, 0, 62, 20, 0, 79, 28, 3, 183, 0, 81, 176, 21, 4]
abbrev dktJ35_toBigDecimal_2 : List UInt8 := dkwJ35_toBigDecimal_2 ++ dktJ35_toBigDecimal_3
def dkwJ35_toBigDecimal_1 : List UInt8 := [54, 4, 45, 3, 46, 54, 5, 21, 4, 5, 163, 0, 14, 21, 5, 156, 0, 31, 21, 4, 5, 160, 0, 25]
abbrev dktJ35_toBigDecimal_1 : List UInt8 := dkwJ35_toBigDecimal_1 ++ dktJ35_toBigDecimal_2
def dkwJ35_toBigDecimal_0 : List UInt8 := [42, 180, 0, 21, 153, 0, 7, 27, 154, 0, 8, 28, 184, 0, 75, 176, 42, 182, 0, 58, 78, 45, 190]
abbrev dktJ35_toBigDecimal_0 : List UInt8 := dkwJ35_toBigDecimal_0 ++ dktJ35_toBigDecimal_1
theorem dksJ35_toBigDecimal_0 : cJ35_toBigDecimal.data.toList.drop 0 = dktJ35_toBigDecimal_0 := by decide +kernel
theorem dksJ35_toBigDecimal_1 : cJ35_toBigDecimal.data.toList.drop 23 = dktJ35_toBigDecimal_1 := dk_seg dksJ35_toBigDecimal_0 23 rfl rfl
theorem dksJ35_toBigDecimal_2 : cJ35_toBigDecimal.data.toList.drop 47 = dktJ35_toBigDecimal_2 := dk_seg dksJ35_toBigDecimal_1 24 rfl rfl
theorem dksJ35_toBigDecimal_3 : cJ35_toBigDecimal.data.toList.drop 71 = dktJ35_toBigDecimal_3 := dk_seg dksJ35_toBigDecimal_2 24 rfl rfl
theorem dksJ35_toBigDecimal_4 : cJ35_toBigDecimal.data.toList.drop 94 = dktJ35_toBigDecimal_4 := dk_seg dksJ35_toBigDecimal_3 23 rfl rfl
theorem dksJ35_toBigDecimal_5 : cJ35_toBigDecimal.data.toList.drop 117 = dktJ35_toBigDecimal_5 := dk_seg dksJ35_toBigDecimal_4 23 rfl rfl
theorem dJ35_toBigDecimal_0 : decode cJ35_toBigDecimal 0 = .ok (.aload_n 0, 1) := dk_42 (dk_at dksJ35_toBigDecimal_0 0 rfl rfl)
theorem dJ35_toBigDecimal_1 : decode cJ35_toBigDecimal 1 = .ok (.getfield 21, 3) := dk_180 0 21 (dk_at dksJ35_toBigDecimal_0 1 rfl rfl)
theorem dJ35_toBigDecimal_4 : decode cJ35_toBigDecimal 4 = .ok (.ifCond .eq 7, 3) := dk_153 0 7 (dk_at dksJ35_toBigDecimal_0 4 rfl rfl)
theorem dJ35_toBigDecimal_7 : decode cJ35_toBigDecimal 7 = .ok (.iload_n 1, 1) := dk_27 (dk_at dksJ35_toBigDecimal_0 7 rfl rfl)
theorem dJ35_toBigDecimal_8 : decode cJ35_toBigDecimal 8 = .ok (.ifCond .ne 8, 3) := dk_154 0 8 (dk_at dksJ35_toBigDecimal_0 8 rfl rfl)
theorem dJ35_toBigDecimal_11 : decode cJ35_toBigDecimal 11 = .ok (.iload_n 2, 1) := dk_28 (dk_at dksJ35_toBigDecimal_0 11 rfl rfl)
theorem dJ35_toBigDecimal_12 : decode cJ35_toBigDecimal 12 = .ok (.invokestatic 75, 3) := dk_184 0 75 (dk_at dksJ35_toBigDecimal_0 12 rfl rfl)
theorem dJ35_toBigDecimal_15 : decode cJ35_toBigDecimal 15 = .ok (.areturn, 1) := dk_176 (dk_at dksJ35_toBigDecimal_0 15 rfl rfl)
theorem dJ35_toBigDecimal_16 : decode cJ35_toBigDecimal 16 = .ok (.aload_n 0, 1) := dk_42 (dk_at dksJ35_toBigDecimal_0 16 rfl rfl)
theorem dJ35_toBigDecimal_17 : decode cJ35_toBigDecimal 17 = .ok (.invokevirtual 58, 3) := dk_182 0 58 (dk_at dksJ35_toBigDecimal_0 17 rfl rfl)
theorem dJ35_toBigDecimal_20 : decode cJ35_toBigDecimal 20 = .ok (.astore_n 3, 1) := dk_78 (dk_at dksJ35_toBigDecimal_0 20 rfl rfl)
theorem dJ35_toBigDecimal_21 : decode cJ35_toBigDecimal 21 = .ok (.aload_n 3, 1) := dk_45 (dk_at dksJ35_toBigDecimal_0 21 rfl rfl)
theorem dJ35_toBigDecimal_22 : decode cJ35_toBigDecimal 22 = .ok (.arraylength, 1) := dk_190 (dk_at dksJ35_toBigDecimal_0 22 rfl rfl)
theorem dJ35_toBigDecimal_23 : decode cJ35_toBigDecimal 23 = .ok (.istore 4, 2) := dk_54 4 (dk_at dksJ35_toBigDecimal_1 0 rfl rfl)
theorem dJ35_toBigDecimal_25 : decode cJ35_toBigDecimal 25 = .ok (.aload_n 3, 1) := dk_45 (dk_at dksJ35_toBigDecimal_1 2 rfl rfl)
theorem dJ35_toBigDecimal_26 : decode cJ35_toBigDecimal 26 = .ok (.iconst 0, 1) := dk_3 (dk_at dksJ35_toBigDecimal_1 3 rfl rfl)
theorem dJ35_toBigDecimal_27 : decode cJ35_toBigDecimal 27 = .ok (.iaload, 1) := dk_46 (dk_at dksJ35_toBigDecimal_1 4 rfl rfl)
theorem dJ35_toBigDecimal_28 : decode cJ35_toBigDecimal 28 = .ok (.istore 5, 2) := dk_54 5 (dk_at dksJ35_toBigDecimal_1 5 rfl rfl)
theorem dJ35_toBigDecimal_30 : decode cJ35_toBigDecimal 30 = .ok (.iload 4, 2) := dk_21 4 (dk_at dksJ35_toBigDecimal_1 7 rfl rfl)
theorem dJ35_toBigDecimal_32 : decode cJ35_toBigDecimal 32 = .ok (.iconst 2, 1) := dk_5 (dk_at dksJ35_toBigDecimal_1 9 rfl rfl)
theorem dJ35_toBigDecimal_33 : decode cJ35_toBigDecimal 33 = .ok (.if_icmp .gt 14, 3) := dk_163 0 14 (dk_at dksJ35_toBigDecimal_1 10 rfl rfl)
theorem dJ35_toBigDecimal_36 : decode cJ35_toBigDecimal 36 = .ok (.iload 5, 2) := dk_21 5 (dk_at dksJ35_toBigDecimal_1 13 rfl rfl)
theorem dJ35_toBigDecimal_38 : decode cJ35_toBigDecimal 38 = .ok (.ifCond .ge 31, 3) := dk_156 0 31 (dk_at dksJ35_toBigDecimal_1 15 rfl rfl)
theorem dJ35_toBigDecimal_41 : decode cJ35_toBigDecimal 41 = .ok (.iload 4, 2) := dk_21 4 (dk_at dksJ35_toBigDecimal_1 18 rfl rfl)
theorem dJ35_toBigDecimal_43 : decode cJ35_toBigDecimal 43 = .ok (.iconst 2, 1) := dk_5 (dk_at dksJ35_toBigDecimal_1 20 rfl rfl)
theorem dJ35_toBigDecimal_44 : decode cJ35_toBigDecimal 44 = .ok (.if_icmp .ne 25, 3) := dk_160 0 25 (dk_at dksJ35_toBigDecimal_1 21 rfl rfl)
theorem dJ35_toBigDecimal_47 : decode cJ35_toBigDecimal 47 = .ok (.new 3, 3) := dk_187 0 3 (dk_at dksJ35_toBigDecimal_2 0 rfl rfl)
theorem dJ35_toBigDecimal_50 : decode cJ35_toBigDecimal 50 = .ok (.dup, 1) := dk_89 (dk_at dksJ35_toBigDecimal_2 3 rfl rfl)
theorem dJ35_toBigDecimal_51 : decode cJ35_toBigDecimal 51 = .ok (.new 1, 3) := dk_187 0 1 (dk_at dksJ35_toBigDecimal_2 4 rfl rfl)
theorem dJ35_toBigDecimal_54 : decode cJ35_toBigDecimal 54 = .ok (.dup, 1) := dk_89 (dk_at dksJ35_toBigDecimal_2 7 rfl rfl)
theorem dJ35_toBigDecimal_55 : decode cJ35_toBigDecimal 55 = .ok (.aload_n 3, 1) := dk_45 (dk_at dksJ35_toBigDecimal_2 8 rfl rfl)
theorem dJ35_toBigDecimal_56 : decode cJ35_toBigDecimal 56 = .ok (.iload_n 1, 1) := dk_27 (dk_at dksJ35_toBigDecimal_2 9 rfl rfl)
theorem dJ35_toBigDecimal_57 : decode cJ35_toBigDecimal 57 = .ok (.invokespecial 62, 3) := dk_183 0 62 (dk_at dksJ35_toBigDecimal_2 10 rfl rfl)
theorem dJ35_toBigDecimal_60 : decode cJ35_toBigDecimal 60 = .ok (.ldc2_w 79, 3) := dk_20 0 79 (dk_at dksJ35_toBigDecimal_2 13 rfl rfl)
theorem dJ35_toBigDecimal_63 : decode cJ35_toBigDecimal 63 = .ok (.iload_n 2, 1) := dk_28 (dk_at dksJ35_toBigDecimal_2 16 rfl rfl)
theorem dJ35_toBigDecimal_64 : decode cJ35_toBigDecimal 64 = .ok (.iconst 0, 1) := dk_3 (dk_at dksJ35_toBigDecimal_2 17 rfl rfl)
theorem dJ35_toBigDecimal_65 : decode cJ35_toBigDecimal 65 = .ok (.invokespecial 81, 3) := dk_183 0 81 (dk_at dksJ35_toBigDecimal_2 18 rfl rfl)
theorem dJ35_toBigDecimal_68 : decode cJ35_toBigDecimal 68 = .ok (.areturn, 1) := dk_176 (dk_at dksJ35_toBigDecimal_2 21 rfl rfl)
theorem dJ35_toBigDecimal_69 : decode cJ35_toBigDecimal 69 = .ok (.iload 4, 2) := dk_21 4 (dk_at dksJ35_toBigDecimal_2 22 rfl rfl)
theorem dJ35_toBigDecimal_71 : decode cJ35_toBigDecimal 71 = .ok (.iconst 2, 1) := dk_5 (dk_at dksJ35_toBigDecimal_3 0 rfl rfl)
theorem dJ35_toBigDecimal_72 : decode cJ35_toBigDecimal 72 = .ok (.if_icmp .ne 25, 3) := dk_160 0 25 (dk_at dksJ35_toBigDecimal_3 1 rfl rfl)
theorem dJ35_toBigDecimal_75 : decode cJ35_toBigDecimal 75 = .ok (.aload_n 3, 1) := dk_45 (dk_at dksJ35_toBigDecimal_3 4 rfl rfl)
theorem dJ35_toBigDecimal_76 : decode cJ35_toBigDecimal 76 = .ok (.iconst 1, 1) := dk_4 (dk_at dksJ35_toBigDecimal_3 5 rfl rfl)
theorem dJ35_toBigDecimal_77 : decode cJ35_toBigDecimal 77 = .ok (.iaload, 1) := dk_46 (dk_at dksJ35_toBigDecimal_3 6 rfl rfl)
theorem dJ35_toBigDecimal_78 : decode cJ35_toBigDecimal 78 = .ok (.i2l, 1) := dk_133 (dk_at dksJ35_toBigDecimal_3 7 rfl rfl)
theorem dJ35_toBigDecimal_79 : decode cJ35_toBigDecimal 79 = .ok (.ldc2_w 52, 3) := dk_20 0 52 (dk_at dksJ35_toBigDecimal_3 8 rfl rfl)
theorem dJ35_toBigDecimal_82 : decode cJ35_toBigDecimal 82 = .ok (.land, 1) := dk_127 (dk_at dksJ35_toBigDecimal_3 11 rfl rfl)
theorem dJ35_toBigDecimal_83 : decode cJ35_toBigDecimal 83 = .ok (.iload 5, 2) := dk_21 5 (dk_at dksJ35_toBigDecimal_3 12 rfl rfl)
theorem dJ35_toBigDecimal_85 : decode cJ35_toBigDecimal 85 = .ok (.i2l, 1) := dk_133 (dk_at dksJ35_toBigDecimal_3 14 rfl rfl)
theorem dJ35_toBigDecimal_86 : decode cJ35_toBigDecimal 86 = .ok (.ldc2_w 52, 3) := dk_20 0 52 (dk_at dksJ35_toBigDecimal_3 15 rfl rfl)
theorem dJ35_toBigDecimal_89 : decode cJ35_toBigDecimal 89 = .ok (.land, 1) := dk_127 (dk_at dksJ35_toBigDecimal_3 18 rfl rfl)
theorem dJ35_toBigDecimal_90 : decode cJ35_toBigDecimal 90 = .ok (.bipush 32, 2) := dk_16 32 (dk_at dksJ35_toBigDecimal_3 19 rfl rfl)
theorem dJ35_toBigDecimal_92 : decode cJ35_toBigDecimal 92 = .ok (.lshl, 1) := dk_121 (dk_at dksJ35_toBigDecimal_3 21 rfl rfl)
theorem dJ35_toBigDecimal_93 : decode cJ35_toBigDecimal 93 = .ok (.lor, 1) := dk_129 (dk_at dksJ35_toBigDecimal_3 22 rfl rfl)
theorem dJ35_toBigDecimal_94 : decode cJ35_toBigDecimal 94 = .ok (.goto 10, 3) := dk_167 0 10 (dk_at dksJ35_toBigDecimal_4 0 rfl rfl)
theorem dJ35_toBigDecimal_97 : decode cJ35_toBigDecimal 97 = .ok (.iload 5, 2) := dk_21 5 (dk_at dksJ35_toBigDecimal_4 3 rfl rfl)
theorem dJ35_toBigDecimal_99 : decode cJ35_toBigDecimal 99 = .ok (.i2l, 1) := dk_133 (dk_at dksJ35_toBigDecimal_4 5 rfl rfl)
theorem dJ35_toBigDecimal_100 : decode cJ35_toBigDecimal 100 = .ok (.ldc2_w 52, 3) := dk_20 0 52 (dk_at dksJ35_toBigDecimal_4 6 rfl rfl)
theorem dJ35_toBigDecimal_103 : decode cJ35_toBigDecimal 103 = .ok (.land, 1) := dk_127 (dk_at dksJ35_toBigDecimal_4 9 rfl rfl)
theorem dJ35_toBigDecimal_104 : decode cJ35_toBigDecimal 104 = .ok (.lstore 6, 2) := dk_55 6 (dk_at dksJ35_toBigDecimal_4 10 rfl rfl)
theorem dJ35_toBigDecimal_106 : decode cJ35_toBigDecimal 106 = .ok (.iload_n 1, 1) := dk_27 (dk_at dksJ35_toBigDecimal_4 12 rfl rfl)
theorem dJ35_toBigDecimal_107 : decode cJ35_toBigDecimal 107 = .ok (.iconst (-1), 1) := dk_2 (dk_at dksJ35_toBigDecimal_4 13 rfl rfl)
theorem dJ35_toBigDecimal_108 : decode cJ35_toBigDecimal 108 = .ok (.if_icmp .ne 9, 3) := dk_160 0 9 (dk_at dksJ35_toBigDecimal_4 14 rfl rfl)
theorem dJ35_toBigDecimal_111 : decode cJ35_toBigDecimal 111 = .ok (.lload 6, 2) := dk_22 6 (dk_at dksJ35_toBigDecimal_4 17 rfl rfl)
theorem dJ35_toBigDecimal_113 : decode cJ35_toBigDecimal 113 = .ok (.lneg, 1) := dk_117 (dk_at dksJ35_toBigDecimal_4 19 rfl rfl)
theorem dJ35_toBigDecimal_114 : decode cJ35_toBigDecimal 114 = .ok (.goto 5, 3) := dk_167 0 5 (dk_at dksJ35_toBigDecimal_4 20 rfl rfl)
theorem dJ35_toBigDecimal_117 : decode cJ35_toBigDecimal 117 = .ok (.lload 6, 2) := dk_22 6 (dk_at dksJ35_toBigDecimal_5 0 rfl rfl)
theorem dJ35_toBigDecimal_119 : decode cJ35_toBigDecimal 119 = .ok (.iload_n 2, 1) := dk_28 (dk_at dksJ35_toBigDecimal_5 2 rfl rfl)
theorem dJ35_toBigDecimal_120 : decode cJ35_toBigDecimal 120 = .ok (.invokestatic 84, 3) := dk_184 0 84 (dk_at dksJ35_toBigDecimal_5 3 rfl rfl)
theorem dJ35_toBigDecimal_123 : decode cJ35_toBigDecimal 123 = .ok (.areturn, 1) := dk_176 (dk_at dksJ35_toBigDecimal_5 6 rfl rfl)
/-- what n words from the place o on are worth -/
def mw (f : Nat → Nat) (o n : Nat) : Nat := wv (fun j => f (o + j)) n
theorem mw_0 (f : Nat → Nat) (n : Nat) : mw f 0 n = wv f n := wv_cong fun j _ => by rw [Nat.zero_add]
theorem wv_odd {f : Nat → Nat} {n : Nat} (h : 0 < n) : wv f n % 2 = f (n - 1) % 2 := by
  obtain ⟨k, rfl⟩ : ∃ k, n = k + 1 := ⟨n - 1, by omega⟩
  rw [wv_s]; simp only [Nat.add_sub_cancel]; omega
theorem mw_drop {f : Nat → Nat} {o n k : Nat} (hz : ∀ j, j < k → f (o + j) = 0) (hk : k ≤ n) : mw f (o + k) (n - k) = mw f o n := by
  have e := wv_drop (f := fun j => f (o + j)) (k := k) (n := n) hz hk
  unfold mw
  rw [← e]
  exact wv_cong fun j _ => by congr 1; omega
/-- a word less a product: what stays, what is carried -/
theorem ms_step {q p w c : Nat} (hq : q < 4294967296) (hw : w = (q + 4294967296 - p % 4294967296) % 4294967296) (hc : c = p / 4294967296 + (if 4294967295 - p % 4294967296 < w then 1 else 0)) : q + c * 4294967296 = p + w ∧ w < 4294967296 := by
  split at hc <;> omega
theorem ms_2 {r1 r2 dh dl x w1 w2 c1 c2 p1 p2 : Nat} (h1 : p1 = dl * x) (h2 : r2 + c1 * 4294967296 = p1 + w2) (h3 : p2 = dh * x + c1) (h4 : r1 + c2 * 4294967296 = p2 + w1) : r1 * 4294967296 + r2 + c2 * 18446744073709551616 = (dh * 4294967296 + dl) * x + (w1 * 4294967296 + w2) := by
  have e : (dh * 4294967296 + dl) * x = dh * x * 4294967296 + dl * x := by rw [Nat.add_mul, Nat.mul_assoc, Nat.mul_comm 4294967296, ← Nat.mul_assoc]
  rw [e]; omega
theorem ms_c {p w : Nat} (hp : p ≤ 18446744065119617025 + 4294967295) : p / 4294967296 + (if 4294967295 - p % 4294967296 < w then 1 else 0) ≤ 4294967296 := by split <;> omega
theorem dw_a {x d : Nat} (hx : x < 18446744073709551616) (hx2 : 9223372036854775808 ≤ x) (hq : x / d < 4294967296) (hd : 0 < d ∧ d < 4294967296) : 2147483648 ≤ d := by
  rcases Nat.lt_or_ge d 2147483648 with c | c
  · rcases Nat.eq_zero_or_pos d with e | e
    · subst e; omega
    · have h1 := Nat.div_add_mod x d
      have h2 := Nat.mod_lt x e
      have h3 : d * (x / d) ≤ 2147483647 * 4294967295 := Nat.mul_le_mul (by omega) (by omega)
      omega
  · exact c
theorem dw_0 {x d : Nat} (hx : x < 18446744073709551616) (hd : 2147483648 ≤ d) (hd2 : d < 4294967296) : ∃ r : Int, (x : Int) - ((x / 2 / (d / 2) : Nat) : Int) * (d : Int) = r ∧ -8589934592 ≤ r ∧ r < d ∧ (x / 2 / (d / 2) : Nat) ≤ 8589934592 := by
  have h1 := Nat.div_add_mod (x / 2) (d / 2)
  have h2 := Nat.mod_lt (x / 2) (show 0 < d / 2 by omega)
  have h3 : x / 2 / (d / 2) ≤ 8589934592 := by
    have h4 : x / 2 / (d / 2) ≤ x / 2 / 1073741824 := Nat.div_le_div_left (by omega) (by decide)
    omega
  generalize hq : x / 2 / (d / 2) = q at *
  refine ⟨_, rfl, ?_⟩
  rw [← Int.natCast_mul]
  have h5 : q * d = 2 * (d / 2 * q) + q * (d % 2) := by
    have e : d = 2 * (d / 2) + d % 2 := by omega
    calc q * d = q * (2 * (d / 2) + d % 2) := by rw [← e]
      _ = 2 * (d / 2 * q) + q * (d % 2) := by rw [Nat.mul_add, ← Nat.mul_assoc, Nat.mul_comm q 2, Nat.mul_assoc, Nat.mul_comm q (d / 2)]
  rcases (show d % 2 = 0 ∨ d % 2 = 1 by omega) with e | e <;> rw [e] at h5 <;> omega
theorem dw_end {x d : Nat} {q r : Int} (h : (x : Int) = q * d + r) (h0 : 0 ≤ r) (h1 : r < d) : q = ((x / d : Nat) : Int) ∧ r = ((x % d : Nat) : Int) := by
  rw [Int.natCast_ediv, Int.natCast_emod, h]
  have hd : (0 : Int) < d := by omega
  rw [Int.add_comm, Int.add_mul_ediv_right _ _ (by omega), Int.add_mul_emod_self_right, Int.ediv_eq_zero_of_lt h0 h1, Int.emod_eq_of_lt h0 h1]
  omega
theorem dw_q {x d : Nat} {q r : Int} (hx : x < 18446744073709551616) (hd : 2147483648 ≤ d) (h : (x : Int) = q * d + r) (hr : -1000000000000 ≤ r ∧ r ≤ 1000000000000) : -1000000000000 ≤ q ∧ q ≤ 1000000000000 := by
  constructor
  · rcases Int.lt_or_le q (-1000000000000) with c | c
    · have h1 : q * d ≤ -1000000000000 * d := Int.mul_le_mul_of_nonneg_right (by omega) (by omega)
      omega
    · exact c
  · rcases Int.lt_or_le 1000000000000 q with c | c
    · have h1 : 1000000000000 * (d : Int) ≤ q * d := Int.mul_le_mul_of_nonneg_right (by omega) (by omega)
      omega
    · exact c
theorem dw_p {x d q r : Int} (h : x = q * d + r) : x = (q - 1) * d + (r + d) ∧ x = (q + 1) * d + (r - d) := by
  rw [Int.sub_mul, Int.add_mul, Int.one_mul]; omega
set_option maxRecDepth 100000 in
set_option maxHeartbeats 16000000 in
theorem ct_J35_init_o {g : GG} {l : Launch} (q : Nat) (a : Nat) (n : Nat) (f : Nat → Nat)  : Ct g l yJ35_init (ws_ yJ35_init cJ35_init 2 (Option.none : Option Jvm.ClassFile.FieldType)) 1 12 0 0 [.ref q, .ref a] [ob g q 19 [.null, .int (jI 0), .int (jI 0)], aN g 0 a n f] (fun v9 Ws9 => v9 = none ∧ Ws9 = [ob g q 19 [.ref a, .int (jI (↑n)), .int (jI 0)], aN g 0 a n f]) (nox) := by
  refine Ct.of (cc := cJ35_init) (nL := 2) (ret := (Option.none : Option Jvm.ClassFile.FieldType)) (by decide) rfl (Nat.le_of_ble_eq_true rfl) ?_
  intro x hg hl hPo hPx hmc hms F
  subst hg; subst hl
  refine SW.cast (L' := [(0, .ref q), (1, .ref a)]) ?_ rfl rfl rfl
  refine sw_aload_n (n := 1) F 0 (some q) rfl rfl rfl dJ35_init_0 rfl ?_
  refine sw_objInit (n := 4) F q1835 q_oi q_oc (by decide) dJ35_init_1 rfl ?_
  refine sw_aload_n (n := 5) F 0 (some q) rfl rfl rfl dJ35_init_4 rfl ?_
  refine sw_iconst (n := 6) F (0) (by decide) dJ35_init_5 rfl ?_
  refine sw_put (n := 9) F 0 rfl (k := 2) ⟨(RJ35, TJ35, 3), rfl, by decide, q1838, in_J35, Or.inl rfl⟩ .int ⟨(RJ35, TJ35, 3), rfl, rfl, tyJ35_ok 2 (by decide), nmJ35, tyJ35, tyJ35_ok⟩ rfl rfl (Nat.le_of_ble_eq_true rfl) rfl [ob (xg x) q 19 [.null, .int (jI 0), .int (jI 0)], aN (xg x) 0 a n f] rfl dJ35_init_6 rfl ?_
  refine sw_aload_n (n := 10) F 0 (some q) rfl rfl rfl dJ35_init_9 rfl ?_
  refine sw_aload_n (n := 11) F 1 (some a) rfl rfl rfl dJ35_init_10 rfl ?_
  refine sw_put (n := 14) F 0 rfl (k := 0) ⟨(RJ35, TJ35, 3), rfl, by decide, q1836, in_J35, Or.inl rfl⟩ (tyJ35 0) ⟨(RJ35, TJ35, 3), rfl, rfl, tyJ35_ok 0 (by decide), nmJ35, tyJ35, tyJ35_ok⟩ rfl rfl (Nat.le_of_ble_eq_true rfl) rfl [ob (xg x) q 19 [.ref a, .int (jI 0), .int (jI 0)], aN (xg x) 0 a n f] rfl dJ35_init_11 rfl ?_
  refine sw_aload_n (n := 15) F 0 (some q) rfl rfl rfl dJ35_init_14 rfl ?_
  refine sw_aload_n (n := 16) F 1 (some a) rfl rfl rfl dJ35_init_15 rfl ?_
  refine sw_alen (n := 17) F 1 rfl (fun _ => rfl) dJ35_init_16 rfl ?_
  refine sw_put (n := 20) F 0 rfl (k := 1) ⟨(RJ35, TJ35, 3), rfl, by decide, q1837, in_J35, Or.inl rfl⟩ .int ⟨(RJ35, TJ35, 3), rfl, rfl, tyJ35_ok 1 (by decide), nmJ35, tyJ35, tyJ35_ok⟩ rfl rfl (Nat.le_of_ble_eq_true rfl) rfl [ob (xg x) q 19 [.ref a, .int (jI (↑n)), .int (jI 0)], aN (xg x) 0 a n f] rfl dJ35_init_17 rfl ?_
  exact sw_vret F rfl dJ35_init_20 (by rw [hPo]; exact ⟨rfl, rfl⟩)
theorem nd_J35_init : yJ35_init.cls ≠ "java/lang/invoke/MethodHandle" ∧ yJ35_init.cls ≠ "java/lang/invoke/VarHandle" ∧ (parseMethodDescriptor yJ35_init.desc).map (fun d => d.parameters.length) = some 1 := by decide +kernel
set_option maxRecDepth 100000 in
set_option maxHeartbeats 16000000 in
theorem ct_J35_init {g : GG} {l : Launch} (M : Nat → Option PV) (q : Nat) (a : Nat) (n : Nat) (f : Nat → Nat) (hx : at_ g M a (vA n f)) : Ct g l yJ35_init (ws_ yJ35_init cJ35_init 2 (Option.none : Option Jvm.ClassFile.FieldType)) 1 12 0 0 [.ref q, .ref a] [ob g q 19 [.null, .int (jI 0), .int (jI 0)], pl g M] (fun v9 Ws9 => v9 = none ∧ Ws9 = [ob g q 19 [.ref a, .int (jI (↑n)), .int (jI 0)], pl g M]) (nox) := by
  refine Ct.of (cc := cJ35_init) (nL := 2) (ret := (Option.none : Option Jvm.ClassFile.FieldType)) (by decide) rfl (Nat.le_of_ble_eq_true rfl) ?_
  intro x hg hl hPo hPx hmc hms F
  subst hg; subst hl
  refine SW.cast (L' := [(0, .ref q), (1, .ref a)]) ?_ rfl rfl rfl
  refine sw_aload_n (n := 1) F 0 (some q) rfl rfl rfl dJ35_init_0 rfl ?_
  refine sw_objInit (n := 4) F q1835 q_oi q_oc (by decide) dJ35_init_1 rfl ?_
  refine sw_aload_n (n := 5) F 0 (some q) rfl rfl rfl dJ35_init_4 rfl ?_
  refine sw_iconst (n := 6) F (0) (by decide) dJ35_init_5 rfl ?_
  refine sw_put (n := 9) F 0 rfl (k := 2) ⟨(RJ35, TJ35, 3), rfl, by decide, q1838, in_J35, Or.inl rfl⟩ .int ⟨(RJ35, TJ35, 3), rfl, rfl, tyJ35_ok 2 (by decide), nmJ35, tyJ35, tyJ35_ok⟩ rfl rfl (Nat.le_of_ble_eq_true rfl) rfl [ob (xg x) q 19 [.null, .int (jI 0), .int (jI 0)], pl (xg x) M] rfl dJ35_init_6 rfl ?_
  refine sw_aload_n (n := 10) F 0 (some q) rfl rfl rfl dJ35_init_9 rfl ?_
  refine sw_aload_n (n := 11) F 1 (some a) rfl rfl rfl dJ35_init_10 rfl ?_
  refine sw_put (n := 14) F 0 rfl (k := 0) ⟨(RJ35, TJ35, 3), rfl, by decide, q1836, in_J35, Or.inl rfl⟩ (tyJ35 0) ⟨(RJ35, TJ35, 3), rfl, rfl, tyJ35_ok 0 (by decide), nmJ35, tyJ35, tyJ35_ok⟩ rfl rfl (Nat.le_of_ble_eq_true rfl) rfl [ob (xg x) q 19 [.ref a, .int (jI 0), .int (jI 0)], pl (xg x) M] rfl dJ35_init_11 rfl ?_
  refine sw_aload_n (n := 15) F 0 (some q) rfl rfl rfl dJ35_init_14 rfl ?_
  refine sw_aload_n (n := 16) F 1 (some a) rfl rfl rfl dJ35_init_15 rfl ?_
  refine sw_alenK (n := 17) F (plA F 1 rfl hx) dJ35_init_16 rfl ?_
  show SW x _ _ _ _ _ [.int (jI (↑n)), .ref q]
  refine sw_put (n := 20) F 0 rfl (k := 1) ⟨(RJ35, TJ35, 3), rfl, by decide, q1837, in_J35, Or.inl rfl⟩ .int ⟨(RJ35, TJ35, 3), rfl, rfl, tyJ35_ok 1 (by decide), nmJ35, tyJ35, tyJ35_ok⟩ rfl rfl (Nat.le_of_ble_eq_true rfl) rfl [ob (xg x) q 19 [.ref a, .int (jI (↑n)), .int (jI 0)], pl (xg x) M] rfl dJ35_init_17 rfl ?_
  exact sw_vret F rfl dJ35_init_20 (by rw [hPo]; exact ⟨rfl, rfl⟩)
theorem nd_J35_init_2 : yJ35_init_2.cls ≠ "java/lang/invoke/MethodHandle" ∧ yJ35_init_2.cls ≠ "java/lang/invoke/VarHandle" ∧ (parseMethodDescriptor yJ35_init_2.desc).map (fun d => d.parameters.length) = some 0 := by decide +kernel
set_option maxRecDepth 100000 in
set_option maxHeartbeats 16000000 in
theorem ct_J35_init_2 {g : GG} {l : Launch} (q : Nat)  : Ct g l yJ35_init_2 (ws_ yJ35_init_2 cJ35_init_2 1 (Option.none : Option Jvm.ClassFile.FieldType)) 1 12 1 1 [.ref q] [ob g q 19 [.null, .int (jI 0), .int (jI 0)]] (fun v9 Ws9 => ∃ a1 : Nat, v9 = none ∧ Ws9 = [ob g q 19 [.ref a1, .int (jI 0), .int (jI 0)], aN g 0 a1 1 (fun _ => 0)]) (nox) := by
  refine Ct.of (cc := cJ35_init_2) (nL := 1) (ret := (Option.none : Option Jvm.ClassFile.FieldType)) (by decide) rfl (Nat.le_of_ble_eq_true rfl) ?_
  intro x hg hl hPo hPx hmc hms F
  subst hg; subst hl
  refine SW.cast (L' := [(0, .ref q)]) ?_ rfl rfl rfl
  refine sw_aload_n (n := 1) F 0 (some q) rfl rfl rfl dJ35_init_2_0 rfl ?_
  refine sw_objInit (n := 4) F q1835 q_oi q_oc (by decide) dJ35_init_2_1 rfl ?_
  refine sw_aload_n (n := 5) F 0 (some q) rfl rfl rfl dJ35_init_2_4 rfl ?_
  refine sw_iconst (n := 6) F (0) (by decide) dJ35_init_2_5 rfl ?_
  refine sw_put (n := 9) F 0 rfl (k := 2) ⟨(RJ35, TJ35, 3), rfl, by decide, q1838, in_J35, Or.inl rfl⟩ .int ⟨(RJ35, TJ35, 3), rfl, rfl, tyJ35_ok 2 (by decide), nmJ35, tyJ35, tyJ35_ok⟩ rfl rfl (Nat.le_of_ble_eq_true rfl) rfl [ob (xg x) q 19 [.null, .int (jI 0), .int (jI 0)]] rfl dJ35_init_2_6 rfl ?_
  refine sw_aload_n (n := 10) F 0 (some q) rfl rfl rfl dJ35_init_2_9 rfl ?_
  refine sw_iconst (n := 11) F (1) (by decide) dJ35_init_2_10 rfl ?_
  refine sw_newaN (n := 13) F (1) (by first | omega | rfl) (by omega) 0 0 ⟨by omega, by omega⟩ dJ35_init_2_11 rfl (fun q_1 => ?_)
  refine sw_put (n := 16) F 1 rfl (k := 0) ⟨(RJ35, TJ35, 3), rfl, by decide, q1836, in_J35, Or.inl rfl⟩ (tyJ35 0) ⟨(RJ35, TJ35, 3), rfl, rfl, tyJ35_ok 0 (by decide), nmJ35, tyJ35, tyJ35_ok⟩ rfl rfl (Nat.le_of_ble_eq_true rfl) rfl [aN (xg x) 0 q_1 1 (fun _ => 0), ob (xg x) q 19 [.ref q_1, .int (jI 0), .int (jI 0)]] rfl dJ35_init_2_13 rfl ?_
  refine sw_aload_n (n := 17) F 0 (some q) rfl rfl rfl dJ35_init_2_16 rfl ?_
  refine sw_iconst (n := 18) F (0) (by decide) dJ35_init_2_17 rfl ?_
  refine sw_put (n := 21) F 1 rfl (k := 1) ⟨(RJ35, TJ35, 3), rfl, by decide, q1837, in_J35, Or.inl rfl⟩ .int ⟨(RJ35, TJ35, 3), rfl, rfl, tyJ35_ok 1 (by decide), nmJ35, tyJ35, tyJ35_ok⟩ rfl rfl (Nat.le_of_ble_eq_true rfl) rfl [aN (xg x) 0 q_1 1 (fun _ => 0), ob (xg x) q 19 [.ref q_1, .int (jI 0), .int (jI 0)]] rfl dJ35_init_2_18 rfl ?_
  refine sw_perm [1, 0] rfl [ob (xg x) q 19 [.ref q_1, .int (jI 0), .int (jI 0)], aN (xg x) 0 q_1 1 (fun _ => 0)] rfl ?_
  exact sw_vret F rfl dJ35_init_2_21 (by rw [hPo]; exact ⟨q_1, rfl, rfl⟩)
theorem nd_J35_clear : yJ35_clear.cls ≠ "java/lang/invoke/MethodHandle" ∧ yJ35_clear.cls ≠ "java/lang/invoke/VarHandle" ∧ (parseMethodDescriptor yJ35_clear.desc).map (fun d => d.parameters.length) = some 0 := by decide +kernel
set_option maxRecDepth 100000 in
set_option maxHeartbeats 16000000 in
theorem ct_J35_clear {g : GG} {l : Launch} (q : Nat) (a : Nat) (N : Nat) (f : Nat → Nat) (n : Int) (o : Int) (hN : N ≤ 64) : Ct g l yJ35_clear (ws_ yJ35_clear cJ35_clear 3 (Option.none : Option Jvm.ClassFile.FieldType)) 1 12 0 0 [.ref q] [ob g q 19 [.ref a, .int (jI n), .int (jI o)], aN g 0 a N f] (fun v9 Ws9 => ∃ f1 : Nat → Nat, v9 = none ∧ (∀ j, j < N → f1 j = 0) ∧ Ws9 = [ob g q 19 [.ref a, .int (jI 0), .int (jI 0)], aN g 0 a N f1]) (nox) := by
  refine Ct.of (cc := cJ35_clear) (nL := 3) (ret := (Option.none : Option Jvm.ClassFile.FieldType)) (by decide) rfl (Nat.le_of_ble_eq_true rfl) ?_
  intro x hg hl hPo hPx hmc hms F
  subst hg; subst hl
  refine SW.cast (L' := [(0, .ref q)]) ?_ rfl rfl rfl
  refine sw_aload_n (n := 1) F 0 (some q) rfl rfl rfl dJ35_clear_0 rfl ?_
  refine sw_aload_n (n := 2) F 0 (some q) rfl rfl rfl dJ35_clear_1 rfl ?_
  refine sw_iconst (n := 3) F (0) (by decide) dJ35_clear_2 rfl ?_
  refine sw_dup_x1 (n := 4) F rfl rfl dJ35_clear_3 rfl ?_
  refine sw_put (n := 7) F 0 rfl (k := 1) ⟨(RJ35, TJ35, 3), rfl, by decide, q1837, in_J35, Or.inl rfl⟩ .int ⟨(RJ35, TJ35, 3), rfl, rfl, tyJ35_ok 1 (by decide), nmJ35, tyJ35, tyJ35_ok⟩ rfl rfl (Nat.le_of_ble_eq_true rfl) rfl [ob (xg x) q 19 [.ref a, .int (jI 0), .int (jI o)], aN (xg x) 0 a N f] rfl dJ35_clear_4 rfl ?_
  refine sw_put (n := 10) F 0 rfl (k := 2) ⟨(RJ35, TJ35, 3), rfl, by decide, q1838, in_J35, Or.inl rfl⟩ .int ⟨(RJ35, TJ35, 3), rfl, rfl, tyJ35_ok 2 (by decide), nmJ35, tyJ35, tyJ35_ok⟩ rfl rfl (Nat.le_of_ble_eq_true rfl) rfl [ob (xg x) q 19 [.ref a, .int (jI 0), .int (jI 0)], aN (xg x) 0 a N f] rfl dJ35_clear_7 rfl ?_
  refine sw_iconst (n := 11) F (0) (by decide) dJ35_clear_10 rfl ?_
  refine sw_istore_n (n := 12) F (L2 := [(1, .int (jI 0)), (0, .ref q)]) rfl (by decide) rfl dJ35_clear_11 rfl ?_
  refine sw_aload_n (n := 13) F 1 (some q) rfl rfl rfl dJ35_clear_12 rfl ?_
  refine sw_get (n := 16) F 0 rfl (k := 0) ⟨(RJ35, TJ35, 3), rfl, by decide, q1836, in_J35, Or.inl rfl⟩ rfl dJ35_clear_13 rfl ?_
  refine sw_alen (n := 17) F 1 rfl (fun _ => rfl) dJ35_clear_16 rfl ?_
  refine sw_istore_n (n := 18) F (L2 := [(2, .int (jI (↑N))), (1, .int (jI 0)), (0, .ref q)]) rfl (by decide) rfl dJ35_clear_17 rfl ?_
  have K18 : ∀ N18 : Nat, ∀ (k : Nat) (f2 : Nat → Nat), (k ≤ N) → (∀ j, j < k → f2 j = 0) → ((N - k) < N18) → SW x [ob (xg x) q 19 [.ref a, .int (jI 0), .int (jI 0)], aN (xg x) 0 a N f2] 0 0 18 [(0, .ref q), (1, .int (jI (↑k))), (2, .int (jI (↑N)))] [] := by
    intro N18; induction N18 with
    | zero => intro k f2 hk hz hmu18; omega
    | succ N18 ih18 =>
      intro k f2 hk hz hmu18
      refine sw_iload_n (n := 19) F 1 rfl rfl dJ35_clear_18 rfl ?_
      refine sw_iload_n (n := 20) F 2 rfl rfl dJ35_clear_19 rfl ?_
      refine sw_icmp_ge (n := 23) F (by omega) (by omega) (tgt := 36) dJ35_clear_20 (by decide) rfl (fun c_20 => ?_) (fun c_20 => ?_)
      ·
        exact sw_vret F rfl dJ35_clear_36 (by rw [hPo]; exact ⟨f2, rfl, (by intro j hj; exact hz j (by omega)), rfl⟩)
      ·
        refine sw_aload_n (n := 24) F 0 (some q) rfl rfl rfl dJ35_clear_23 rfl ?_
        refine sw_get (n := 27) F 0 rfl (k := 0) ⟨(RJ35, TJ35, 3), rfl, by decide, q1836, in_J35, Or.inl rfl⟩ rfl dJ35_clear_24 rfl ?_
        refine sw_iload_n (n := 28) F 1 rfl rfl dJ35_clear_27 rfl ?_
        refine sw_iconst (n := 29) F (0) (by decide) dJ35_clear_28 rfl ?_
        refine sw_iastoreW (n := 30) F 1 rfl (fun _ => rfl) k rfl (by omega) 0 (by first | omega | rfl) [ob (xg x) q 19 [.ref a, .int (jI 0), .int (jI 0)], aN (xg x) 0 a N (va_up f2 k 0)] (by rfl) dJ35_clear_29 rfl ?_
        refine sw_iinc (n := 33) F 1 (L2 := [(1, .int (jI (↑k + 1))), (0, .ref q), (2, .int (jI (↑N)))]) rfl rfl (by decide) dJ35_clear_30 rfl ?_
        refine sw_goto F (n := 18) dJ35_clear_33 (by decide) ?_
        refine sw_loc [1, 0, 2] (L2 := [(0, .ref q), (1, .int (jI (↑k + 1))), (2, .int (jI (↑N)))]) rfl ?_
        rw [show (↑k + 1 : Int) = ↑(k + 1) by omega]
        exact ih18 (k + 1) (va_up f2 k 0) (by first | omega | assumption) (by first | (intro j hj; omega) | (intro j hj; rcases Nat.lt_or_ge j k with c | c; rw [vu_ne (by omega)]; exact hz j c; rw [vu_eq (by omega)])) (by omega)
  refine sw_loc [2, 1, 0] (L2 := [(0, .ref q), (1, .int (jI 0)), (2, .int (jI (↑N)))]) rfl ?_
  exact K18 _ 0 f (by first | omega | assumption) (by first | (intro j hj; omega) | (intro j hj; rcases Nat.lt_or_ge j k with c | c; rw [vu_ne (by omega)]; exact hz j c; rw [vu_eq (by omega)])) (Nat.lt_succ_self _)
theorem nd_J23_fill_2 : yJ23_fill_2.cls ≠ "java/lang/invoke/MethodHandle" ∧ yJ23_fill_2.cls ≠ "java/lang/invoke/VarHandle" ∧ (parseMethodDescriptor yJ23_fill_2.desc).map (fun d => d.parameters.length) = some 2 := by decide +kernel
set_option maxRecDepth 100000 in
set_option maxHeartbeats 16000000 in
theorem ct_J23_fill_2 {g : GG} {l : Launch} (a : Nat) (N : Nat) (f : Nat → Nat) (hN : N ≤ 64) : Ct g l yJ23_fill_2 (ws_ yJ23_fill_2 cJ23_fill_2 4 (Option.none : Option Jvm.ClassFile.FieldType)) 1 12 0 0 [.ref a, .int (jI 0)] [aN g 0 a N f] (fun v9 Ws9 => ∃ f1 : Nat → Nat, v9 = none ∧ (∀ j, j < N → f1 j = 0) ∧ Ws9 = [aN g 0 a N f1]) (nox) := by
  refine Ct.of (cc := cJ23_fill_2) (nL := 4) (ret := (Option.none : Option Jvm.ClassFile.FieldType)) (by decide) rfl (Nat.le_of_ble_eq_true rfl) ?_
  intro x hg hl hPo hPx hmc hms F
  subst hg; subst hl
  refine SW.cast (L' := [(0, .ref a), (1, .int (jI 0))]) ?_ rfl rfl rfl
  refine sw_iconst (n := 1) F (0) (by decide) dJ23_fill_2_0 rfl ?_
  refine sw_istore_n (n := 2) F (L2 := [(2, .int (jI 0)), (0, .ref a), (1, .int (jI 0))]) rfl (by decide) rfl dJ23_fill_2_1 rfl ?_
  refine sw_aload_n (n := 3) F 1 (some a) rfl rfl rfl dJ23_fill_2_2 rfl ?_
  refine sw_alen (n := 4) F 0 rfl (fun _ => rfl) dJ23_fill_2_3 rfl ?_
  refine sw_istore_n (n := 5) F (L2 := [(3, .int (jI (↑N))), (2, .int (jI 0)), (0, .ref a), (1, .int (jI 0))]) rfl (by decide) rfl dJ23_fill_2_4 rfl ?_
  have K5 : ∀ N5 : Nat, ∀ (k : Nat) (f2 : Nat → Nat), (k ≤ N) → (∀ j, j < k → f2 j = 0) → ((N - k) < N5) → SW x [aN (xg x) 0 a N f2] 0 0 5 [(0, .ref a), (1, .int (jI 0)), (2, .int (jI (↑k))), (3, .int (jI (↑N)))] [] := by
    intro N5; induction N5 with
    | zero => intro k f2 hk hz hmu5; omega
    | succ N5 ih5 =>
      intro k f2 hk hz hmu5
      refine sw_iload_n (n := 6) F 2 rfl rfl dJ23_fill_2_5 rfl ?_
      refine sw_iload_n (n := 7) F 3 rfl rfl dJ23_fill_2_6 rfl ?_
      refine sw_icmp_ge (n := 10) F (by omega) (by omega) (tgt := 20) dJ23_fill_2_7 (by decide) rfl (fun c_7 => ?_) (fun c_7 => ?_)
      ·
        exact sw_vret F rfl dJ23_fill_2_20 (by rw [hPo]; exact ⟨f2, rfl, (by intro j hj; exact hz j (by omega)), rfl⟩)
      ·
        refine sw_aload_n (n := 11) F 0 (some a) rfl rfl rfl dJ23_fill_2_10 rfl ?_
        refine sw_iload_n (n := 12) F 2 rfl rfl dJ23_fill_2_11 rfl ?_
        refine sw_iload_n (n := 13) F 1 rfl rfl dJ23_fill_2_12 rfl ?_
        refine sw_iastoreW (n := 14) F 0 rfl (fun _ => rfl) k rfl (by omega) 0 (by first | omega | rfl) [aN (xg x) 0 a N (va_up f2 k 0)] (by rfl) dJ23_fill_2_13 rfl ?_
        refine sw_iinc (n := 17) F 2 (L2 := [(2, .int (jI (↑k + 1))), (0, .ref a), (1, .int (jI 0)), (3, .int (jI (↑N)))]) rfl rfl (by decide) dJ23_fill_2_14 rfl ?_
        refine sw_goto F (n := 5) dJ23_fill_2_17 (by decide) ?_
        refine sw_loc [1, 2, 0, 3] (L2 := [(0, .ref a), (1, .int (jI 0)), (2, .int (jI (↑k + 1))), (3, .int (jI (↑N)))]) rfl ?_
        rw [show (↑k + 1 : Int) = ↑(k + 1) by omega]
        exact ih5 (k + 1) (va_up f2 k 0) (by first | omega | assumption) (by first | (intro j hj; omega) | (intro j hj; rcases Nat.lt_or_ge j k with c | c; rw [vu_ne (by omega)]; exact hz j c; rw [vu_eq (by omega)])) (by omega)
  refine sw_loc [2, 3, 1, 0] (L2 := [(0, .ref a), (1, .int (jI 0)), (2, .int (jI 0)), (3, .int (jI (↑N)))]) rfl ?_
  exact K5 _ 0 f (by first | omega | assumption) (by first | (intro j hj; omega) | (intro j hj; rcases Nat.lt_or_ge j k with c | c; rw [vu_ne (by omega)]; exact hz j c; rw [vu_eq (by omega)])) (Nat.lt_succ_self _)
theorem nd_J35_isZero : yJ35_isZero.cls ≠ "java/lang/invoke/MethodHandle" ∧ yJ35_isZero.cls ≠ "java/lang/invoke/VarHandle" ∧ (parseMethodDescriptor yJ35_isZero.desc).map (fun d => d.parameters.length) = some 0 := by decide +kernel
set_option maxRecDepth 100000 in
set_option maxHeartbeats 16000000 in
theorem ct_J35_isZero {g : GG} {l : Launch} (q : Nat) (a : Nat) (n : Nat) (o : Int) (hn : n ≤ 64) : Ct g l yJ35_isZero (ws_ yJ35_isZero cJ35_isZero 1 (Option.some Jvm.ClassFile.FieldType.boolean)) 1 12 0 0 [.ref q] [ob g q 19 [.ref a, .int (jI (↑n)), .int (jI o)]] (fun v9 Ws9 => v9 = some (.int (jI (if n = 0 then 1 else 0))) ∧ Ws9 = [ob g q 19 [.ref a, .int (jI (↑n)), .int (jI o)]]) (nox) := by
  refine Ct.of (cc := cJ35_isZero) (nL := 1) (ret := (Option.some Jvm.ClassFile.FieldType.boolean)) (by decide) rfl (Nat.le_of_ble_eq_true rfl) ?_
  intro x hg hl hPo hPx hmc hms F
  subst hg; subst hl
  refine SW.cast (L' := [(0, .ref q)]) ?_ rfl rfl rfl
  refine sw_aload_n (n := 1) F 0 (some q) rfl rfl rfl dJ35_isZero_0 rfl ?_
  refine sw_get (n := 4) F 0 rfl (k := 1) ⟨(RJ35, TJ35, 3), rfl, by decide, q1837, in_J35, Or.inl rfl⟩ rfl dJ35_isZero_1 rfl ?_
  refine sw_if_ne (n := 7) F (by omega) (tgt := 11) dJ35_isZero_4 (by decide) rfl (fun c_4 => ?_) (fun c_4 => ?_)
  ·
    refine sw_iconst (n := 12) F (0) (by decide) dJ35_isZero_11 rfl ?_
    exact sw_iret F _ rfl (by first | rfl | exact jI_nz (by omega) | exact jI_nc (by omega)) dJ35_isZero_12 (by rw [hPo]; exact ⟨(by first | (rw [if_pos (by omega)]) | (rw [if_neg (by omega)])), rfl⟩)
  ·
    refine sw_iconst (n := 8) F (1) (by decide) dJ35_isZero_7 rfl ?_
    refine sw_goto F (n := 12) dJ35_isZero_8 (by decide) ?_
    exact sw_iret F _ rfl (by first | rfl | exact jI_nz (by omega) | exact jI_nc (by omega)) dJ35_isZero_12 (by rw [hPo]; exact ⟨(by first | (rw [if_pos (by omega)]) | (rw [if_neg (by omega)])), rfl⟩)
theorem nd_J35_isOdd : yJ35_isOdd.cls ≠ "java/lang/invoke/MethodHandle" ∧ yJ35_isOdd.cls ≠ "java/lang/invoke/VarHandle" ∧ (parseMethodDescriptor yJ35_isOdd.desc).map (fun d => d.parameters.length) = some 0 := by decide +kernel
set_option maxRecDepth 100000 in
set_option maxHeartbeats 16000000 in
theorem ct_J35_isOdd {g : GG} {l : Launch} (q : Nat) (a : Nat) (N : Nat) (f : Nat → Nat) (n : Nat) (o : Nat) (hN : o + n ≤ N ∧ N ≤ 64) (hf : ∀ k, k < N → f k < 4294967296) : Ct g l yJ35_isOdd (ws_ yJ35_isOdd cJ35_isOdd 1 (Option.some Jvm.ClassFile.FieldType.boolean)) 2 32 0 0 [.ref q] [ob g q 19 [.ref a, .int (jI (↑n)), .int (jI (↑o))], aN g 0 a N f] (fun v9 Ws9 => v9 = some (.int (jI (↑(mw f o n % 2)))) ∧ Ws9 = [ob g q 19 [.ref a, .int (jI (↑n)), .int (jI (↑o))], aN g 0 a N f]) (nox) := by
  refine Ct.of (cc := cJ35_isOdd) (nL := 1) (ret := (Option.some Jvm.ClassFile.FieldType.boolean)) (by decide) rfl (Nat.le_of_ble_eq_true rfl) ?_
  intro x hg hl hPo hPx hmc hms F
  subst hg; subst hl
  refine SW.cast (L' := [(0, .ref q)]) ?_ rfl rfl rfl
  refine sw_aload_n (n := 1) F 0 (some q) rfl rfl rfl dJ35_isOdd_0 rfl ?_
  refine sw_callV (n := 4) F (ct_J35_isZero (g := xg x) (l := xl x) q a n (↑o) (by first | omega | assumption)) (rcv_ob F 0 rfl rfl) q1930 q1931 q1932 q144 q1933 nd_J35_isZero rfl (by decide) [0, 1] rfl [aN (xg x) 0 a N f] rfl 0 0 ⟨by omega, by omega⟩ [] rfl (Nat.le_of_ble_eq_true rfl) dJ35_isOdd_1 rfl (fun _ _ h => h.elim) (fun v Ws h => ?_)
  obtain ⟨rfl, rfl⟩ := h
  show SW x [ob (xg x) q 19 [.ref a, .int (jI (↑n)), .int (jI (↑o))], aN (xg x) 0 a N f] _ _ _ _ [.int (jI (if n = 0 then 1 else 0))]
  have hz9 : (if n = 0 then (1 : Int) else 0) = 0 ∨ (if n = 0 then (1 : Int) else 0) = 1 := by split <;> omega
  refine sw_if_eq (n := 7) F (by omega) (tgt := 11) dJ35_isOdd_4 (by decide) rfl (fun c_4 => ?_) (fun c_4 => ?_)
  ·
    have hn0 : 0 < n := by rcases Nat.eq_zero_or_pos n with c | c; rw [if_pos c] at c_4; omega; exact c
    have hod : mw f o n % 2 = f (o + n - 1) % 2 := by unfold mw; rw [wv_odd hn0]; congr 2; omega
    have hb_x : f (o + n - 1) < 4294967296 := hf _ (by omega)
    refine sw_aload_n (n := 12) F 0 (some q) rfl rfl rfl dJ35_isOdd_11 rfl ?_
    refine sw_get (n := 15) F 0 rfl (k := 0) ⟨(RJ35, TJ35, 3), rfl, by decide, q1836, in_J35, Or.inl rfl⟩ rfl dJ35_isOdd_12 rfl ?_
    refine sw_aload_n (n := 16) F 0 (some q) rfl rfl rfl dJ35_isOdd_15 rfl ?_
    refine sw_get (n := 19) F 0 rfl (k := 2) ⟨(RJ35, TJ35, 3), rfl, by decide, q1838, in_J35, Or.inl rfl⟩ rfl dJ35_isOdd_16 rfl ?_
    refine sw_aload_n (n := 20) F 0 (some q) rfl rfl rfl dJ35_isOdd_19 rfl ?_
    refine sw_get (n := 23) F 0 rfl (k := 1) ⟨(RJ35, TJ35, 3), rfl, by decide, q1837, in_J35, Or.inl rfl⟩ rfl dJ35_isOdd_20 rfl ?_
    refine sw_iadd (n := 24) F dJ35_isOdd_23 rfl ?_
    refine sw_iconst (n := 25) F (1) (by decide) dJ35_isOdd_24 rfl ?_
    refine sw_isub (n := 26) F dJ35_isOdd_25 rfl ?_
    refine sw_ialoadN (n := 27) F 1 rfl (fun _ => rfl) (((o) + (n)) - 1) (by omega) (by omega) dJ35_isOdd_26 rfl ?_
    refine sw_iconst (n := 28) F (1) (by decide) dJ35_isOdd_27 rfl ?_
    refine sw_iand (n := 29) F (jI ((↑(f (((o) + (n)) - 1))) % 2)) (jI_and 1 (by decide) (by rfl)) dJ35_isOdd_28 rfl ?_
    refine sw_iconst (n := 30) F (1) (by decide) dJ35_isOdd_29 rfl ?_
    refine sw_icmp_ne (n := 33) F (by omega) (by decide) (tgt := 37) dJ35_isOdd_30 (by decide) rfl (fun c_30 => ?_) (fun c_30 => ?_)
    ·
      refine sw_iconst (n := 38) F (0) (by decide) dJ35_isOdd_37 rfl ?_
      exact sw_iret F _ rfl (by first | rfl | exact jI_nz (by omega) | exact jI_nc (by omega)) dJ35_isOdd_38 (by rw [hPo]; exact ⟨(by first | (rw [show n = 0 by rcases Nat.eq_zero_or_pos n with c | c; exact c; rw [if_neg (by omega)] at c_4; omega]; rfl) | (congr 3; omega)), rfl⟩)
    ·
      refine sw_iconst (n := 34) F (1) (by decide) dJ35_isOdd_33 rfl ?_
      refine sw_goto F (n := 38) dJ35_isOdd_34 (by decide) ?_
      exact sw_iret F _ rfl (by first | rfl | exact jI_nz (by omega) | exact jI_nc (by omega)) dJ35_isOdd_38 (by rw [hPo]; exact ⟨(by first | (rw [show n = 0 by rcases Nat.eq_zero_or_pos n with c | c; exact c; rw [if_neg (by omega)] at c_4; omega]; rfl) | (congr 3; omega)), rfl⟩)
  ·
    refine sw_iconst (n := 8) F (0) (by decide) dJ35_isOdd_7 rfl ?_
    refine sw_goto F (n := 38) dJ35_isOdd_8 (by decide) ?_
    exact sw_iret F _ rfl (by first | rfl | exact jI_nz (by omega) | exact jI_nc (by omega)) dJ35_isOdd_38 (by rw [hPo]; exact ⟨(by first | (rw [show n = 0 by rcases Nat.eq_zero_or_pos n with c | c; exact c; rw [if_neg (by omega)] at c_4; omega]; rfl) | (congr 3; omega)), rfl⟩)
theorem nm_ok {f : Nat → Nat} {N o n k : Nat} (hf : ∀ k, k < N → f k < 4294967296) (h : o + n ≤ N) (hk : k < n) (h0 : f (o + k) ≠ 0) : wOK (n - k) (fun j => f (o + k + j)) := ⟨fun j hj => hf _ (by omega), fun _ => h0⟩
theorem nm_0 {f : Nat → Nat} : wOK 0 f := ⟨fun _ h => absurd h (Nat.not_lt_zero _), fun h => absurd h (Nat.lt_irrefl _)⟩
theorem nm_z {f : Nat → Nat} {o n o1 : Nat} (hz : ∀ j, j < n → f (o + j) = 0) : mw f o1 0 = mw f o n := by unfold mw; rw [wv_zero _ n hz]; rfl
theorem nd_J35_normalize : yJ35_normalize.cls ≠ "java/lang/invoke/MethodHandle" ∧ yJ35_normalize.cls ≠ "java/lang/invoke/VarHandle" ∧ (parseMethodDescriptor yJ35_normalize.desc).map (fun d => d.parameters.length) = some 0 := by decide +kernel
set_option maxRecDepth 100000 in
set_option maxHeartbeats 16000000 in
theorem ct_J35_normalize {g : GG} {l : Launch} (q : Nat) (a : Nat) (N : Nat) (f : Nat → Nat) (n : Nat) (o : Nat) (hN : o + n ≤ N ∧ N ≤ 64) (hf : ∀ k, k < N → f k < 4294967296) : Ct g l yJ35_normalize (ws_ yJ35_normalize cJ35_normalize 4 (Option.none : Option Jvm.ClassFile.FieldType)) 1 12 0 0 [.ref q] [ob g q 19 [.ref a, .int (jI (↑n)), .int (jI (↑o))], aN g 0 a N f] (fun v9 Ws9 => ∃ n1 : Nat, ∃ o1 : Nat, v9 = none ∧ (wOK n1 (fun j => f (o1 + j))) ∧ (mw f o1 n1 = mw f o n) ∧ (o1 + n1 ≤ N ∧ n1 ≤ n) ∧ Ws9 = [ob g q 19 [.ref a, .int (jI (↑n1)), .int (jI (↑o1))], aN g 0 a N f]) (nox) := by
  refine Ct.of (cc := cJ35_normalize) (nL := 4) (ret := (Option.none : Option Jvm.ClassFile.FieldType)) (by decide) rfl (Nat.le_of_ble_eq_true rfl) ?_
  intro x hg hl hPo hPx hmc hms F
  subst hg; subst hl
  refine SW.cast (L' := [(0, .ref q)]) ?_ rfl rfl rfl
  refine sw_aload_n (n := 1) F 0 (some q) rfl rfl rfl dJ35_normalize_0 rfl ?_
  refine sw_get (n := 4) F 0 rfl (k := 1) ⟨(RJ35, TJ35, 3), rfl, by decide, q1837, in_J35, Or.inl rfl⟩ rfl dJ35_normalize_1 rfl ?_
  refine sw_if_ne (n := 7) F (by omega) (tgt := 13) dJ35_normalize_4 (by decide) rfl (fun c_4 => ?_) (fun c_4 => ?_)
  ·
    refine sw_aload_n (n := 14) F 0 (some q) rfl rfl rfl dJ35_normalize_13 rfl ?_
    refine sw_get (n := 17) F 0 rfl (k := 2) ⟨(RJ35, TJ35, 3), rfl, by decide, q1838, in_J35, Or.inl rfl⟩ rfl dJ35_normalize_14 rfl ?_
    refine sw_istore_n (n := 18) F (L2 := [(1, .int (jI (↑o))), (0, .ref q)]) rfl (by decide) rfl dJ35_normalize_17 rfl ?_
    refine sw_aload_n (n := 19) F 1 (some q) rfl rfl rfl dJ35_normalize_18 rfl ?_
    refine sw_get (n := 22) F 0 rfl (k := 0) ⟨(RJ35, TJ35, 3), rfl, by decide, q1836, in_J35, Or.inl rfl⟩ rfl dJ35_normalize_19 rfl ?_
    refine sw_iload_n (n := 23) F 0 rfl rfl dJ35_normalize_22 rfl ?_
    refine sw_ialoadN (n := 24) F 1 rfl (fun _ => rfl) o rfl (by omega) dJ35_normalize_23 rfl ?_
    have hb_x : f o < 4294967296 := hf _ (by omega)
    refine sw_if_eqU (n := 27) F (by omega) (tgt := 28) dJ35_normalize_24 (by decide) rfl (fun c_24 => ?_) (fun c_24 => ?_)
    ·
      refine sw_iload_n (n := 29) F 0 rfl rfl dJ35_normalize_28 rfl ?_
      refine sw_aload_n (n := 30) F 1 (some q) rfl rfl rfl dJ35_normalize_29 rfl ?_
      refine sw_get (n := 33) F 0 rfl (k := 1) ⟨(RJ35, TJ35, 3), rfl, by decide, q1837, in_J35, Or.inl rfl⟩ rfl dJ35_normalize_30 rfl ?_
      refine sw_iadd (n := 34) F dJ35_normalize_33 rfl ?_
      have K52 : ∀ (k : Nat), (k ≤ n) → (∀ j, j < k → f (o + j) = 0) → (k = n ∨ f (o + k) ≠ 0) → SW x [ob (xg x) q 19 [.ref a, .int (jI (↑n)), .int (jI (↑o))], aN (xg x) 0 a N f] 0 0 52 [(0, .ref q), (1, .int (jI (↑o + ↑k)))] [] := by
        intro k hk hz hq
        refine sw_iload_n (n := 53) F 1 rfl rfl dJ35_normalize_52 rfl ?_
        refine sw_aload_n (n := 54) F 0 (some q) rfl rfl rfl dJ35_normalize_53 rfl ?_
        refine sw_get (n := 57) F 0 rfl (k := 2) ⟨(RJ35, TJ35, 3), rfl, by decide, q1838, in_J35, Or.inl rfl⟩ rfl dJ35_normalize_54 rfl ?_
        refine sw_isub (n := 58) F dJ35_normalize_57 rfl ?_
        refine sw_istore_n (n := 59) F (L2 := [(3, .int (jI ((↑o + ↑k) - (↑o)))), (0, .ref q), (1, .int (jI (↑o + ↑k)))]) rfl (by decide) rfl dJ35_normalize_58 rfl ?_
        refine sw_aload_n (n := 60) F 1 (some q) rfl rfl rfl dJ35_normalize_59 rfl ?_
        refine sw_dup (n := 61) F rfl dJ35_normalize_60 rfl ?_
        refine sw_get (n := 64) F 0 rfl (k := 1) ⟨(RJ35, TJ35, 3), rfl, by decide, q1837, in_J35, Or.inl rfl⟩ rfl dJ35_normalize_61 rfl ?_
        refine sw_iload_n (n := 65) F 0 rfl rfl dJ35_normalize_64 rfl ?_
        refine sw_isub (n := 66) F dJ35_normalize_65 rfl ?_
        refine sw_top (topI (show ((↑n) - ((↑o + ↑k) - (↑o)) : Int) = ↑(n - k) by omega)) ?_
        refine sw_put (n := 69) F 0 rfl (k := 1) ⟨(RJ35, TJ35, 3), rfl, by decide, q1837, in_J35, Or.inl rfl⟩ .int ⟨(RJ35, TJ35, 3), rfl, rfl, tyJ35_ok 1 (by decide), nmJ35, tyJ35, tyJ35_ok⟩ rfl rfl (Nat.le_of_ble_eq_true rfl) rfl [ob (xg x) q 19 [.ref a, .int (jI (↑(n - k))), .int (jI (↑o))], aN (xg x) 0 a N f] rfl dJ35_normalize_66 rfl ?_
        refine sw_aload_n (n := 70) F 1 (some q) rfl rfl rfl dJ35_normalize_69 rfl ?_
        refine sw_aload_n (n := 71) F 1 (some q) rfl rfl rfl dJ35_normalize_70 rfl ?_
        refine sw_get (n := 74) F 0 rfl (k := 1) ⟨(RJ35, TJ35, 3), rfl, by decide, q1837, in_J35, Or.inl rfl⟩ rfl dJ35_normalize_71 rfl ?_
        refine sw_if_ne (n := 77) F (by omega) (tgt := 81) dJ35_normalize_74 (by decide) rfl (fun c_74 => ?_) (fun c_74 => ?_)
        ·
          refine sw_aload_n (n := 82) F 1 (some q) rfl rfl rfl dJ35_normalize_81 rfl ?_
          refine sw_get (n := 85) F 0 rfl (k := 2) ⟨(RJ35, TJ35, 3), rfl, by decide, q1838, in_J35, Or.inl rfl⟩ rfl dJ35_normalize_82 rfl ?_
          refine sw_iload_n (n := 86) F 0 rfl rfl dJ35_normalize_85 rfl ?_
          refine sw_iadd (n := 87) F dJ35_normalize_86 rfl ?_
          refine sw_top (topI (show ((↑o) + ((↑o + ↑k) - (↑o)) : Int) = ↑(o + k) by omega)) ?_
          refine sw_put (n := 90) F 0 rfl (k := 2) ⟨(RJ35, TJ35, 3), rfl, by decide, q1838, in_J35, Or.inl rfl⟩ .int ⟨(RJ35, TJ35, 3), rfl, rfl, tyJ35_ok 2 (by decide), nmJ35, tyJ35, tyJ35_ok⟩ rfl rfl (Nat.le_of_ble_eq_true rfl) rfl [ob (xg x) q 19 [.ref a, .int (jI (↑(n - k))), .int (jI (↑(o + k)))], aN (xg x) 0 a N f] rfl dJ35_normalize_87 rfl ?_
          exact sw_vret F rfl dJ35_normalize_90 (by rw [hPo]; exact ⟨n - k, o + k, rfl, (by first | (rw [show n - k = 0 by omega]; exact nm_0) | exact nm_ok hf (by omega) (by omega) (hq.resolve_left (by omega))), (by first | (rw [show n - k = 0 by omega]; exact nm_z (fun j hj => hz j (by omega))) | exact mw_drop hz hk), (by first | omega | assumption), rfl⟩)
        ·
          refine sw_iconst (n := 78) F (0) (by decide) dJ35_normalize_77 rfl ?_
          refine sw_goto F (n := 87) dJ35_normalize_78 (by decide) ?_
          refine sw_put (n := 90) F 0 rfl (k := 2) ⟨(RJ35, TJ35, 3), rfl, by decide, q1838, in_J35, Or.inl rfl⟩ .int ⟨(RJ35, TJ35, 3), rfl, rfl, tyJ35_ok 2 (by decide), nmJ35, tyJ35, tyJ35_ok⟩ rfl rfl (Nat.le_of_ble_eq_true rfl) rfl [ob (xg x) q 19 [.ref a, .int (jI (↑(n - k))), .int (jI 0)], aN (xg x) 0 a N f] rfl dJ35_normalize_87 rfl ?_
          exact sw_vret F rfl dJ35_normalize_90 (by rw [hPo]; exact ⟨n - k, 0, rfl, (by first | (rw [show n - k = 0 by omega]; exact nm_0) | exact nm_ok hf (by omega) (by omega) (hq.resolve_left (by omega))), (by first | (rw [show n - k = 0 by omega]; exact nm_z (fun j hj => hz j (by omega))) | exact mw_drop hz hk), (by first | omega | assumption), rfl⟩)
      refine sw_istore_n (n := 35) F (L2 := [(2, .int (jI ((↑o) + (↑n)))), (1, .int (jI (↑o))), (0, .ref q)]) rfl (by decide) rfl dJ35_normalize_34 rfl ?_
      have K35 : ∀ N35 : Nat, ∀ (k : Nat), (k < n) → (∀ j, j ≤ k → f (o + j) = 0) → ((n - k) < N35) → SW x [ob (xg x) q 19 [.ref a, .int (jI (↑n)), .int (jI (↑o))], aN (xg x) 0 a N f] 0 0 35 [(0, .ref q), (1, .int (jI (↑o + ↑k))), (2, .int (jI ((↑o) + (↑n))))] [] := by
        intro N35; induction N35 with
        | zero => intro k hk hz hmu35; omega
        | succ N35 ih35 =>
          intro k hk hz hmu35
          refine sw_iinc (n := 38) F 1 (L2 := [(1, .int (jI (↑o + ↑k + 1))), (0, .ref q), (2, .int (jI ((↑o) + (↑n))))]) rfl rfl (by decide) dJ35_normalize_35 rfl ?_
          refine sw_iload_n (n := 39) F 0 rfl rfl dJ35_normalize_38 rfl ?_
          refine sw_iload_n (n := 40) F 2 rfl rfl dJ35_normalize_39 rfl ?_
          refine sw_icmp_ge (n := 43) F (by omega) (by omega) (tgt := 52) dJ35_normalize_40 (by decide) rfl (fun c_40 => ?_) (fun c_40 => ?_)
          ·
            refine sw_loc [1, 0] (L2 := [(0, .ref q), (1, .int (jI (↑o + ↑k + 1)))]) rfl ?_
            rw [show (↑o + ↑k + 1 : Int) = ↑o + ↑(k + 1) by omega]
            exact K52 (k + 1) (by first | omega | assumption) (by intro j hj; exact hz j (by omega)) (by first | (left; omega) | (right; rw [show o + (k + 1) = o + k + 1 by omega]; omega))
          ·
            refine sw_aload_n (n := 44) F 1 (some q) rfl rfl rfl dJ35_normalize_43 rfl ?_
            refine sw_get (n := 47) F 0 rfl (k := 0) ⟨(RJ35, TJ35, 3), rfl, by decide, q1836, in_J35, Or.inl rfl⟩ rfl dJ35_normalize_44 rfl ?_
            refine sw_iload_n (n := 48) F 0 rfl rfl dJ35_normalize_47 rfl ?_
            refine sw_ialoadN (n := 49) F 1 rfl (fun _ => rfl) (o + k + 1) (by omega) (by omega) dJ35_normalize_48 rfl ?_
            have hb_y : f (o + k + 1) < 4294967296 := hf _ (by omega)
            refine sw_if_eqU (n := 52) F (by omega) (tgt := 35) dJ35_normalize_49 (by decide) rfl (fun c_49 => ?_) (fun c_49 => ?_)
            ·
              refine sw_loc [1, 0, 2] (L2 := [(0, .ref q), (1, .int (jI (↑o + ↑k + 1))), (2, .int (jI ((↑o) + (↑n))))]) rfl ?_
              rw [show (↑o + ↑k + 1 : Int) = ↑o + ↑(k + 1) by omega]
              exact ih35 (k + 1) (by first | omega | assumption) (by first | (intro j hj; rw [show o + j = o by omega]; omega) | (intro j hj; rcases Nat.lt_or_ge k j with c | c; rw [show o + j = o + k + 1 by omega]; omega; exact hz j c)) (by omega)
            ·
              refine sw_loc [1, 0] (L2 := [(0, .ref q), (1, .int (jI (↑o + ↑k + 1)))]) rfl ?_
              rw [show (↑o + ↑k + 1 : Int) = ↑o + ↑(k + 1) by omega]
              exact K52 (k + 1) (by first | omega | assumption) (by intro j hj; exact hz j (by omega)) (by first | (left; omega) | (right; rw [show o + (k + 1) = o + k + 1 by omega]; omega))
      refine sw_loc [2, 1, 0] (L2 := [(0, .ref q), (1, .int (jI (↑o))), (2, .int (jI ((↑o) + (↑n))))]) rfl ?_
      rw [show (↑o : Int) = ↑o + 0 by omega]
      exact K35 _ 0 (by first | omega | assumption) (by first | (intro j hj; rw [show o + j = o by omega]; omega) | (intro j hj; rcases Nat.lt_or_ge k j with c | c; rw [show o + j = o + k + 1 by omega]; omega; exact hz j c)) (Nat.lt_succ_self _)
    ·
      exact sw_vret F rfl dJ35_normalize_27 (by rw [hPo]; exact ⟨n, o, rfl, (by exact nm_ok (k := 0) hf (by omega) (by omega) (by rw [Nat.add_zero]; omega)), (by first | omega | assumption), (by first | omega | assumption), rfl⟩)
  ·
    refine sw_aload_n (n := 8) F 0 (some q) rfl rfl rfl dJ35_normalize_7 rfl ?_
    refine sw_iconst (n := 9) F (0) (by decide) dJ35_normalize_8 rfl ?_
    refine sw_put (n := 12) F 0 rfl (k := 2) ⟨(RJ35, TJ35, 3), rfl, by decide, q1838, in_J35, Or.inl rfl⟩ .int ⟨(RJ35, TJ35, 3), rfl, rfl, tyJ35_ok 2 (by decide), nmJ35, tyJ35, tyJ35_ok⟩ rfl rfl (Nat.le_of_ble_eq_true rfl) rfl [ob (xg x) q 19 [.ref a, .int (jI (↑n)), .int (jI 0)], aN (xg x) 0 a N f] rfl dJ35_normalize_9 rfl ?_
    exact sw_vret F rfl dJ35_normalize_12 (by rw [hPo]; exact ⟨n, 0, rfl, (by rw [show n = 0 by omega]; exact nm_0), (by rw [show n = 0 by omega]; rfl), (by first | omega | assumption), rfl⟩)
theorem nd_J35_unsignedLongCompare : yJ35_unsignedLongCompare.cls ≠ "java/lang/invoke/MethodHandle" ∧ yJ35_unsignedLongCompare.cls ≠ "java/lang/invoke/VarHandle" ∧ (parseMethodDescriptor yJ35_unsignedLongCompare.desc).map (fun d => d.parameters.length) = some 2 := by decide +kernel
set_option maxRecDepth 100000 in
set_option maxHeartbeats 16000000 in
theorem ct_J35_unsignedLongCompare {g : GG} {l : Launch} (q : Nat) (x_ : Nat) (y_ : Nat) (hx : x_ < 18446744073709551616) (hy : y_ < 18446744073709551616) : Ct g l yJ35_unsignedLongCompare (ws_ yJ35_unsignedLongCompare cJ35_unsignedLongCompare 5 (Option.some Jvm.ClassFile.FieldType.boolean)) 1 12 0 0 [.ref q, .long (jL (↑x_)), .long (jL (↑y_))] [] (fun v9 Ws9 => v9 = some (.int (jI (if y_ < x_ then 1 else 0))) ∧ Ws9 = []) (nox) := by
  refine Ct.of (cc := cJ35_unsignedLongCompare) (nL := 5) (ret := (Option.some Jvm.ClassFile.FieldType.boolean)) (by decide) rfl (Nat.le_of_ble_eq_true rfl) ?_
  intro x hg hl hPo hPx hmc hms F
  subst hg; subst hl
  refine SW.cast (L' := [(0, .ref q), (1, .long (jL (↑x_))), (3, .long (jL (↑y_)))]) ?_ rfl rfl rfl
  refine sw_lload_n (n := 1) F 1 rfl rfl dJ35_unsignedLongCompare_0 rfl ?_
  refine sw_ldc2 (n := 4) F (-9223372036854775808) q1904 (by decide) dJ35_unsignedLongCompare_1 rfl ?_
  refine sw_ladd (n := 5) F dJ35_unsignedLongCompare_4 rfl ?_
  refine sw_top (topLm (show ((↑x_) + (-9223372036854775808) : Int) % 18446744073709551616 = ((↑x_ : Int) - 9223372036854775808) % 18446744073709551616 by omega)) ?_
  refine sw_lload_n (n := 6) F 2 rfl rfl dJ35_unsignedLongCompare_5 rfl ?_
  refine sw_ldc2 (n := 9) F (-9223372036854775808) q1904 (by decide) dJ35_unsignedLongCompare_6 rfl ?_
  refine sw_ladd (n := 10) F dJ35_unsignedLongCompare_9 rfl ?_
  refine sw_top (topLm (show ((↑y_) + (-9223372036854775808) : Int) % 18446744073709551616 = ((↑y_ : Int) - 9223372036854775808) % 18446744073709551616 by omega)) ?_
  refine sw_lcmp (n := 11) F (by omega) (by omega) dJ35_unsignedLongCompare_10 rfl ?_
  refine sw_if_le (n := 14) F (by omega) (tgt := 18) dJ35_unsignedLongCompare_11 (by decide) rfl (fun c_11 => ?_) (fun c_11 => ?_)
  ·
    have c_11 : (↑x_ : Int) - 9223372036854775808 ≤ (↑y_ : Int) - 9223372036854775808 := by revert c_11; (repeat' split) <;> omega
    refine sw_iconst (n := 19) F (0) (by decide) dJ35_unsignedLongCompare_18 rfl ?_
    exact sw_iret F _ rfl (by first | rfl | exact jI_nz (by omega) | exact jI_nc (by omega)) dJ35_unsignedLongCompare_19 (by rw [hPo]; exact ⟨(by first | (rw [if_pos (by omega)]) | (rw [if_neg (by omega)])), rfl⟩)
  ·
    have c_11 : (↑x_ : Int) - 9223372036854775808 > (↑y_ : Int) - 9223372036854775808 := by revert c_11; (repeat' split) <;> omega
    refine sw_iconst (n := 15) F (1) (by decide) dJ35_unsignedLongCompare_14 rfl ?_
    refine sw_goto F (n := 19) dJ35_unsignedLongCompare_15 (by decide) ?_
    exact sw_iret F _ rfl (by first | rfl | exact jI_nz (by omega) | exact jI_nc (by omega)) dJ35_unsignedLongCompare_19 (by rw [hPo]; exact ⟨(by first | (rw [if_pos (by omega)]) | (rw [if_neg (by omega)])), rfl⟩)
theorem nd_J35_divWord : yJ35_divWord.cls ≠ "java/lang/invoke/MethodHandle" ∧ yJ35_divWord.cls ≠ "java/lang/invoke/VarHandle" ∧ (parseMethodDescriptor yJ35_divWord.desc).map (fun d => d.parameters.length) = some 2 := by decide +kernel
set_option maxRecDepth 100000 in
set_option maxHeartbeats 16000000 in
theorem ct_J35_divWord {g : GG} {l : Launch} (x_ : Nat) (d : Nat) (hx : 9223372036854775808 ≤ x_ ∧ x_ < 18446744073709551616) (hd : 0 < d ∧ d < 4294967296) (hq : x_ / d < 4294967296) : Ct g l yJ35_divWord (ws_ yJ35_divWord cJ35_divWord 9 (Option.some Jvm.ClassFile.FieldType.long)) 1 12 0 0 [.long (jL (↑x_)), .int (jI (↑d))] [] (fun v9 Ws9 => v9 = some (.long (jL (↑(x_ % d) * 4294967296 + ↑(x_ / d)))) ∧ Ws9 = []) (nox) := by
  refine Ct.of (cc := cJ35_divWord) (nL := 9) (ret := (Option.some Jvm.ClassFile.FieldType.long)) (by decide) rfl (Nat.le_of_ble_eq_true rfl) ?_
  intro x hg hl hPo hPx hmc hms F
  subst hg; subst hl
  refine SW.cast (L' := [(0, .long (jL (↑x_))), (2, .int (jI (↑d)))]) ?_ rfl rfl rfl
  have hda := dw_a hx.2 hx.1 hq hd
  obtain ⟨r0, hr0, h1_0, h2_0, h3_0⟩ := dw_0 hx.2 hda hd.2
  refine sw_iload_n (n := 1) F 1 rfl rfl dJ35_divWord_0 rfl ?_
  refine sw_i2lr (n := 2) F dJ35_divWord_1 rfl ?_
  refine sw_ldc2 (n := 5) F (4294967295) q1865 (by decide) dJ35_divWord_2 rfl ?_
  refine sw_land (n := 6) F (jL (↑d)) (jI_wordE (by omega)) dJ35_divWord_5 rfl ?_
  refine sw_lstore_n (n := 7) F (L2 := [(3, .long (jL (↑d))), (0, .long (jL (↑x_))), (2, .int (jI (↑d)))]) rfl (by decide) rfl dJ35_divWord_6 rfl ?_
  refine sw_lload_n (n := 8) F 0 rfl rfl dJ35_divWord_7 rfl ?_
  refine sw_lconst (n := 9) F 1 (by decide) dJ35_divWord_8 rfl ?_
  refine sw_lcmp (n := 10) F (by omega) (by decide) dJ35_divWord_9 rfl ?_
  refine sw_if_ne (n := 13) F (by omega) (tgt := 34) dJ35_divWord_10 (by decide) rfl (fun c_10 => ?_) (fun c_10 => ?_)
  ·
    have c_10 : ↑d ≠ 1 := by revert c_10; (repeat' split) <;> omega
    refine sw_lload_n (n := 35) F 1 rfl rfl dJ35_divWord_34 rfl ?_
    refine sw_iconst (n := 36) F (1) (by decide) dJ35_divWord_35 rfl ?_
    refine sw_lushr (n := 37) F (jL ((↑x_) % 18446744073709551616 / 2)) (by have h7s := jL_ushrcQ (↑x_) (c := 1) (P := 2) (k := 1) (by decide) (by decide) (by decide); exact h7s) dJ35_divWord_36 rfl ?_
    refine sw_lload_n (n := 38) F 0 rfl rfl dJ35_divWord_37 rfl ?_
    refine sw_iconst (n := 39) F (1) (by decide) dJ35_divWord_38 rfl ?_
    refine sw_lushr (n := 40) F (jL ((↑d) / 2)) (by have h7s := jL_ushrPQ (z := ↑d) (c := 1) (P := 2) (k := 1) (by omega) (by decide) (by decide) (by decide); exact h7s) dJ35_divWord_39 rfl ?_
    refine sw_ldivP (n := 41) F (by omega) (by omega) (by omega) dJ35_divWord_40 rfl ?_
    refine sw_top (topL (show (((↑x_) % 18446744073709551616 / 2) / ((↑d) / 2) : Int) = ↑(x_ / 2 / (d / 2)) by rw [Int.emod_eq_of_lt (by omega) (by omega), Int.natCast_ediv, Int.natCast_ediv, Int.natCast_ediv] <;> rfl)) ?_
    refine sw_lstore (n := 43) F (L2 := [(7, .long (jL (↑(x_ / 2 / (d / 2))))), (3, .long (jL (↑d))), (0, .long (jL (↑x_))), (2, .int (jI (↑d)))]) rfl (by decide) dJ35_divWord_41 rfl ?_
    refine sw_lload_n (n := 44) F 2 rfl rfl dJ35_divWord_43 rfl ?_
    refine sw_lload (n := 46) F 0 rfl dJ35_divWord_44 rfl ?_
    refine sw_lload_n (n := 47) F 1 rfl rfl dJ35_divWord_46 rfl ?_
    refine sw_lmul (n := 48) F dJ35_divWord_47 rfl ?_
    refine sw_lsub (n := 49) F dJ35_divWord_48 rfl ?_
    refine sw_top (topL (show ((↑x_) - ((↑(x_ / 2 / (d / 2))) * (↑d)) : Int) = r0 by exact hr0)) ?_
    refine sw_lstore (n := 51) F (L2 := [(5, .long (jL r0)), (7, .long (jL (↑(x_ / 2 / (d / 2))))), (3, .long (jL (↑d))), (0, .long (jL (↑x_))), (2, .int (jI (↑d)))]) rfl (by decide) dJ35_divWord_49 rfl ?_
    have K51 : ∀ N51 : Nat, ∀ (qq : Int) (r : Int), ((x_ : Int) = qq * d + r) → (-1000000000000 ≤ r ∧ r < d) → (((d - r).toNat) < N51) → SW x [] 0 0 51 [(3, .long (jL (↑d))), (5, .long (jL r)), (7, .long (jL qq))] [] := by
      intro N51; induction N51 with
      | zero => intro qq r hxr hr hmu51; omega
      | succ N51 ih51 =>
        intro qq r hxr hr hmu51
        have hqr := dw_q hx.2 hda hxr (by omega)
        refine sw_lload (n := 53) F 1 rfl dJ35_divWord_51 rfl ?_
        refine sw_lconst (n := 54) F 0 (by decide) dJ35_divWord_53 rfl ?_
        refine sw_lcmp (n := 55) F (by omega) (by decide) dJ35_divWord_54 rfl ?_
        refine sw_if_ge (n := 58) F (by omega) (tgt := 73) dJ35_divWord_55 (by decide) rfl (fun c_55 => ?_) (fun c_55 => ?_)
        ·
          have c_55 : r ≥ 0 := by revert c_55; (repeat' split) <;> omega
          have K73 : ∀ N73 : Nat, ∀ (qq : Int) (r : Int), ((x_ : Int) = qq * d + r) → (0 ≤ r ∧ r < d + d) → ((r.toNat) < N73) → SW x [] 0 0 73 [(3, .long (jL (↑d))), (5, .long (jL r)), (7, .long (jL qq))] [] := by
            intro N73; induction N73 with
            | zero => intro qq r hxr hr hmu73; omega
            | succ N73 ih73 =>
              intro qq r hxr hr hmu73
              have hqr := dw_q hx.2 hda hxr (by omega)
              refine sw_lload (n := 75) F 1 rfl dJ35_divWord_73 rfl ?_
              refine sw_lload_n (n := 76) F 0 rfl rfl dJ35_divWord_75 rfl ?_
              refine sw_lcmp (n := 77) F (by omega) (by omega) dJ35_divWord_76 rfl ?_
              refine sw_if_lt (n := 80) F (by omega) (tgt := 95) dJ35_divWord_77 (by decide) rfl (fun c_77 => ?_) (fun c_77 => ?_)
              ·
                have c_77 : r < ↑d := by revert c_77; (repeat' split) <;> omega
                have hend := dw_end hxr (by omega) (by omega)
                have hmR := Nat.mod_lt x_ hd.1
                refine sw_lload (n := 97) F 1 rfl dJ35_divWord_95 rfl ?_
                refine sw_bipush (n := 99) F (32) (by decide) dJ35_divWord_97 rfl ?_
                skip
                refine sw_lshl (n := 100) F (jL (r * 4294967296)) (by have h7s := jL_shlQ r (c := 32) (P := 4294967296) (k := 32) (by decide) (by decide) (by decide); exact h7s) dJ35_divWord_99 rfl ?_
                refine sw_lload (n := 102) F 2 rfl dJ35_divWord_100 rfl ?_
                refine sw_ldc2 (n := 105) F (4294967295) q1865 (by decide) dJ35_divWord_102 rfl ?_
                refine sw_land (n := 106) F (jL (qq % 4294967296)) (jL_and 32 (by decide) (by rfl)) dJ35_divWord_105 rfl ?_
                refine sw_lor (n := 107) F (jL (↑(x_ % d) * 4294967296 + ↑(x_ / d))) (by rw [hend.1, hend.2]; generalize x_ / d = Q at *; generalize x_ % d = R at *; rw [show (Q : Int) % 4294967296 = Q by omega]; exact jL_or 32 (by decide) (by omega) (by omega)) dJ35_divWord_106 rfl ?_
                exact sw_lret F rfl dJ35_divWord_107 (by rw [hPo]; exact ⟨rfl, rfl⟩)
              ·
                have c_77 : r ≥ ↑d := by revert c_77; (repeat' split) <;> omega
                refine sw_lload (n := 82) F 1 rfl dJ35_divWord_80 rfl ?_
                refine sw_lload_n (n := 83) F 0 rfl rfl dJ35_divWord_82 rfl ?_
                refine sw_lsub (n := 84) F dJ35_divWord_83 rfl ?_
                refine sw_lstore (n := 86) F (L2 := [(5, .long (jL (r - (↑d)))), (3, .long (jL (↑d))), (7, .long (jL qq))]) rfl (by decide) dJ35_divWord_84 rfl ?_
                refine sw_lload (n := 88) F 2 rfl dJ35_divWord_86 rfl ?_
                refine sw_lconst (n := 89) F 1 (by decide) dJ35_divWord_88 rfl ?_
                refine sw_ladd (n := 90) F dJ35_divWord_89 rfl ?_
                refine sw_lstore (n := 92) F (L2 := [(7, .long (jL (qq + 1))), (5, .long (jL (r - (↑d)))), (3, .long (jL (↑d)))]) rfl (by decide) dJ35_divWord_90 rfl ?_
                refine sw_goto F (n := 73) dJ35_divWord_92 (by decide) ?_
                refine sw_loc [2, 1, 0] (L2 := [(3, .long (jL (↑d))), (5, .long (jL (r - (↑d)))), (7, .long (jL (qq + 1)))]) rfl ?_
                exact ih73 (qq + 1) (r - (↑d)) (by first | omega | exact (dw_p hxr).1 | exact (dw_p hxr).2 | assumption) (by omega) (by omega)
          exact K73 _ qq r (by first | omega | exact (dw_p hxr).1 | exact (dw_p hxr).2 | assumption) (by omega) (Nat.lt_succ_self _)
        ·
          have c_55 : r < 0 := by revert c_55; (repeat' split) <;> omega
          refine sw_lload (n := 60) F 1 rfl dJ35_divWord_58 rfl ?_
          refine sw_lload_n (n := 61) F 0 rfl rfl dJ35_divWord_60 rfl ?_
          refine sw_ladd (n := 62) F dJ35_divWord_61 rfl ?_
          refine sw_lstore (n := 64) F (L2 := [(5, .long (jL (r + (↑d)))), (3, .long (jL (↑d))), (7, .long (jL qq))]) rfl (by decide) dJ35_divWord_62 rfl ?_
          refine sw_lload (n := 66) F 2 rfl dJ35_divWord_64 rfl ?_
          refine sw_lconst (n := 67) F 1 (by decide) dJ35_divWord_66 rfl ?_
          refine sw_lsub (n := 68) F dJ35_divWord_67 rfl ?_
          refine sw_lstore (n := 70) F (L2 := [(7, .long (jL (qq - 1))), (5, .long (jL (r + (↑d)))), (3, .long (jL (↑d)))]) rfl (by decide) dJ35_divWord_68 rfl ?_
          refine sw_goto F (n := 51) dJ35_divWord_70 (by decide) ?_
          refine sw_loc [2, 1, 0] (L2 := [(3, .long (jL (↑d))), (5, .long (jL (r + (↑d)))), (7, .long (jL (qq - 1)))]) rfl ?_
          exact ih51 (qq - 1) (r + (↑d)) (by first | omega | exact (dw_p hxr).1 | exact (dw_p hxr).2 | assumption) (by omega) (by omega)
    refine sw_loc [2, 0, 1] (L2 := [(3, .long (jL (↑d))), (5, .long (jL r0)), (7, .long (jL (↑(x_ / 2 / (d / 2)))))]) rfl ?_
    exact K51 _ (↑(x_ / 2 / (d / 2))) r0 (by first | omega | exact (dw_p hxr).1 | exact (dw_p hxr).2 | assumption) (by omega) (Nat.lt_succ_self _)
  · exfalso; omega
