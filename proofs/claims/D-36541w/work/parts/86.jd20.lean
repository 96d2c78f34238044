set_option maxRecDepth 100000
def dkwJ22_numberOfTrailingZeros_3 : List UInt8 := [5, 124, 59, 27, 26, 4, 124, 96, 172]
abbrev dktJ22_numberOfTrailingZeros_3 : List UInt8 := dkwJ22_numberOfTrailingZeros_3 ++ []
def dkwJ22_numberOfTrailingZeros_2 : List UInt8 := [124, 59, 26, 16, 16, 164, 0, 10, 132, 1, 4, 26, 7, 124, 59, 26, 7, 164, 0, 10, 132, 1, 2, 26]
abbrev dktJ22_numberOfTrailingZeros_2 : List UInt8 := dkwJ22_numberOfTrailingZeros_2 ++ dktJ22_numberOfTrailingZeros_3
def dkwJ22_numberOfTrailingZeros_1 : List UInt8 := [164, 0, 11, 132, 1, 16, 26, 16, 16, 124, 59, 26, 17, 1, 0, 164, 0, 11, 132, 1, 8, 26, 16, 8]
abbrev dktJ22_numberOfTrailingZeros_1 : List UInt8 := dkwJ22_numberOfTrailingZeros_1 ++ dktJ22_numberOfTrailingZeros_2
def dkwJ22_numberOfTrailingZeros_0 : List UInt8 := [26, 2, 130, 26, 4, 100, 126, 59, 26, 157, 0, 8, 26, 16, 32, 126, 172, 4, 60, 26, 19, 1, 8]
abbrev dktJ22_numberOfTrailingZeros_0 : List UInt8 := dkwJ22_numberOfTrailingZeros_0 ++ dktJ22_numberOfTrailingZeros_1
theorem dksJ22_numberOfTrailingZeros_0 : cJ22_numberOfTrailingZeros.data.toList.drop 0 = dktJ22_numberOfTrailingZeros_0 := by decide +kernel
theorem dksJ22_numberOfTrailingZeros_1 : cJ22_numberOfTrailingZeros.data.toList.drop 23 = dktJ22_numberOfTrailingZeros_1 := dk_seg dksJ22_numberOfTrailingZeros_0 23 rfl rfl
theorem dksJ22_numberOfTrailingZeros_2 : cJ22_numberOfTrailingZeros.data.toList.drop 47 = dktJ22_numberOfTrailingZeros_2 := dk_seg dksJ22_numberOfTrailingZeros_1 24 rfl rfl
theorem dksJ22_numberOfTrailingZeros_3 : cJ22_numberOfTrailingZeros.data.toList.drop 71 = dktJ22_numberOfTrailingZeros_3 := dk_seg dksJ22_numberOfTrailingZeros_2 24 rfl rfl
theorem dJ22_numberOfTrailingZeros_0 : decode cJ22_numberOfTrailingZeros 0 = .ok (.iload_n 0, 1) := dk_26 (dk_at dksJ22_numberOfTrailingZeros_0 0 rfl rfl)
theorem dJ22_numberOfTrailingZeros_1 : decode cJ22_numberOfTrailingZeros 1 = .ok (.iconst (-1), 1) := dk_2 (dk_at dksJ22_numberOfTrailingZeros_0 1 rfl rfl)
theorem dJ22_numberOfTrailingZeros_2 : decode cJ22_numberOfTrailingZeros 2 = .ok (.ixor, 1) := dk_130 (dk_at dksJ22_numberOfTrailingZeros_0 2 rfl rfl)
theorem dJ22_numberOfTrailingZeros_3 : decode cJ22_numberOfTrailingZeros 3 = .ok (.iload_n 0, 1) := dk_26 (dk_at dksJ22_numberOfTrailingZeros_0 3 rfl rfl)
theorem dJ22_numberOfTrailingZeros_4 : decode cJ22_numberOfTrailingZeros 4 = .ok (.iconst 1, 1) := dk_4 (dk_at dksJ22_numberOfTrailingZeros_0 4 rfl rfl)
theorem dJ22_numberOfTrailingZeros_5 : decode cJ22_numberOfTrailingZeros 5 = .ok (.isub, 1) := dk_100 (dk_at dksJ22_numberOfTrailingZeros_0 5 rfl rfl)
theorem dJ22_numberOfTrailingZeros_6 : decode cJ22_numberOfTrailingZeros 6 = .ok (.iand, 1) := dk_126 (dk_at dksJ22_numberOfTrailingZeros_0 6 rfl rfl)
theorem dJ22_numberOfTrailingZeros_7 : decode cJ22_numberOfTrailingZeros 7 = .ok (.istore_n 0, 1) := dk_59 (dk_at dksJ22_numberOfTrailingZeros_0 7 rfl rfl)
theorem dJ22_numberOfTrailingZeros_8 : decode cJ22_numberOfTrailingZeros 8 = .ok (.iload_n 0, 1) := dk_26 (dk_at dksJ22_numberOfTrailingZeros_0 8 rfl rfl)
theorem dJ22_numberOfTrailingZeros_9 : decode cJ22_numberOfTrailingZeros 9 = .ok (.ifCond .gt 8, 3) := dk_157 0 8 (dk_at dksJ22_numberOfTrailingZeros_0 9 rfl rfl)
theorem dJ22_numberOfTrailingZeros_12 : decode cJ22_numberOfTrailingZeros 12 = .ok (.iload_n 0, 1) := dk_26 (dk_at dksJ22_numberOfTrailingZeros_0 12 rfl rfl)
theorem dJ22_numberOfTrailingZeros_13 : decode cJ22_numberOfTrailingZeros 13 = .ok (.bipush 32, 2) := dk_16 32 (dk_at dksJ22_numberOfTrailingZeros_0 13 rfl rfl)
theorem dJ22_numberOfTrailingZeros_15 : decode cJ22_numberOfTrailingZeros 15 = .ok (.iand, 1) := dk_126 (dk_at dksJ22_numberOfTrailingZeros_0 15 rfl rfl)
theorem dJ22_numberOfTrailingZeros_16 : decode cJ22_numberOfTrailingZeros 16 = .ok (.ireturn, 1) := dk_172 (dk_at dksJ22_numberOfTrailingZeros_0 16 rfl rfl)
theorem dJ22_numberOfTrailingZeros_17 : decode cJ22_numberOfTrailingZeros 17 = .ok (.iconst 1, 1) := dk_4 (dk_at dksJ22_numberOfTrailingZeros_0 17 rfl rfl)
theorem dJ22_numberOfTrailingZeros_18 : decode cJ22_numberOfTrailingZeros 18 = .ok (.istore_n 1, 1) := dk_60 (dk_at dksJ22_numberOfTrailingZeros_0 18 rfl rfl)
theorem dJ22_numberOfTrailingZeros_19 : decode cJ22_numberOfTrailingZeros 19 = .ok (.iload_n 0, 1) := dk_26 (dk_at dksJ22_numberOfTrailingZeros_0 19 rfl rfl)
theorem dJ22_numberOfTrailingZeros_20 : decode cJ22_numberOfTrailingZeros 20 = .ok (.ldc_w 264, 3) := dk_19 1 8 (dk_at dksJ22_numberOfTrailingZeros_0 20 rfl rfl)
theorem dJ22_numberOfTrailingZeros_23 : decode cJ22_numberOfTrailingZeros 23 = .ok (.if_icmp .le 11, 3) := dk_164 0 11 (dk_at dksJ22_numberOfTrailingZeros_1 0 rfl rfl)
theorem dJ22_numberOfTrailingZeros_26 : decode cJ22_numberOfTrailingZeros 26 = .ok (.iinc 1 16, 3) := dk_132 1 16 (dk_at dksJ22_numberOfTrailingZeros_1 3 rfl rfl)
theorem dJ22_numberOfTrailingZeros_29 : decode cJ22_numberOfTrailingZeros 29 = .ok (.iload_n 0, 1) := dk_26 (dk_at dksJ22_numberOfTrailingZeros_1 6 rfl rfl)
theorem dJ22_numberOfTrailingZeros_30 : decode cJ22_numberOfTrailingZeros 30 = .ok (.bipush 16, 2) := dk_16 16 (dk_at dksJ22_numberOfTrailingZeros_1 7 rfl rfl)
theorem dJ22_numberOfTrailingZeros_32 : decode cJ22_numberOfTrailingZeros 32 = .ok (.iushr, 1) := dk_124 (dk_at dksJ22_numberOfTrailingZeros_1 9 rfl rfl)
theorem dJ22_numberOfTrailingZeros_33 : decode cJ22_numberOfTrailingZeros 33 = .ok (.istore_n 0, 1) := dk_59 (dk_at dksJ22_numberOfTrailingZeros_1 10 rfl rfl)
theorem dJ22_numberOfTrailingZeros_34 : decode cJ22_numberOfTrailingZeros 34 = .ok (.iload_n 0, 1) := dk_26 (dk_at dksJ22_numberOfTrailingZeros_1 11 rfl rfl)
theorem dJ22_numberOfTrailingZeros_35 : decode cJ22_numberOfTrailingZeros 35 = .ok (.sipush 256, 3) := dk_17 1 0 (dk_at dksJ22_numberOfTrailingZeros_1 12 rfl rfl)
theorem dJ22_numberOfTrailingZeros_38 : decode cJ22_numberOfTrailingZeros 38 = .ok (.if_icmp .le 11, 3) := dk_164 0 11 (dk_at dksJ22_numberOfTrailingZeros_1 15 rfl rfl)
theorem dJ22_numberOfTrailingZeros_41 : decode cJ22_numberOfTrailingZeros 41 = .ok (.iinc 1 8, 3) := dk_132 1 8 (dk_at dksJ22_numberOfTrailingZeros_1 18 rfl rfl)
theorem dJ22_numberOfTrailingZeros_44 : decode cJ22_numberOfTrailingZeros 44 = .ok (.iload_n 0, 1) := dk_26 (dk_at dksJ22_numberOfTrailingZeros_1 21 rfl rfl)
theorem dJ22_numberOfTrailingZeros_45 : decode cJ22_numberOfTrailingZeros 45 = .ok (.bipush 8, 2) := dk_16 8 (dk_at dksJ22_numberOfTrailingZeros_1 22 rfl rfl)
theorem dJ22_numberOfTrailingZeros_47 : decode cJ22_numberOfTrailingZeros 47 = .ok (.iushr, 1) := dk_124 (dk_at dksJ22_numberOfTrailingZeros_2 0 rfl rfl)
theorem dJ22_numberOfTrailingZeros_48 : decode cJ22_numberOfTrailingZeros 48 = .ok (.istore_n 0, 1) := dk_59 (dk_at dksJ22_numberOfTrailingZeros_2 1 rfl rfl)
theorem dJ22_numberOfTrailingZeros_49 : decode cJ22_numberOfTrailingZeros 49 = .ok (.iload_n 0, 1) := dk_26 (dk_at dksJ22_numberOfTrailingZeros_2 2 rfl rfl)
theorem dJ22_numberOfTrailingZeros_50 : decode cJ22_numberOfTrailingZeros 50 = .ok (.bipush 16, 2) := dk_16 16 (dk_at dksJ22_numberOfTrailingZeros_2 3 rfl rfl)
theorem dJ22_numberOfTrailingZeros_52 : decode cJ22_numberOfTrailingZeros 52 = .ok (.if_icmp .le 10, 3) := dk_164 0 10 (dk_at dksJ22_numberOfTrailingZeros_2 5 rfl rfl)
theorem dJ22_numberOfTrailingZeros_55 : decode cJ22_numberOfTrailingZeros 55 = .ok (.iinc 1 4, 3) := dk_132 1 4 (dk_at dksJ22_numberOfTrailingZeros_2 8 rfl rfl)
theorem dJ22_numberOfTrailingZeros_58 : decode cJ22_numberOfTrailingZeros 58 = .ok (.iload_n 0, 1) := dk_26 (dk_at dksJ22_numberOfTrailingZeros_2 11 rfl rfl)
theorem dJ22_numberOfTrailingZeros_59 : decode cJ22_numberOfTrailingZeros 59 = .ok (.iconst 4, 1) := dk_7 (dk_at dksJ22_numberOfTrailingZeros_2 12 rfl rfl)
theorem dJ22_numberOfTrailingZeros_60 : decode cJ22_numberOfTrailingZeros 60 = .ok (.iushr, 1) := dk_124 (dk_at dksJ22_numberOfTrailingZeros_2 13 rfl rfl)
theorem dJ22_numberOfTrailingZeros_61 : decode cJ22_numberOfTrailingZeros 61 = .ok (.istore_n 0, 1) := dk_59 (dk_at dksJ22_numberOfTrailingZeros_2 14 rfl rfl)
theorem dJ22_numberOfTrailingZeros_62 : decode cJ22_numberOfTrailingZeros 62 = .ok (.iload_n 0, 1) := dk_26 (dk_at dksJ22_numberOfTrailingZeros_2 15 rfl rfl)
theorem dJ22_numberOfTrailingZeros_63 : decode cJ22_numberOfTrailingZeros 63 = .ok (.iconst 4, 1) := dk_7 (dk_at dksJ22_numberOfTrailingZeros_2 16 rfl rfl)
theorem dJ22_numberOfTrailingZeros_64 : decode cJ22_numberOfTrailingZeros 64 = .ok (.if_icmp .le 10, 3) := dk_164 0 10 (dk_at dksJ22_numberOfTrailingZeros_2 17 rfl rfl)
theorem dJ22_numberOfTrailingZeros_67 : decode cJ22_numberOfTrailingZeros 67 = .ok (.iinc 1 2, 3) := dk_132 1 2 (dk_at dksJ22_numberOfTrailingZeros_2 20 rfl rfl)
theorem dJ22_numberOfTrailingZeros_70 : decode cJ22_numberOfTrailingZeros 70 = .ok (.iload_n 0, 1) := dk_26 (dk_at dksJ22_numberOfTrailingZeros_2 23 rfl rfl)
theorem dJ22_numberOfTrailingZeros_71 : decode cJ22_numberOfTrailingZeros 71 = .ok (.iconst 2, 1) := dk_5 (dk_at dksJ22_numberOfTrailingZeros_3 0 rfl rfl)
theorem dJ22_numberOfTrailingZeros_72 : decode cJ22_numberOfTrailingZeros 72 = .ok (.iushr, 1) := dk_124 (dk_at dksJ22_numberOfTrailingZeros_3 1 rfl rfl)
theorem dJ22_numberOfTrailingZeros_73 : decode cJ22_numberOfTrailingZeros 73 = .ok (.istore_n 0, 1) := dk_59 (dk_at dksJ22_numberOfTrailingZeros_3 2 rfl rfl)
theorem dJ22_numberOfTrailingZeros_74 : decode cJ22_numberOfTrailingZeros 74 = .ok (.iload_n 1, 1) := dk_27 (dk_at dksJ22_numberOfTrailingZeros_3 3 rfl rfl)
theorem dJ22_numberOfTrailingZeros_75 : decode cJ22_numberOfTrailingZeros 75 = .ok (.iload_n 0, 1) := dk_26 (dk_at dksJ22_numberOfTrailingZeros_3 4 rfl rfl)
theorem dJ22_numberOfTrailingZeros_76 : decode cJ22_numberOfTrailingZeros 76 = .ok (.iconst 1, 1) := dk_4 (dk_at dksJ22_numberOfTrailingZeros_3 5 rfl rfl)
theorem dJ22_numberOfTrailingZeros_77 : decode cJ22_numberOfTrailingZeros 77 = .ok (.iushr, 1) := dk_124 (dk_at dksJ22_numberOfTrailingZeros_3 6 rfl rfl)
theorem dJ22_numberOfTrailingZeros_78 : decode cJ22_numberOfTrailingZeros 78 = .ok (.iadd, 1) := dk_96 (dk_at dksJ22_numberOfTrailingZeros_3 7 rfl rfl)
theorem dJ22_numberOfTrailingZeros_79 : decode cJ22_numberOfTrailingZeros 79 = .ok (.ireturn, 1) := dk_172 (dk_at dksJ22_numberOfTrailingZeros_3 8 rfl rfl)
def dkwJ35_toBigInteger_1 : List UInt8 := [183, 0, 62, 176]
abbrev dktJ35_toBigInteger_1 : List UInt8 := dkwJ35_toBigInteger_1 ++ []
def dkwJ35_toBigInteger_0 : List UInt8 := [42, 180, 0, 21, 153, 0, 7, 27, 154, 0, 7, 178, 0, 54, 176, 187, 0, 1, 89, 42, 182, 0, 58, 27]
abbrev dktJ35_toBigInteger_0 : List UInt8 := dkwJ35_toBigInteger_0 ++ dktJ35_toBigInteger_1
theorem dksJ35_toBigInteger_0 : cJ35_toBigInteger.data.toList.drop 0 = dktJ35_toBigInteger_0 := by decide +kernel
theorem dksJ35_toBigInteger_1 : cJ35_toBigInteger.data.toList.drop 24 = dktJ35_toBigInteger_1 := dk_seg dksJ35_toBigInteger_0 24 rfl rfl
theorem dJ35_toBigInteger_0 : decode cJ35_toBigInteger 0 = .ok (.aload_n 0, 1) := dk_42 (dk_at dksJ35_toBigInteger_0 0 rfl rfl)
theorem dJ35_toBigInteger_1 : decode cJ35_toBigInteger 1 = .ok (.getfield 21, 3) := dk_180 0 21 (dk_at dksJ35_toBigInteger_0 1 rfl rfl)
theorem dJ35_toBigInteger_4 : decode cJ35_toBigInteger 4 = .ok (.ifCond .eq 7, 3) := dk_153 0 7 (dk_at dksJ35_toBigInteger_0 4 rfl rfl)
theorem dJ35_toBigInteger_7 : decode cJ35_toBigInteger 7 = .ok (.iload_n 1, 1) := dk_27 (dk_at dksJ35_toBigInteger_0 7 rfl rfl)
theorem dJ35_toBigInteger_8 : decode cJ35_toBigInteger 8 = .ok (.ifCond .ne 7, 3) := dk_154 0 7 (dk_at dksJ35_toBigInteger_0 8 rfl rfl)
theorem dJ35_toBigInteger_11 : decode cJ35_toBigInteger 11 = .ok (.getstatic 54, 3) := dk_178 0 54 (dk_at dksJ35_toBigInteger_0 11 rfl rfl)
theorem dJ35_toBigInteger_14 : decode cJ35_toBigInteger 14 = .ok (.areturn, 1) := dk_176 (dk_at dksJ35_toBigInteger_0 14 rfl rfl)
theorem dJ35_toBigInteger_15 : decode cJ35_toBigInteger 15 = .ok (.new 1, 3) := dk_187 0 1 (dk_at dksJ35_toBigInteger_0 15 rfl rfl)
theorem dJ35_toBigInteger_18 : decode cJ35_toBigInteger 18 = .ok (.dup, 1) := dk_89 (dk_at dksJ35_toBigInteger_0 18 rfl rfl)
theorem dJ35_toBigInteger_19 : decode cJ35_toBigInteger 19 = .ok (.aload_n 0, 1) := dk_42 (dk_at dksJ35_toBigInteger_0 19 rfl rfl)
theorem dJ35_toBigInteger_20 : decode cJ35_toBigInteger 20 = .ok (.invokevirtual 58, 3) := dk_182 0 58 (dk_at dksJ35_toBigInteger_0 20 rfl rfl)
theorem dJ35_toBigInteger_23 : decode cJ35_toBigInteger 23 = .ok (.iload_n 1, 1) := dk_27 (dk_at dksJ35_toBigInteger_0 23 rfl rfl)
theorem dJ35_toBigInteger_24 : decode cJ35_toBigInteger 24 = .ok (.invokespecial 62, 3) := dk_183 0 62 (dk_at dksJ35_toBigInteger_1 0 rfl rfl)
theorem dJ35_toBigInteger_27 : decode cJ35_toBigInteger 27 = .ok (.areturn, 1) := dk_176 (dk_at dksJ35_toBigInteger_1 3 rfl rfl)
def dkwJ35_getLowestSetBit_3 : List UInt8 := [184, 0, 89, 96, 172]
abbrev dktJ35_getLowestSetBit_3 : List UInt8 := dkwJ35_getLowestSetBit_3 ++ []
def dkwJ35_getLowestSetBit_2 : List UInt8 := [180, 0, 11, 96, 46, 61, 28, 154, 0, 5, 2, 172, 42, 180, 0, 21, 4, 100, 27, 100, 8, 120, 28]
abbrev dktJ35_getLowestSetBit_2 : List UInt8 := dkwJ35_getLowestSetBit_2 ++ dktJ35_getLowestSetBit_3
def dkwJ35_getLowestSetBit_1 : List UInt8 := [27, 42, 180, 0, 11, 96, 46, 154, 0, 9, 132, 1, 255, 167, 255, 235, 42, 180, 0, 17, 27, 42]
abbrev dktJ35_getLowestSetBit_1 : List UInt8 := dkwJ35_getLowestSetBit_1 ++ dktJ35_getLowestSetBit_2
def dkwJ35_getLowestSetBit_0 : List UInt8 := [42, 180, 0, 21, 154, 0, 5, 2, 172, 42, 180, 0, 21, 4, 100, 60, 27, 158, 0, 23, 42, 180, 0, 17]
abbrev dktJ35_getLowestSetBit_0 : List UInt8 := dkwJ35_getLowestSetBit_0 ++ dktJ35_getLowestSetBit_1
theorem dksJ35_getLowestSetBit_0 : cJ35_getLowestSetBit.data.toList.drop 0 = dktJ35_getLowestSetBit_0 := by decide +kernel
theorem dksJ35_getLowestSetBit_1 : cJ35_getLowestSetBit.data.toList.drop 24 = dktJ35_getLowestSetBit_1 := dk_seg dksJ35_getLowestSetBit_0 24 rfl rfl
theorem dksJ35_getLowestSetBit_2 : cJ35_getLowestSetBit.data.toList.drop 46 = dktJ35_getLowestSetBit_2 := dk_seg dksJ35_getLowestSetBit_1 22 rfl rfl
theorem dksJ35_getLowestSetBit_3 : cJ35_getLowestSetBit.data.toList.drop 69 = dktJ35_getLowestSetBit_3 := dk_seg dksJ35_getLowestSetBit_2 23 rfl rfl
theorem dJ35_getLowestSetBit_0 : decode cJ35_getLowestSetBit 0 = .ok (.aload_n 0, 1) := dk_42 (dk_at dksJ35_getLowestSetBit_0 0 rfl rfl)
theorem dJ35_getLowestSetBit_1 : decode cJ35_getLowestSetBit 1 = .ok (.getfield 21, 3) := dk_180 0 21 (dk_at dksJ35_getLowestSetBit_0 1 rfl rfl)
theorem dJ35_getLowestSetBit_4 : decode cJ35_getLowestSetBit 4 = .ok (.ifCond .ne 5, 3) := dk_154 0 5 (dk_at dksJ35_getLowestSetBit_0 4 rfl rfl)
theorem dJ35_getLowestSetBit_7 : decode cJ35_getLowestSetBit 7 = .ok (.iconst (-1), 1) := dk_2 (dk_at dksJ35_getLowestSetBit_0 7 rfl rfl)
theorem dJ35_getLowestSetBit_8 : decode cJ35_getLowestSetBit 8 = .ok (.ireturn, 1) := dk_172 (dk_at dksJ35_getLowestSetBit_0 8 rfl rfl)
theorem dJ35_getLowestSetBit_9 : decode cJ35_getLowestSetBit 9 = .ok (.aload_n 0, 1) := dk_42 (dk_at dksJ35_getLowestSetBit_0 9 rfl rfl)
theorem dJ35_getLowestSetBit_10 : decode cJ35_getLowestSetBit 10 = .ok (.getfield 21, 3) := dk_180 0 21 (dk_at dksJ35_getLowestSetBit_0 10 rfl rfl)
theorem dJ35_getLowestSetBit_13 : decode cJ35_getLowestSetBit 13 = .ok (.iconst 1, 1) := dk_4 (dk_at dksJ35_getLowestSetBit_0 13 rfl rfl)
theorem dJ35_getLowestSetBit_14 : decode cJ35_getLowestSetBit 14 = .ok (.isub, 1) := dk_100 (dk_at dksJ35_getLowestSetBit_0 14 rfl rfl)
theorem dJ35_getLowestSetBit_15 : decode cJ35_getLowestSetBit 15 = .ok (.istore_n 1, 1) := dk_60 (dk_at dksJ35_getLowestSetBit_0 15 rfl rfl)
theorem dJ35_getLowestSetBit_16 : decode cJ35_getLowestSetBit 16 = .ok (.iload_n 1, 1) := dk_27 (dk_at dksJ35_getLowestSetBit_0 16 rfl rfl)
theorem dJ35_getLowestSetBit_17 : decode cJ35_getLowestSetBit 17 = .ok (.ifCond .le 23, 3) := dk_158 0 23 (dk_at dksJ35_getLowestSetBit_0 17 rfl rfl)
theorem dJ35_getLowestSetBit_20 : decode cJ35_getLowestSetBit 20 = .ok (.aload_n 0, 1) := dk_42 (dk_at dksJ35_getLowestSetBit_0 20 rfl rfl)
theorem dJ35_getLowestSetBit_21 : decode cJ35_getLowestSetBit 21 = .ok (.getfield 17, 3) := dk_180 0 17 (dk_at dksJ35_getLowestSetBit_0 21 rfl rfl)
theorem dJ35_getLowestSetBit_24 : decode cJ35_getLowestSetBit 24 = .ok (.iload_n 1, 1) := dk_27 (dk_at dksJ35_getLowestSetBit_1 0 rfl rfl)
theorem dJ35_getLowestSetBit_25 : decode cJ35_getLowestSetBit 25 = .ok (.aload_n 0, 1) := dk_42 (dk_at dksJ35_getLowestSetBit_1 1 rfl rfl)
theorem dJ35_getLowestSetBit_26 : decode cJ35_getLowestSetBit 26 = .ok (.getfield 11, 3) := dk_180 0 11 (dk_at dksJ35_getLowestSetBit_1 2 rfl rfl)
theorem dJ35_getLowestSetBit_29 : decode cJ35_getLowestSetBit 29 = .ok (.iadd, 1) := dk_96 (dk_at dksJ35_getLowestSetBit_1 5 rfl rfl)
theorem dJ35_getLowestSetBit_30 : decode cJ35_getLowestSetBit 30 = .ok (.iaload, 1) := dk_46 (dk_at dksJ35_getLowestSetBit_1 6 rfl rfl)
theorem dJ35_getLowestSetBit_31 : decode cJ35_getLowestSetBit 31 = .ok (.ifCond .ne 9, 3) := dk_154 0 9 (dk_at dksJ35_getLowestSetBit_1 7 rfl rfl)
theorem dJ35_getLowestSetBit_34 : decode cJ35_getLowestSetBit 34 = .ok (.iinc 1 (-1), 3) := dk_132 1 255 (dk_at dksJ35_getLowestSetBit_1 10 rfl rfl)
theorem dJ35_getLowestSetBit_37 : decode cJ35_getLowestSetBit 37 = .ok (.goto (-21), 3) := dk_167 255 235 (dk_at dksJ35_getLowestSetBit_1 13 rfl rfl)
theorem dJ35_getLowestSetBit_40 : decode cJ35_getLowestSetBit 40 = .ok (.aload_n 0, 1) := dk_42 (dk_at dksJ35_getLowestSetBit_1 16 rfl rfl)
theorem dJ35_getLowestSetBit_41 : decode cJ35_getLowestSetBit 41 = .ok (.getfield 17, 3) := dk_180 0 17 (dk_at dksJ35_getLowestSetBit_1 17 rfl rfl)
theorem dJ35_getLowestSetBit_44 : decode cJ35_getLowestSetBit 44 = .ok (.iload_n 1, 1) := dk_27 (dk_at dksJ35_getLowestSetBit_1 20 rfl rfl)
theorem dJ35_getLowestSetBit_45 : decode cJ35_getLowestSetBit 45 = .ok (.aload_n 0, 1) := dk_42 (dk_at dksJ35_getLowestSetBit_1 21 rfl rfl)
theorem dJ35_getLowestSetBit_46 : decode cJ35_getLowestSetBit 46 = .ok (.getfield 11, 3) := dk_180 0 11 (dk_at dksJ35_getLowestSetBit_2 0 rfl rfl)
theorem dJ35_getLowestSetBit_49 : decode cJ35_getLowestSetBit 49 = .ok (.iadd, 1) := dk_96 (dk_at dksJ35_getLowestSetBit_2 3 rfl rfl)
theorem dJ35_getLowestSetBit_50 : decode cJ35_getLowestSetBit 50 = .ok (.iaload, 1) := dk_46 (dk_at dksJ35_getLowestSetBit_2 4 rfl rfl)
theorem dJ35_getLowestSetBit_51 : decode cJ35_getLowestSetBit 51 = .ok (.istore_n 2, 1) := dk_61 (dk_at dksJ35_getLowestSetBit_2 5 rfl rfl)
theorem dJ35_getLowestSetBit_52 : decode cJ35_getLowestSetBit 52 = .ok (.iload_n 2, 1) := dk_28 (dk_at dksJ35_getLowestSetBit_2 6 rfl rfl)
theorem dJ35_getLowestSetBit_53 : decode cJ35_getLowestSetBit 53 = .ok (.ifCond .ne 5, 3) := dk_154 0 5 (dk_at dksJ35_getLowestSetBit_2 7 rfl rfl)
theorem dJ35_getLowestSetBit_56 : decode cJ35_getLowestSetBit 56 = .ok (.iconst (-1), 1) := dk_2 (dk_at dksJ35_getLowestSetBit_2 10 rfl rfl)
theorem dJ35_getLowestSetBit_57 : decode cJ35_getLowestSetBit 57 = .ok (.ireturn, 1) := dk_172 (dk_at dksJ35_getLowestSetBit_2 11 rfl rfl)
theorem dJ35_getLowestSetBit_58 : decode cJ35_getLowestSetBit 58 = .ok (.aload_n 0, 1) := dk_42 (dk_at dksJ35_getLowestSetBit_2 12 rfl rfl)
theorem dJ35_getLowestSetBit_59 : decode cJ35_getLowestSetBit 59 = .ok (.getfield 21, 3) := dk_180 0 21 (dk_at dksJ35_getLowestSetBit_2 13 rfl rfl)
theorem dJ35_getLowestSetBit_62 : decode cJ35_getLowestSetBit 62 = .ok (.iconst 1, 1) := dk_4 (dk_at dksJ35_getLowestSetBit_2 16 rfl rfl)
theorem dJ35_getLowestSetBit_63 : decode cJ35_getLowestSetBit 63 = .ok (.isub, 1) := dk_100 (dk_at dksJ35_getLowestSetBit_2 17 rfl rfl)
theorem dJ35_getLowestSetBit_64 : decode cJ35_getLowestSetBit 64 = .ok (.iload_n 1, 1) := dk_27 (dk_at dksJ35_getLowestSetBit_2 18 rfl rfl)
theorem dJ35_getLowestSetBit_65 : decode cJ35_getLowestSetBit 65 = .ok (.isub, 1) := dk_100 (dk_at dksJ35_getLowestSetBit_2 19 rfl rfl)
theorem dJ35_getLowestSetBit_66 : decode cJ35_getLowestSetBit 66 = .ok (.iconst 5, 1) := dk_8 (dk_at dksJ35_getLowestSetBit_2 20 rfl rfl)
theorem dJ35_getLowestSetBit_67 : decode cJ35_getLowestSetBit 67 = .ok (.ishl, 1) := dk_120 (dk_at dksJ35_getLowestSetBit_2 21 rfl rfl)
theorem dJ35_getLowestSetBit_68 : decode cJ35_getLowestSetBit 68 = .ok (.iload_n 2, 1) := dk_28 (dk_at dksJ35_getLowestSetBit_2 22 rfl rfl)
theorem dJ35_getLowestSetBit_69 : decode cJ35_getLowestSetBit 69 = .ok (.invokestatic 89, 3) := dk_184 0 89 (dk_at dksJ35_getLowestSetBit_3 0 rfl rfl)
theorem dJ35_getLowestSetBit_72 : decode cJ35_getLowestSetBit 72 = .ok (.iadd, 1) := dk_96 (dk_at dksJ35_getLowestSetBit_3 3 rfl rfl)
theorem dJ35_getLowestSetBit_73 : decode cJ35_getLowestSetBit 73 = .ok (.ireturn, 1) := dk_172 (dk_at dksJ35_getLowestSetBit_3 4 rfl rfl)
def dkwJ35_init_5_1 : List UInt8 := [180, 0, 21, 184, 0, 27, 181, 0, 17, 177]
abbrev dktJ35_init_5_1 : List UInt8 := dkwJ35_init_5_1 ++ []
def dkwJ35_init_5_0 : List UInt8 := [42, 183, 0, 5, 42, 3, 181, 0, 11, 42, 43, 180, 0, 24, 190, 181, 0, 21, 42, 43, 180, 0, 24, 42]
abbrev dktJ35_init_5_0 : List UInt8 := dkwJ35_init_5_0 ++ dktJ35_init_5_1
theorem dksJ35_init_5_0 : cJ35_init_5.data.toList.drop 0 = dktJ35_init_5_0 := by decide +kernel
theorem dksJ35_init_5_1 : cJ35_init_5.data.toList.drop 24 = dktJ35_init_5_1 := dk_seg dksJ35_init_5_0 24 rfl rfl
theorem dJ35_init_5_0 : decode cJ35_init_5 0 = .ok (.aload_n 0, 1) := dk_42 (dk_at dksJ35_init_5_0 0 rfl rfl)
theorem dJ35_init_5_1 : decode cJ35_init_5 1 = .ok (.invokespecial 5, 3) := dk_183 0 5 (dk_at dksJ35_init_5_0 1 rfl rfl)
theorem dJ35_init_5_4 : decode cJ35_init_5 4 = .ok (.aload_n 0, 1) := dk_42 (dk_at dksJ35_init_5_0 4 rfl rfl)
theorem dJ35_init_5_5 : decode cJ35_init_5 5 = .ok (.iconst 0, 1) := dk_3 (dk_at dksJ35_init_5_0 5 rfl rfl)
theorem dJ35_init_5_6 : decode cJ35_init_5 6 = .ok (.putfield 11, 3) := dk_181 0 11 (dk_at dksJ35_init_5_0 6 rfl rfl)
theorem dJ35_init_5_9 : decode cJ35_init_5 9 = .ok (.aload_n 0, 1) := dk_42 (dk_at dksJ35_init_5_0 9 rfl rfl)
theorem dJ35_init_5_10 : decode cJ35_init_5 10 = .ok (.aload_n 1, 1) := dk_43 (dk_at dksJ35_init_5_0 10 rfl rfl)
theorem dJ35_init_5_11 : decode cJ35_init_5 11 = .ok (.getfield 24, 3) := dk_180 0 24 (dk_at dksJ35_init_5_0 11 rfl rfl)
theorem dJ35_init_5_14 : decode cJ35_init_5 14 = .ok (.arraylength, 1) := dk_190 (dk_at dksJ35_init_5_0 14 rfl rfl)
theorem dJ35_init_5_15 : decode cJ35_init_5 15 = .ok (.putfield 21, 3) := dk_181 0 21 (dk_at dksJ35_init_5_0 15 rfl rfl)
theorem dJ35_init_5_18 : decode cJ35_init_5 18 = .ok (.aload_n 0, 1) := dk_42 (dk_at dksJ35_init_5_0 18 rfl rfl)
theorem dJ35_init_5_19 : decode cJ35_init_5 19 = .ok (.aload_n 1, 1) := dk_43 (dk_at dksJ35_init_5_0 19 rfl rfl)
theorem dJ35_init_5_20 : decode cJ35_init_5 20 = .ok (.getfield 24, 3) := dk_180 0 24 (dk_at dksJ35_init_5_0 20 rfl rfl)
theorem dJ35_init_5_23 : decode cJ35_init_5 23 = .ok (.aload_n 0, 1) := dk_42 (dk_at dksJ35_init_5_0 23 rfl rfl)
theorem dJ35_init_5_24 : decode cJ35_init_5 24 = .ok (.getfield 21, 3) := dk_180 0 21 (dk_at dksJ35_init_5_1 0 rfl rfl)
theorem dJ35_init_5_27 : decode cJ35_init_5 27 = .ok (.invokestatic 27, 3) := dk_184 0 27 (dk_at dksJ35_init_5_1 3 rfl rfl)
theorem dJ35_init_5_30 : decode cJ35_init_5 30 = .ok (.putfield 17, 3) := dk_181 0 17 (dk_at dksJ35_init_5_1 6 rfl rfl)
theorem dJ35_init_5_33 : decode cJ35_init_5 33 = .ok (.return_, 1) := dk_177 (dk_at dksJ35_init_5_1 9 rfl rfl)
def dkwJ35_binaryGcd_3 : List UInt8 := [27, 26, 100, 60, 27, 27, 184, 0, 89, 124, 60, 167, 255, 215, 26, 21, 4, 120, 172]
abbrev dktJ35_binaryGcd_3 : List UInt8 := dkwJ35_binaryGcd_3 ++ []
def dkwJ35_binaryGcd_2 : List UInt8 := [18, 88, 96, 27, 18, 88, 96, 164, 0, 17, 26, 27, 100, 59, 26, 26, 184, 0, 89, 124, 59, 167, 255, 229]
abbrev dktJ35_binaryGcd_2 : List UInt8 := dkwJ35_binaryGcd_2 ++ dktJ35_binaryGcd_3
def dkwJ35_binaryGcd_1 : List UInt8 := [124, 59, 27, 29, 124, 60, 28, 29, 162, 0, 7, 28, 167, 0, 4, 29, 54, 4, 26, 27, 159, 0, 42, 26]
abbrev dktJ35_binaryGcd_1 : List UInt8 := dkwJ35_binaryGcd_1 ++ dktJ35_binaryGcd_2
def dkwJ35_binaryGcd_0 : List UInt8 := [27, 154, 0, 5, 26, 172, 26, 154, 0, 5, 27, 172, 26, 184, 0, 89, 61, 27, 184, 0, 89, 62, 26, 28]
abbrev dktJ35_binaryGcd_0 : List UInt8 := dkwJ35_binaryGcd_0 ++ dktJ35_binaryGcd_1
theorem dksJ35_binaryGcd_0 : cJ35_binaryGcd.data.toList.drop 0 = dktJ35_binaryGcd_0 := by decide +kernel
theorem dksJ35_binaryGcd_1 : cJ35_binaryGcd.data.toList.drop 24 = dktJ35_binaryGcd_1 := dk_seg dksJ35_binaryGcd_0 24 rfl rfl
theorem dksJ35_binaryGcd_2 : cJ35_binaryGcd.data.toList.drop 48 = dktJ35_binaryGcd_2 := dk_seg dksJ35_binaryGcd_1 24 rfl rfl
theorem dksJ35_binaryGcd_3 : cJ35_binaryGcd.data.toList.drop 72 = dktJ35_binaryGcd_3 := dk_seg dksJ35_binaryGcd_2 24 rfl rfl
theorem dJ35_binaryGcd_0 : decode cJ35_binaryGcd 0 = .ok (.iload_n 1, 1) := dk_27 (dk_at dksJ35_binaryGcd_0 0 rfl rfl)
theorem dJ35_binaryGcd_1 : decode cJ35_binaryGcd 1 = .ok (.ifCond .ne 5, 3) := dk_154 0 5 (dk_at dksJ35_binaryGcd_0 1 rfl rfl)
theorem dJ35_binaryGcd_4 : decode cJ35_binaryGcd 4 = .ok (.iload_n 0, 1) := dk_26 (dk_at dksJ35_binaryGcd_0 4 rfl rfl)
theorem dJ35_binaryGcd_5 : decode cJ35_binaryGcd 5 = .ok (.ireturn, 1) := dk_172 (dk_at dksJ35_binaryGcd_0 5 rfl rfl)
theorem dJ35_binaryGcd_6 : decode cJ35_binaryGcd 6 = .ok (.iload_n 0, 1) := dk_26 (dk_at dksJ35_binaryGcd_0 6 rfl rfl)
theorem dJ35_binaryGcd_7 : decode cJ35_binaryGcd 7 = .ok (.ifCond .ne 5, 3) := dk_154 0 5 (dk_at dksJ35_binaryGcd_0 7 rfl rfl)
theorem dJ35_binaryGcd_10 : decode cJ35_binaryGcd 10 = .ok (.iload_n 1, 1) := dk_27 (dk_at dksJ35_binaryGcd_0 10 rfl rfl)
theorem dJ35_binaryGcd_11 : decode cJ35_binaryGcd 11 = .ok (.ireturn, 1) := dk_172 (dk_at dksJ35_binaryGcd_0 11 rfl rfl)
theorem dJ35_binaryGcd_12 : decode cJ35_binaryGcd 12 = .ok (.iload_n 0, 1) := dk_26 (dk_at dksJ35_binaryGcd_0 12 rfl rfl)
theorem dJ35_binaryGcd_13 : decode cJ35_binaryGcd 13 = .ok (.invokestatic 89, 3) := dk_184 0 89 (dk_at dksJ35_binaryGcd_0 13 rfl rfl)
theorem dJ35_binaryGcd_16 : decode cJ35_binaryGcd 16 = .ok (.istore_n 2, 1) := dk_61 (dk_at dksJ35_binaryGcd_0 16 rfl rfl)
theorem dJ35_binaryGcd_17 : decode cJ35_binaryGcd 17 = .ok (.iload_n 1, 1) := dk_27 (dk_at dksJ35_binaryGcd_0 17 rfl rfl)
theorem dJ35_binaryGcd_18 : decode cJ35_binaryGcd 18 = .ok (.invokestatic 89, 3) := dk_184 0 89 (dk_at dksJ35_binaryGcd_0 18 rfl rfl)
theorem dJ35_binaryGcd_21 : decode cJ35_binaryGcd 21 = .ok (.istore_n 3, 1) := dk_62 (dk_at dksJ35_binaryGcd_0 21 rfl rfl)
theorem dJ35_binaryGcd_22 : decode cJ35_binaryGcd 22 = .ok (.iload_n 0, 1) := dk_26 (dk_at dksJ35_binaryGcd_0 22 rfl rfl)
theorem dJ35_binaryGcd_23 : decode cJ35_binaryGcd 23 = .ok (.iload_n 2, 1) := dk_28 (dk_at dksJ35_binaryGcd_0 23 rfl rfl)
theorem dJ35_binaryGcd_24 : decode cJ35_binaryGcd 24 = .ok (.iushr, 1) := dk_124 (dk_at dksJ35_binaryGcd_1 0 rfl rfl)
theorem dJ35_binaryGcd_25 : decode cJ35_binaryGcd 25 = .ok (.istore_n 0, 1) := dk_59 (dk_at dksJ35_binaryGcd_1 1 rfl rfl)
theorem dJ35_binaryGcd_26 : decode cJ35_binaryGcd 26 = .ok (.iload_n 1, 1) := dk_27 (dk_at dksJ35_binaryGcd_1 2 rfl rfl)
theorem dJ35_binaryGcd_27 : decode cJ35_binaryGcd 27 = .ok (.iload_n 3, 1) := dk_29 (dk_at dksJ35_binaryGcd_1 3 rfl rfl)
theorem dJ35_binaryGcd_28 : decode cJ35_binaryGcd 28 = .ok (.iushr, 1) := dk_124 (dk_at dksJ35_binaryGcd_1 4 rfl rfl)
theorem dJ35_binaryGcd_29 : decode cJ35_binaryGcd 29 = .ok (.istore_n 1, 1) := dk_60 (dk_at dksJ35_binaryGcd_1 5 rfl rfl)
theorem dJ35_binaryGcd_30 : decode cJ35_binaryGcd 30 = .ok (.iload_n 2, 1) := dk_28 (dk_at dksJ35_binaryGcd_1 6 rfl rfl)
theorem dJ35_binaryGcd_31 : decode cJ35_binaryGcd 31 = .ok (.iload_n 3, 1) := dk_29 (dk_at dksJ35_binaryGcd_1 7 rfl rfl)
theorem dJ35_binaryGcd_32 : decode cJ35_binaryGcd 32 = .ok (.if_icmp .ge 7, 3) := dk_162 0 7 (dk_at dksJ35_binaryGcd_1 8 rfl rfl)
theorem dJ35_binaryGcd_35 : decode cJ35_binaryGcd 35 = .ok (.iload_n 2, 1) := dk_28 (dk_at dksJ35_binaryGcd_1 11 rfl rfl)
theorem dJ35_binaryGcd_36 : decode cJ35_binaryGcd 36 = .ok (.goto 4, 3) := dk_167 0 4 (dk_at dksJ35_binaryGcd_1 12 rfl rfl)
theorem dJ35_binaryGcd_39 : decode cJ35_binaryGcd 39 = .ok (.iload_n 3, 1) := dk_29 (dk_at dksJ35_binaryGcd_1 15 rfl rfl)
theorem dJ35_binaryGcd_40 : decode cJ35_binaryGcd 40 = .ok (.istore 4, 2) := dk_54 4 (dk_at dksJ35_binaryGcd_1 16 rfl rfl)
theorem dJ35_binaryGcd_42 : decode cJ35_binaryGcd 42 = .ok (.iload_n 0, 1) := dk_26 (dk_at dksJ35_binaryGcd_1 18 rfl rfl)
theorem dJ35_binaryGcd_43 : decode cJ35_binaryGcd 43 = .ok (.iload_n 1, 1) := dk_27 (dk_at dksJ35_binaryGcd_1 19 rfl rfl)
theorem dJ35_binaryGcd_44 : decode cJ35_binaryGcd 44 = .ok (.if_icmp .eq 42, 3) := dk_159 0 42 (dk_at dksJ35_binaryGcd_1 20 rfl rfl)
theorem dJ35_binaryGcd_47 : decode cJ35_binaryGcd 47 = .ok (.iload_n 0, 1) := dk_26 (dk_at dksJ35_binaryGcd_1 23 rfl rfl)
theorem dJ35_binaryGcd_48 : decode cJ35_binaryGcd 48 = .ok (.ldc 88, 2) := dk_18 88 (dk_at dksJ35_binaryGcd_2 0 rfl rfl)
theorem dJ35_binaryGcd_50 : decode cJ35_binaryGcd 50 = .ok (.iadd, 1) := dk_96 (dk_at dksJ35_binaryGcd_2 2 rfl rfl)
theorem dJ35_binaryGcd_51 : decode cJ35_binaryGcd 51 = .ok (.iload_n 1, 1) := dk_27 (dk_at dksJ35_binaryGcd_2 3 rfl rfl)
theorem dJ35_binaryGcd_52 : decode cJ35_binaryGcd 52 = .ok (.ldc 88, 2) := dk_18 88 (dk_at dksJ35_binaryGcd_2 4 rfl rfl)
theorem dJ35_binaryGcd_54 : decode cJ35_binaryGcd 54 = .ok (.iadd, 1) := dk_96 (dk_at dksJ35_binaryGcd_2 6 rfl rfl)
theorem dJ35_binaryGcd_55 : decode cJ35_binaryGcd 55 = .ok (.if_icmp .le 17, 3) := dk_164 0 17 (dk_at dksJ35_binaryGcd_2 7 rfl rfl)
theorem dJ35_binaryGcd_58 : decode cJ35_binaryGcd 58 = .ok (.iload_n 0, 1) := dk_26 (dk_at dksJ35_binaryGcd_2 10 rfl rfl)
theorem dJ35_binaryGcd_59 : decode cJ35_binaryGcd 59 = .ok (.iload_n 1, 1) := dk_27 (dk_at dksJ35_binaryGcd_2 11 rfl rfl)
theorem dJ35_binaryGcd_60 : decode cJ35_binaryGcd 60 = .ok (.isub, 1) := dk_100 (dk_at dksJ35_binaryGcd_2 12 rfl rfl)
theorem dJ35_binaryGcd_61 : decode cJ35_binaryGcd 61 = .ok (.istore_n 0, 1) := dk_59 (dk_at dksJ35_binaryGcd_2 13 rfl rfl)
theorem dJ35_binaryGcd_62 : decode cJ35_binaryGcd 62 = .ok (.iload_n 0, 1) := dk_26 (dk_at dksJ35_binaryGcd_2 14 rfl rfl)
theorem dJ35_binaryGcd_63 : decode cJ35_binaryGcd 63 = .ok (.iload_n 0, 1) := dk_26 (dk_at dksJ35_binaryGcd_2 15 rfl rfl)
theorem dJ35_binaryGcd_64 : decode cJ35_binaryGcd 64 = .ok (.invokestatic 89, 3) := dk_184 0 89 (dk_at dksJ35_binaryGcd_2 16 rfl rfl)
theorem dJ35_binaryGcd_67 : decode cJ35_binaryGcd 67 = .ok (.iushr, 1) := dk_124 (dk_at dksJ35_binaryGcd_2 19 rfl rfl)
theorem dJ35_binaryGcd_68 : decode cJ35_binaryGcd 68 = .ok (.istore_n 0, 1) := dk_59 (dk_at dksJ35_binaryGcd_2 20 rfl rfl)
theorem dJ35_binaryGcd_69 : decode cJ35_binaryGcd 69 = .ok (.goto (-27), 3) := dk_167 255 229 (dk_at dksJ35_binaryGcd_2 21 rfl rfl)
theorem dJ35_binaryGcd_72 : decode cJ35_binaryGcd 72 = .ok (.iload_n 1, 1) := dk_27 (dk_at dksJ35_binaryGcd_3 0 rfl rfl)
theorem dJ35_binaryGcd_73 : decode cJ35_binaryGcd 73 = .ok (.iload_n 0, 1) := dk_26 (dk_at dksJ35_binaryGcd_3 1 rfl rfl)
theorem dJ35_binaryGcd_74 : decode cJ35_binaryGcd 74 = .ok (.isub, 1) := dk_100 (dk_at dksJ35_binaryGcd_3 2 rfl rfl)
theorem dJ35_binaryGcd_75 : decode cJ35_binaryGcd 75 = .ok (.istore_n 1, 1) := dk_60 (dk_at dksJ35_binaryGcd_3 3 rfl rfl)
theorem dJ35_binaryGcd_76 : decode cJ35_binaryGcd 76 = .ok (.iload_n 1, 1) := dk_27 (dk_at dksJ35_binaryGcd_3 4 rfl rfl)
theorem dJ35_binaryGcd_77 : decode cJ35_binaryGcd 77 = .ok (.iload_n 1, 1) := dk_27 (dk_at dksJ35_binaryGcd_3 5 rfl rfl)
theorem dJ35_binaryGcd_78 : decode cJ35_binaryGcd 78 = .ok (.invokestatic 89, 3) := dk_184 0 89 (dk_at dksJ35_binaryGcd_3 6 rfl rfl)
theorem dJ35_binaryGcd_81 : decode cJ35_binaryGcd 81 = .ok (.iushr, 1) := dk_124 (dk_at dksJ35_binaryGcd_3 9 rfl rfl)
theorem dJ35_binaryGcd_82 : decode cJ35_binaryGcd 82 = .ok (.istore_n 1, 1) := dk_60 (dk_at dksJ35_binaryGcd_3 10 rfl rfl)
theorem dJ35_binaryGcd_83 : decode cJ35_binaryGcd 83 = .ok (.goto (-41), 3) := dk_167 255 215 (dk_at dksJ35_binaryGcd_3 11 rfl rfl)
theorem dJ35_binaryGcd_86 : decode cJ35_binaryGcd 86 = .ok (.iload_n 0, 1) := dk_26 (dk_at dksJ35_binaryGcd_3 14 rfl rfl)
theorem dJ35_binaryGcd_87 : decode cJ35_binaryGcd 87 = .ok (.iload 4, 2) := dk_21 4 (dk_at dksJ35_binaryGcd_3 15 rfl rfl)
theorem dJ35_binaryGcd_89 : decode cJ35_binaryGcd 89 = .ok (.ishl, 1) := dk_120 (dk_at dksJ35_binaryGcd_3 17 rfl rfl)
theorem dJ35_binaryGcd_90 : decode cJ35_binaryGcd 90 = .ok (.ireturn, 1) := dk_172 (dk_at dksJ35_binaryGcd_3 18 rfl rfl)
theorem and_step (a b : Nat) : a &&& b = 2 * ((a / 2) &&& (b / 2)) + (if a % 2 = 1 ∧ b % 2 = 1 then 1 else 0) := by
  have h1 := Nat.and_div_two (a := a) (b := b)
  have h2 := Nat.and_mod_two_eq_one (a := a) (b := b)
  rw [← h1]
  split
  · have := h2.mpr (by assumption); omega
  · have : ¬ (a &&& b) % 2 = 1 := fun k => absurd (h2.mp k) (by assumption)
    omega
theorem not_and0 : ∀ (w x : Nat), x < 2 ^ w → (2 ^ w - 1 - x) &&& x = 0 := by
  intro w
  induction w with
  | zero => intro x h; rw [show x = 0 by simpa using h]; rfl
  | succ w ih =>
    intro x h
    rw [Nat.pow_succ] at h ⊢
    rw [and_step, show (2 ^ w * 2 - 1 - x) / 2 = 2 ^ w - 1 - x / 2 by omega, ih (x / 2) (by omega), if_neg (by omega)]
theorem not_ls : ∀ (w x : Nat), 0 < x → x < 2 ^ w → (2 ^ w - 1 - x) &&& (x - 1) = 2 ^ fac 2 x - 1 := by
  intro w
  induction w with
  | zero => intro x h0 h; simp at h; omega
  | succ w ih =>
    intro x h0 h
    rw [Nat.pow_succ] at h ⊢
    rw [and_step]
    rcases (show x % 2 = 1 ∨ x % 2 = 0 by omega) with e | e
    · rw [show (2 ^ w * 2 - 1 - x) / 2 = 2 ^ w - 1 - x / 2 by omega, show (x - 1) / 2 = x / 2 by omega, not_and0 w (x / 2) (by omega), if_neg (by omega), fac_0 (by omega)]
    · have h1 := ih (x / 2) (by omega) (by omega)
      rw [show (2 ^ w * 2 - 1 - x) / 2 = 2 ^ w - 1 - x / 2 by omega, show (x - 1) / 2 = x / 2 - 1 by omega, h1, if_pos (by omega), fac_s (n := x) (by omega), Nat.pow_succ]
      have : 0 < 2 ^ fac 2 (x / 2) := Nat.pow_pos (by decide)
      omega
theorem jI_andN {a b : Nat} (ha : a < 4294967296) (hb : b < 4294967296) : jI (a : Int) &&& jI (b : Int) = jI ((a &&& b : Nat) : Int) := by
  have hc : a &&& b < 4294967296 := Nat.lt_of_le_of_lt Nat.and_le_left ha
  apply jI_ext
  show ((jI (a : Int)).toBitVec &&& (jI (b : Int)).toBitVec).toNat = _
  rw [BitVec.toNat_and, jI_tn, jI_tn, Int.emod_eq_of_lt (by omega) (by omega), Int.emod_eq_of_lt (by omega) (by omega), Int.emod_eq_of_lt (by omega) (by omega)]
  rfl
theorem ntz_c : ∀ t, t < 32 → (t = 0 ∧ 2 ^ t - 1 = 0) ∨ (t = 1 ∧ 2 ^ t - 1 = 1) ∨ (t = 2 ∧ 2 ^ t - 1 = 3) ∨ (t = 3 ∧ 2 ^ t - 1 = 7) ∨ (t = 4 ∧ 2 ^ t - 1 = 15) ∨ (t = 5 ∧ 2 ^ t - 1 = 31) ∨ (t = 6 ∧ 2 ^ t - 1 = 63) ∨ (t = 7 ∧ 2 ^ t - 1 = 127) ∨ (t = 8 ∧ 2 ^ t - 1 = 255) ∨ (t = 9 ∧ 2 ^ t - 1 = 511) ∨ (t = 10 ∧ 2 ^ t - 1 = 1023) ∨ (t = 11 ∧ 2 ^ t - 1 = 2047) ∨ (t = 12 ∧ 2 ^ t - 1 = 4095) ∨ (t = 13 ∧ 2 ^ t - 1 = 8191) ∨ (t = 14 ∧ 2 ^ t - 1 = 16383) ∨ (t = 15 ∧ 2 ^ t - 1 = 32767) ∨ (t = 16 ∧ 2 ^ t - 1 = 65535) ∨ (t = 17 ∧ 2 ^ t - 1 = 131071) ∨ (t = 18 ∧ 2 ^ t - 1 = 262143) ∨ (t = 19 ∧ 2 ^ t - 1 = 524287) ∨ (t = 20 ∧ 2 ^ t - 1 = 1048575) ∨ (t = 21 ∧ 2 ^ t - 1 = 2097151) ∨ (t = 22 ∧ 2 ^ t - 1 = 4194303) ∨ (t = 23 ∧ 2 ^ t - 1 = 8388607) ∨ (t = 24 ∧ 2 ^ t - 1 = 16777215) ∨ (t = 25 ∧ 2 ^ t - 1 = 33554431) ∨ (t = 26 ∧ 2 ^ t - 1 = 67108863) ∨ (t = 27 ∧ 2 ^ t - 1 = 134217727) ∨ (t = 28 ∧ 2 ^ t - 1 = 268435455) ∨ (t = 29 ∧ 2 ^ t - 1 = 536870911) ∨ (t = 30 ∧ 2 ^ t - 1 = 1073741823) ∨ (t = 31 ∧ 2 ^ t - 1 = 2147483647) := by
  intro t ht
  match t, ht with
  | 0, _ => exact Or.inl ⟨rfl, by decide⟩
  | 1, _ => exact Or.inr (Or.inl ⟨rfl, by decide⟩)
  | 2, _ => exact Or.inr (Or.inr (Or.inl ⟨rfl, by decide⟩))
  | 3, _ => exact Or.inr (Or.inr (Or.inr (Or.inl ⟨rfl, by decide⟩)))
  | 4, _ => exact Or.inr (Or.inr (Or.inr (Or.inr (Or.inl ⟨rfl, by decide⟩))))
  | 5, _ => exact Or.inr (Or.inr (Or.inr (Or.inr (Or.inr (Or.inl ⟨rfl, by decide⟩)))))
  | 6, _ => exact Or.inr (Or.inr (Or.inr (Or.inr (Or.inr (Or.inr (Or.inl ⟨rfl, by decide⟩))))))
  | 7, _ => exact Or.inr (Or.inr (Or.inr (Or.inr (Or.inr (Or.inr (Or.inr (Or.inl ⟨rfl, by decide⟩)))))))
  | 8, _ => exact Or.inr (Or.inr (Or.inr (Or.inr (Or.inr (Or.inr (Or.inr (Or.inr (Or.inl ⟨rfl, by decide⟩))))))))
  | 9, _ => exact Or.inr (Or.inr (Or.inr (Or.inr (Or.inr (Or.inr (Or.inr (Or.inr (Or.inr (Or.inl ⟨rfl, by decide⟩)))))))))
  | 10, _ => exact Or.inr (Or.inr (Or.inr (Or.inr (Or.inr (Or.inr (Or.inr (Or.inr (Or.inr (Or.inr (Or.inl ⟨rfl, by decide⟩))))))))))
  | 11, _ => exact Or.inr (Or.inr (Or.inr (Or.inr (Or.inr (Or.inr (Or.inr (Or.inr (Or.inr (Or.inr (Or.inr (Or.inl ⟨rfl, by decide⟩)))))))))))
  | 12, _ => exact Or.inr (Or.inr (Or.inr (Or.inr (Or.inr (Or.inr (Or.inr (Or.inr (Or.inr (Or.inr (Or.inr (Or.inr (Or.inl ⟨rfl, by decide⟩))))))))))))
  | 13, _ => exact Or.inr (Or.inr (Or.inr (Or.inr (Or.inr (Or.inr (Or.inr (Or.inr (Or.inr (Or.inr (Or.inr (Or.inr (Or.inr (Or.inl ⟨rfl, by decide⟩)))))))))))))
  | 14, _ => exact Or.inr (Or.inr (Or.inr (Or.inr (Or.inr (Or.inr (Or.inr (Or.inr (Or.inr (Or.inr (Or.inr (Or.inr (Or.inr (Or.inr (Or.inl ⟨rfl, by decide⟩))))))))))))))
  | 15, _ => exact Or.inr (Or.inr (Or.inr (Or.inr (Or.inr (Or.inr (Or.inr (Or.inr (Or.inr (Or.inr (Or.inr (Or.inr (Or.inr (Or.inr (Or.inr (Or.inl ⟨rfl, by decide⟩)))))))))))))))
  | 16, _ => exact Or.inr (Or.inr (Or.inr (Or.inr (Or.inr (Or.inr (Or.inr (Or.inr (Or.inr (Or.inr (Or.inr (Or.inr (Or.inr (Or.inr (Or.inr (Or.inr (Or.inl ⟨rfl, by decide⟩))))))))))))))))
  | 17, _ => exact Or.inr (Or.inr (Or.inr (Or.inr (Or.inr (Or.inr (Or.inr (Or.inr (Or.inr (Or.inr (Or.inr (Or.inr (Or.inr (Or.inr (Or.inr (Or.inr (Or.inr (Or.inl ⟨rfl, by decide⟩)))))))))))))))))
  | 18, _ => exact Or.inr (Or.inr (Or.inr (Or.inr (Or.inr (Or.inr (Or.inr (Or.inr (Or.inr (Or.inr (Or.inr (Or.inr (Or.inr (Or.inr (Or.inr (Or.inr (Or.inr (Or.inr (Or.inl ⟨rfl, by decide⟩))))))))))))))))))
  | 19, _ => exact Or.inr (Or.inr (Or.inr (Or.inr (Or.inr (Or.inr (Or.inr (Or.inr (Or.inr (Or.inr (Or.inr (Or.inr (Or.inr (Or.inr (Or.inr (Or.inr (Or.inr (Or.inr (Or.inr (Or.inl ⟨rfl, by decide⟩)))))))))))))))))))
  | 20, _ => exact Or.inr (Or.inr (Or.inr (Or.inr (Or.inr (Or.inr (Or.inr (Or.inr (Or.inr (Or.inr (Or.inr (Or.inr (Or.inr (Or.inr (Or.inr (Or.inr (Or.inr (Or.inr (Or.inr (Or.inr (Or.inl ⟨rfl, by decide⟩))))))))))))))))))))
  | 21, _ => exact Or.inr (Or.inr (Or.inr (Or.inr (Or.inr (Or.inr (Or.inr (Or.inr (Or.inr (Or.inr (Or.inr (Or.inr (Or.inr (Or.inr (Or.inr (Or.inr (Or.inr (Or.inr (Or.inr (Or.inr (Or.inr (Or.inl ⟨rfl, by decide⟩)))))))))))))))))))))
  | 22, _ => exact Or.inr (Or.inr (Or.inr (Or.inr (Or.inr (Or.inr (Or.inr (Or.inr (Or.inr (Or.inr (Or.inr (Or.inr (Or.inr (Or.inr (Or.inr (Or.inr (Or.inr (Or.inr (Or.inr (Or.inr (Or.inr (Or.inr (Or.inl ⟨rfl, by decide⟩))))))))))))))))))))))
  | 23, _ => exact Or.inr (Or.inr (Or.inr (Or.inr (Or.inr (Or.inr (Or.inr (Or.inr (Or.inr (Or.inr (Or.inr (Or.inr (Or.inr (Or.inr (Or.inr (Or.inr (Or.inr (Or.inr (Or.inr (Or.inr (Or.inr (Or.inr (Or.inr (Or.inl ⟨rfl, by decide⟩)))))))))))))))))))))))
  | 24, _ => exact Or.inr (Or.inr (Or.inr (Or.inr (Or.inr (Or.inr (Or.inr (Or.inr (Or.inr (Or.inr (Or.inr (Or.inr (Or.inr (Or.inr (Or.inr (Or.inr (Or.inr (Or.inr (Or.inr (Or.inr (Or.inr (Or.inr (Or.inr (Or.inr (Or.inl ⟨rfl, by decide⟩))))))))))))))))))))))))
  | 25, _ => exact Or.inr (Or.inr (Or.inr (Or.inr (Or.inr (Or.inr (Or.inr (Or.inr (Or.inr (Or.inr (Or.inr (Or.inr (Or.inr (Or.inr (Or.inr (Or.inr (Or.inr (Or.inr (Or.inr (Or.inr (Or.inr (Or.inr (Or.inr (Or.inr (Or.inr (Or.inl ⟨rfl, by decide⟩)))))))))))))))))))))))))
  | 26, _ => exact Or.inr (Or.inr (Or.inr (Or.inr (Or.inr (Or.inr (Or.inr (Or.inr (Or.inr (Or.inr (Or.inr (Or.inr (Or.inr (Or.inr (Or.inr (Or.inr (Or.inr (Or.inr (Or.inr (Or.inr (Or.inr (Or.inr (Or.inr (Or.inr (Or.inr (Or.inr (Or.inl ⟨rfl, by decide⟩))))))))))))))))))))))))))
  | 27, _ => exact Or.inr (Or.inr (Or.inr (Or.inr (Or.inr (Or.inr (Or.inr (Or.inr (Or.inr (Or.inr (Or.inr (Or.inr (Or.inr (Or.inr (Or.inr (Or.inr (Or.inr (Or.inr (Or.inr (Or.inr (Or.inr (Or.inr (Or.inr (Or.inr (Or.inr (Or.inr (Or.inr (Or.inl ⟨rfl, by decide⟩)))))))))))))))))))))))))))
  | 28, _ => exact Or.inr (Or.inr (Or.inr (Or.inr (Or.inr (Or.inr (Or.inr (Or.inr (Or.inr (Or.inr (Or.inr (Or.inr (Or.inr (Or.inr (Or.inr (Or.inr (Or.inr (Or.inr (Or.inr (Or.inr (Or.inr (Or.inr (Or.inr (Or.inr (Or.inr (Or.inr (Or.inr (Or.inr (Or.inl ⟨rfl, by decide⟩))))))))))))))))))))))))))))
  | 29, _ => exact Or.inr (Or.inr (Or.inr (Or.inr (Or.inr (Or.inr (Or.inr (Or.inr (Or.inr (Or.inr (Or.inr (Or.inr (Or.inr (Or.inr (Or.inr (Or.inr (Or.inr (Or.inr (Or.inr (Or.inr (Or.inr (Or.inr (Or.inr (Or.inr (Or.inr (Or.inr (Or.inr (Or.inr (Or.inr (Or.inl ⟨rfl, by decide⟩)))))))))))))))))))))))))))))
  | 30, _ => exact Or.inr (Or.inr (Or.inr (Or.inr (Or.inr (Or.inr (Or.inr (Or.inr (Or.inr (Or.inr (Or.inr (Or.inr (Or.inr (Or.inr (Or.inr (Or.inr (Or.inr (Or.inr (Or.inr (Or.inr (Or.inr (Or.inr (Or.inr (Or.inr (Or.inr (Or.inr (Or.inr (Or.inr (Or.inr (Or.inr (Or.inl ⟨rfl, by decide⟩))))))))))))))))))))))))))))))
  | 31, _ => exact Or.inr (Or.inr (Or.inr (Or.inr (Or.inr (Or.inr (Or.inr (Or.inr (Or.inr (Or.inr (Or.inr (Or.inr (Or.inr (Or.inr (Or.inr (Or.inr (Or.inr (Or.inr (Or.inr (Or.inr (Or.inr (Or.inr (Or.inr (Or.inr (Or.inr (Or.inr (Or.inr (Or.inr (Or.inr (Or.inr (Or.inr (⟨rfl, by decide⟩)))))))))))))))))))))))))))))))
  | n + 32, h => omega
theorem fac_spec : ∀ n : Nat, 0 < n → n = n / 2 ^ fac 2 n * 2 ^ fac 2 n ∧ (n / 2 ^ fac 2 n) % 2 = 1 := by
  intro n
  induction n using Nat.strongRecOn with
  | _ n ih =>
    intro h
    rcases (show n % 2 = 1 ∨ n % 2 = 0 by omega) with e | e
    · rw [fac_0 (by omega), Nat.pow_zero, Nat.div_one, Nat.mul_one]; exact ⟨rfl, e⟩
    · obtain ⟨h1, h2⟩ := ih (n / 2) (by omega) (by omega)
      have e2 : fac 2 n = fac 2 (n / 2) + 1 := fac_s (by omega)
      have e3 : n / 2 ^ fac 2 n = n / 2 / 2 ^ fac 2 (n / 2) := by rw [e2, Nat.pow_succ, Nat.mul_comm, Nat.div_div_eq_div_mul]
      rw [e3]
      refine ⟨?_, h2⟩
      rw [e2, Nat.pow_succ, ← Nat.mul_assoc, ← h1]; omega
theorem odd_cop {n j : Nat} (h : n % 2 = 1) : Nat.Coprime (2 ^ j) n := by
  apply Nat.Coprime.pow_left
  show Nat.gcd 2 n = 1
  rw [Nat.gcd_rec, h]; rfl
theorem g_sub {x y : Nat} (hy : y % 2 = 1) (h : y < x) : Nat.gcd ((x - y) / 2 ^ fac 2 (x - y)) y = Nat.gcd x y := by
  have h1 := (fac_spec (x - y) (by omega)).1
  have h2 := Nat.gcd_sub_self_left (m := y) (n := x) (by omega)
  rw [← h2]
  have h3 : Nat.gcd (x - y) y = Nat.gcd ((x - y) / 2 ^ fac 2 (x - y) * 2 ^ fac 2 (x - y)) y := by rw [← h1]
  rw [h3, Nat.Coprime.gcd_mul_right_cancel _ (odd_cop hy)]
theorem g_init {a b : Nat} (ha : 0 < a) (hb : 0 < b) {t : Nat} (ht : (t = fac 2 a ∧ fac 2 a ≤ fac 2 b) ∨ (t = fac 2 b ∧ fac 2 b ≤ fac 2 a)) : Nat.gcd (a / 2 ^ fac 2 a) (b / 2 ^ fac 2 b) * 2 ^ t = Nat.gcd a b := by
  obtain ⟨a1, a2⟩ := fac_spec a ha
  obtain ⟨b1, b2⟩ := fac_spec b hb
  generalize a / 2 ^ fac 2 a = p at *
  generalize b / 2 ^ fac 2 b = q at *
  rcases ht with ⟨e, h⟩ | ⟨e, h⟩
  · have e1 : b = q * 2 ^ (fac 2 b - fac 2 a) * 2 ^ fac 2 a := by rw [Nat.mul_assoc, ← Nat.pow_add, show fac 2 b - fac 2 a + fac 2 a = fac 2 b by omega]; exact b1
    have e2 : Nat.gcd a b = Nat.gcd (p * 2 ^ fac 2 a) (q * 2 ^ (fac 2 b - fac 2 a) * 2 ^ fac 2 a) := by rw [← a1, ← e1]
    rw [e2, Nat.gcd_mul_right, e, Nat.gcd_comm p (q * _), Nat.Coprime.gcd_mul_right_cancel _ (odd_cop a2), Nat.gcd_comm]
  · have e1 : a = p * 2 ^ (fac 2 a - fac 2 b) * 2 ^ fac 2 b := by rw [Nat.mul_assoc, ← Nat.pow_add, show fac 2 a - fac 2 b + fac 2 b = fac 2 a by omega]; exact a1
    have e2 : Nat.gcd a b = Nat.gcd (p * 2 ^ (fac 2 a - fac 2 b) * 2 ^ fac 2 b) (q * 2 ^ fac 2 b) := by rw [← b1, ← e1]
    rw [e2, Nat.gcd_mul_right, e, Nat.Coprime.gcd_mul_right_cancel _ (odd_cop b2)]
theorem fac_word {P w : Nat} : ∀ m : Nat, 0 < w → w < 2 ^ m → fac 2 (P * 2 ^ m + w) = fac 2 w := by
  intro m
  induction m generalizing w with
  | zero => intro h0 h; simp at h; omega
  | succ m ih =>
    intro h0 h
    rw [Nat.pow_succ] at h ⊢
    rw [← Nat.mul_assoc]
    rcases (show w % 2 = 1 ∨ w % 2 = 0 by omega) with e | e
    · rw [fac_0 (by omega), fac_0 (by omega)]
    · rw [fac_s (n := P * 2 ^ m * 2 + w) (by omega), fac_s (n := w) (by omega), show (P * 2 ^ m * 2 + w) / 2 = P * 2 ^ m + w / 2 by omega, ih (by omega) (by omega)]
theorem fac_mw {f : Nat → Nat} {o n k N : Nat} (hf : ∀ k, k < N → f k < 4294967296) (hN : o + n ≤ N) (hk : k < n) (hz : ∀ i, i < k → f (o + n - 1 - i) = 0) (h0 : f (o + n - 1 - k) ≠ 0) : fac 2 (mw f o n) = 32 * k + fac 2 (f (o + n - 1 - k)) := by
  have e1 := mw_app f o (n - k) k
  rw [show n - k + k = n by omega, mw_zero (f := f) (o := o + (n - k)) (t := k) (fun j hj => by rw [show o + (n - k) + j = o + n - 1 - (k - 1 - j) by omega]; exact hz _ (by omega)), Nat.add_zero] at e1
  have e2 := mw_app f o (n - k - 1) 1
  rw [show n - k - 1 + 1 = n - k by omega, mw_1, show o + (n - k - 1) = o + n - 1 - k by omega, bw_1] at e2
  have hw := hf (o + n - 1 - k) (by omega)
  have hb : bw k = 2 ^ (32 * k) := by have := bw_pow k 0; rw [Nat.pow_zero, Nat.mul_one, Nat.add_zero] at this; exact this
  have e3 := fac_word (P := mw f o (n - k - 1)) (w := f (o + n - 1 - k)) 32 (by omega) (by rw [show (2 ^ 32 : Nat) = 4294967296 from by decide]; exact hw)
  rw [show (2 ^ 32 : Nat) = 4294967296 from by decide, ← e2] at e3
  rw [e1, hb, fac_mul (by decide) (by omega), e3]; omega
theorem nd_J22_numberOfTrailingZeros : yJ22_numberOfTrailingZeros.cls ≠ "java/lang/invoke/MethodHandle" ∧ yJ22_numberOfTrailingZeros.cls ≠ "java/lang/invoke/VarHandle" ∧ (parseMethodDescriptor yJ22_numberOfTrailingZeros.desc).map (fun d => d.parameters.length) = some 1 := by decide +kernel
set_option maxRecDepth 100000 in
set_option maxHeartbeats 16000000 in
theorem ct_J22_numberOfTrailingZeros {g : GG} {l : Launch} (v : Nat) (hv : 0 < v ∧ v < 4294967296) : Ct g l yJ22_numberOfTrailingZeros (ws_ yJ22_numberOfTrailingZeros cJ22_numberOfTrailingZeros 2 (Option.some Jvm.ClassFile.FieldType.int)) 1 12 0 0 [.int (jI (↑v))] [] (fun v9 Ws9 => v9 = some (.int (jI (↑(fac 2 v)))) ∧ Ws9 = []) (nox) := by
  refine Ct.of (cc := cJ22_numberOfTrailingZeros) (nL := 2) (ret := (Option.some Jvm.ClassFile.FieldType.int)) (by decide) rfl (Nat.le_of_ble_eq_true rfl) ?_
  intro x hg hl hPo hPx hmc hms F
  subst hg; subst hl
  refine SW.cast (L' := [(0, .int (jI (↑v)))]) ?_ rfl rfl rfl
  have hns := not_ls 32 v hv.1 (by rw [show (2 ^ 32 : Nat) = 4294967296 from by decide]; exact hv.2)
  rw [show (2 ^ 32 : Nat) - 1 = 4294967295 from by decide] at hns
  obtain ⟨t, ht⟩ : ∃ z : Nat, z = fac 2 v := ⟨_, rfl⟩
  have ht32 : t < 32 := by rw [ht]; exact fac_lt (by decide) hv.1 (by rw [show (2 ^ 32 : Nat) = 4294967296 from by decide]; exact hv.2)
  have hp31 : 2 ^ t ≤ 2 ^ 31 := Nat.pow_le_pow_right (by decide) (by omega)
  have hp30 : 0 < 2 ^ t := Nat.pow_pos (by decide)
  rw [show (2 ^ 31 : Nat) = 2147483648 from by decide] at hp31
  rw [← ht] at hns
  obtain ⟨i, hi⟩ : ∃ z : Nat, z = 2 ^ t - 1 := ⟨_, rfl⟩
  refine sw_iload_n (n := 1) F 0 rfl rfl dJ22_numberOfTrailingZeros_0 rfl ?_
  refine sw_iconst (n := 2) F (-1) (by decide) dJ22_numberOfTrailingZeros_1 rfl ?_
  refine sw_ixor (n := 3) F (jI (-↑v - 1)) (jI_not _) dJ22_numberOfTrailingZeros_2 rfl ?_
  refine sw_top (topIm (show (-↑v - 1 : Int) % 4294967296 = (↑(4294967295 - v)) % 4294967296 by omega)) ?_
  refine sw_iload_n (n := 4) F 0 rfl rfl dJ22_numberOfTrailingZeros_3 rfl ?_
  refine sw_iconst (n := 5) F (1) (by decide) dJ22_numberOfTrailingZeros_4 rfl ?_
  refine sw_isub (n := 6) F dJ22_numberOfTrailingZeros_5 rfl ?_
  refine sw_top (topI (show ((↑v) - 1 : Int) = ↑(v - 1) by omega)) ?_
  refine sw_iand (n := 7) F (jI (↑i)) (by rw [jI_andN (by omega) (by omega), hns, ← hi]) dJ22_numberOfTrailingZeros_6 rfl ?_
  refine sw_istore_n (n := 8) F (L2 := [(0, .int (jI (↑i)))]) rfl (by decide) rfl dJ22_numberOfTrailingZeros_7 rfl ?_
  refine sw_iload_n (n := 9) F 0 rfl rfl dJ22_numberOfTrailingZeros_8 rfl ?_
  refine sw_if_gt (n := 12) F (by omega) (tgt := 17) dJ22_numberOfTrailingZeros_9 (by decide) rfl (fun c_9 => ?_) (fun c_9 => ?_)
  ·
    refine sw_iconst (n := 18) F (1) (by decide) dJ22_numberOfTrailingZeros_17 rfl ?_
    refine sw_istore_n (n := 19) F (L2 := [(1, .int (jI 1)), (0, .int (jI (↑i)))]) rfl (by decide) rfl dJ22_numberOfTrailingZeros_18 rfl ?_
    refine sw_iload_n (n := 20) F 1 rfl rfl dJ22_numberOfTrailingZeros_19 rfl ?_
    refine sw_ldcw (n := 23) F (65536) q1227 (by decide) dJ22_numberOfTrailingZeros_20 rfl ?_
    refine sw_icmp_le (n := 26) F (by omega) (by decide) (tgt := 34) dJ22_numberOfTrailingZeros_23 (by decide) rfl (fun c_23 => ?_) (fun c_23 => ?_)
    ·
      refine sw_iload_n (n := 35) F 1 rfl rfl dJ22_numberOfTrailingZeros_34 rfl ?_
      refine sw_sipush (n := 38) F (256) (by decide) dJ22_numberOfTrailingZeros_35 rfl ?_
      refine sw_icmp_le (n := 41) F (by omega) (by decide) (tgt := 49) dJ22_numberOfTrailingZeros_38 (by decide) rfl (fun c_38 => ?_) (fun c_38 => ?_)
      ·
        refine sw_iload_n (n := 50) F 1 rfl rfl dJ22_numberOfTrailingZeros_49 rfl ?_
        refine sw_bipush (n := 52) F (16) (by decide) dJ22_numberOfTrailingZeros_50 rfl ?_
        refine sw_icmp_le (n := 55) F (by omega) (by decide) (tgt := 62) dJ22_numberOfTrailingZeros_52 (by decide) rfl (fun c_52 => ?_) (fun c_52 => ?_)
        ·
          refine sw_iload_n (n := 63) F 1 rfl rfl dJ22_numberOfTrailingZeros_62 rfl ?_
          refine sw_iconst (n := 64) F (4) (by decide) dJ22_numberOfTrailingZeros_63 rfl ?_
          refine sw_icmp_le (n := 67) F (by omega) (by decide) (tgt := 74) dJ22_numberOfTrailingZeros_64 (by decide) rfl (fun c_64 => ?_) (fun c_64 => ?_)
          ·
            refine sw_iload_n (n := 75) F 0 rfl rfl dJ22_numberOfTrailingZeros_74 rfl ?_
            refine sw_iload_n (n := 76) F 1 rfl rfl dJ22_numberOfTrailingZeros_75 rfl ?_
            refine sw_iconst (n := 77) F (1) (by decide) dJ22_numberOfTrailingZeros_76 rfl ?_
            refine sw_iushr (n := 78) F (jI ((↑i) / 2)) (by have h7s := jI_ushrPQ (z := ↑i) (c := 1) (P := 2) (k := 1) (by omega) (by decide) (by decide); exact h7s) dJ22_numberOfTrailingZeros_77 rfl ?_
            refine sw_iadd (n := 79) F dJ22_numberOfTrailingZeros_78 rfl ?_
            exact sw_iret F _ rfl (by first | rfl | exact jI_nz (by omega) | exact jI_nc (by omega)) dJ22_numberOfTrailingZeros_79 (by rw [hPo]; exact ⟨(by rw [← ht]; have hcx := ntz_c t ht32; rw [← hi] at hcx; congr 3; rcases hcx with ⟨e1, e2⟩ | ⟨e1, e2⟩ | ⟨e1, e2⟩ | ⟨e1, e2⟩ | ⟨e1, e2⟩ | ⟨e1, e2⟩ | ⟨e1, e2⟩ | ⟨e1, e2⟩ | ⟨e1, e2⟩ | ⟨e1, e2⟩ | ⟨e1, e2⟩ | ⟨e1, e2⟩ | ⟨e1, e2⟩ | ⟨e1, e2⟩ | ⟨e1, e2⟩ | ⟨e1, e2⟩ | ⟨e1, e2⟩ | ⟨e1, e2⟩ | ⟨e1, e2⟩ | ⟨e1, e2⟩ | ⟨e1, e2⟩ | ⟨e1, e2⟩ | ⟨e1, e2⟩ | ⟨e1, e2⟩ | ⟨e1, e2⟩ | ⟨e1, e2⟩ | ⟨e1, e2⟩ | ⟨e1, e2⟩ | ⟨e1, e2⟩ | ⟨e1, e2⟩ | ⟨e1, e2⟩ | ⟨e1, e2⟩ <;> omega), rfl⟩)
          ·
            refine sw_iinc (n := 70) F 0 (L2 := [(1, .int (jI (1 + 2))), (0, .int (jI (↑i)))]) rfl rfl (by decide) dJ22_numberOfTrailingZeros_67 rfl ?_
            refine sw_iload_n (n := 71) F 1 rfl rfl dJ22_numberOfTrailingZeros_70 rfl ?_
            refine sw_iconst (n := 72) F (2) (by decide) dJ22_numberOfTrailingZeros_71 rfl ?_
            refine sw_iushr (n := 73) F (jI ((↑i) / 4)) (by have h7s := jI_ushrPQ (z := ↑i) (c := 2) (P := 4) (k := 2) (by omega) (by decide) (by decide); exact h7s) dJ22_numberOfTrailingZeros_72 rfl ?_
            refine sw_istore_n (n := 74) F (L2 := [(0, .int (jI ((↑i) / 4))), (1, .int (jI (1 + 2)))]) rfl (by decide) rfl dJ22_numberOfTrailingZeros_73 rfl ?_
            refine sw_iload_n (n := 75) F 1 rfl rfl dJ22_numberOfTrailingZeros_74 rfl ?_
            refine sw_iload_n (n := 76) F 0 rfl rfl dJ22_numberOfTrailingZeros_75 rfl ?_
            refine sw_iconst (n := 77) F (1) (by decide) dJ22_numberOfTrailingZeros_76 rfl ?_
            refine sw_iushr (n := 78) F (jI (((↑i) / 4) / 2)) (by have h7s := jI_ushrPQ (z := (↑i) / 4) (c := 1) (P := 2) (k := 1) (by omega) (by decide) (by decide); exact h7s) dJ22_numberOfTrailingZeros_77 rfl ?_
            refine sw_iadd (n := 79) F dJ22_numberOfTrailingZeros_78 rfl ?_
            exact sw_iret F _ rfl (by first | rfl | exact jI_nz (by omega) | exact jI_nc (by omega)) dJ22_numberOfTrailingZeros_79 (by rw [hPo]; exact ⟨(by rw [← ht]; have hcx := ntz_c t ht32; rw [← hi] at hcx; congr 3; rcases hcx with ⟨e1, e2⟩ | ⟨e1, e2⟩ | ⟨e1, e2⟩ | ⟨e1, e2⟩ | ⟨e1, e2⟩ | ⟨e1, e2⟩ | ⟨e1, e2⟩ | ⟨e1, e2⟩ | ⟨e1, e2⟩ | ⟨e1, e2⟩ | ⟨e1, e2⟩ | ⟨e1, e2⟩ | ⟨e1, e2⟩ | ⟨e1, e2⟩ | ⟨e1, e2⟩ | ⟨e1, e2⟩ | ⟨e1, e2⟩ | ⟨e1, e2⟩ | ⟨e1, e2⟩ | ⟨e1, e2⟩ | ⟨e1, e2⟩ | ⟨e1, e2⟩ | ⟨e1, e2⟩ | ⟨e1, e2⟩ | ⟨e1, e2⟩ | ⟨e1, e2⟩ | ⟨e1, e2⟩ | ⟨e1, e2⟩ | ⟨e1, e2⟩ | ⟨e1, e2⟩ | ⟨e1, e2⟩ | ⟨e1, e2⟩ <;> omega), rfl⟩)
        ·
          refine sw_iinc (n := 58) F 0 (L2 := [(1, .int (jI (1 + 4))), (0, .int (jI (↑i)))]) rfl rfl (by decide) dJ22_numberOfTrailingZeros_55 rfl ?_
          refine sw_iload_n (n := 59) F 1 rfl rfl dJ22_numberOfTrailingZeros_58 rfl ?_
          refine sw_iconst (n := 60) F (4) (by decide) dJ22_numberOfTrailingZeros_59 rfl ?_
          refine sw_iushr (n := 61) F (jI ((↑i) / 16)) (by have h7s := jI_ushrPQ (z := ↑i) (c := 4) (P := 16) (k := 4) (by omega) (by decide) (by decide); exact h7s) dJ22_numberOfTrailingZeros_60 rfl ?_
          refine sw_istore_n (n := 62) F (L2 := [(0, .int (jI ((↑i) / 16))), (1, .int (jI (1 + 4)))]) rfl (by decide) rfl dJ22_numberOfTrailingZeros_61 rfl ?_
          refine sw_iload_n (n := 63) F 0 rfl rfl dJ22_numberOfTrailingZeros_62 rfl ?_
          refine sw_iconst (n := 64) F (4) (by decide) dJ22_numberOfTrailingZeros_63 rfl ?_
          refine sw_icmp_le (n := 67) F (by omega) (by decide) (tgt := 74) dJ22_numberOfTrailingZeros_64 (by decide) rfl (fun c_64 => ?_) (fun c_64 => ?_)
          ·
            refine sw_iload_n (n := 75) F 1 rfl rfl dJ22_numberOfTrailingZeros_74 rfl ?_
            refine sw_iload_n (n := 76) F 0 rfl rfl dJ22_numberOfTrailingZeros_75 rfl ?_
            refine sw_iconst (n := 77) F (1) (by decide) dJ22_numberOfTrailingZeros_76 rfl ?_
            refine sw_iushr (n := 78) F (jI (((↑i) / 16) / 2)) (by have h7s := jI_ushrPQ (z := (↑i) / 16) (c := 1) (P := 2) (k := 1) (by omega) (by decide) (by decide); exact h7s) dJ22_numberOfTrailingZeros_77 rfl ?_
            refine sw_iadd (n := 79) F dJ22_numberOfTrailingZeros_78 rfl ?_
            exact sw_iret F _ rfl (by first | rfl | exact jI_nz (by omega) | exact jI_nc (by omega)) dJ22_numberOfTrailingZeros_79 (by rw [hPo]; exact ⟨(by rw [← ht]; have hcx := ntz_c t ht32; rw [← hi] at hcx; congr 3; rcases hcx with ⟨e1, e2⟩ | ⟨e1, e2⟩ | ⟨e1, e2⟩ | ⟨e1, e2⟩ | ⟨e1, e2⟩ | ⟨e1, e2⟩ | ⟨e1, e2⟩ | ⟨e1, e2⟩ | ⟨e1, e2⟩ | ⟨e1, e2⟩ | ⟨e1, e2⟩ | ⟨e1, e2⟩ | ⟨e1, e2⟩ | ⟨e1, e2⟩ | ⟨e1, e2⟩ | ⟨e1, e2⟩ | ⟨e1, e2⟩ | ⟨e1, e2⟩ | ⟨e1, e2⟩ | ⟨e1, e2⟩ | ⟨e1, e2⟩ | ⟨e1, e2⟩ | ⟨e1, e2⟩ | ⟨e1, e2⟩ | ⟨e1, e2⟩ | ⟨e1, e2⟩ | ⟨e1, e2⟩ | ⟨e1, e2⟩ | ⟨e1, e2⟩ | ⟨e1, e2⟩ | ⟨e1, e2⟩ | ⟨e1, e2⟩ <;> omega), rfl⟩)
          ·
            refine sw_iinc (n := 70) F 1 (L2 := [(1, .int (jI (1 + 4 + 2))), (0, .int (jI ((↑i) / 16)))]) rfl rfl (by decide) dJ22_numberOfTrailingZeros_67 rfl ?_
            refine sw_iload_n (n := 71) F 1 rfl rfl dJ22_numberOfTrailingZeros_70 rfl ?_
            refine sw_iconst (n := 72) F (2) (by decide) dJ22_numberOfTrailingZeros_71 rfl ?_
            refine sw_iushr (n := 73) F (jI (((↑i) / 16) / 4)) (by have h7s := jI_ushrPQ (z := (↑i) / 16) (c := 2) (P := 4) (k := 2) (by omega) (by decide) (by decide); exact h7s) dJ22_numberOfTrailingZeros_72 rfl ?_
            refine sw_istore_n (n := 74) F (L2 := [(0, .int (jI (((↑i) / 16) / 4))), (1, .int (jI (1 + 4 + 2)))]) rfl (by decide) rfl dJ22_numberOfTrailingZeros_73 rfl ?_
            refine sw_iload_n (n := 75) F 1 rfl rfl dJ22_numberOfTrailingZeros_74 rfl ?_
            refine sw_iload_n (n := 76) F 0 rfl rfl dJ22_numberOfTrailingZeros_75 rfl ?_
            refine sw_iconst (n := 77) F (1) (by decide) dJ22_numberOfTrailingZeros_76 rfl ?_
            refine sw_iushr (n := 78) F (jI ((((↑i) / 16) / 4) / 2)) (by have h7s := jI_ushrPQ (z := ((↑i) / 16) / 4) (c := 1) (P := 2) (k := 1) (by omega) (by decide) (by decide); exact h7s) dJ22_numberOfTrailingZeros_77 rfl ?_
            refine sw_iadd (n := 79) F dJ22_numberOfTrailingZeros_78 rfl ?_
            exact sw_iret F _ rfl (by first | rfl | exact jI_nz (by omega) | exact jI_nc (by omega)) dJ22_numberOfTrailingZeros_79 (by rw [hPo]; exact ⟨(by rw [← ht]; have hcx := ntz_c t ht32; rw [← hi] at hcx; congr 3; rcases hcx with ⟨e1, e2⟩ | ⟨e1, e2⟩ | ⟨e1, e2⟩ | ⟨e1, e2⟩ | ⟨e1, e2⟩ | ⟨e1, e2⟩ | ⟨e1, e2⟩ | ⟨e1, e2⟩ | ⟨e1, e2⟩ | ⟨e1, e2⟩ | ⟨e1, e2⟩ | ⟨e1, e2⟩ | ⟨e1, e2⟩ | ⟨e1, e2⟩ | ⟨e1, e2⟩ | ⟨e1, e2⟩ | ⟨e1, e2⟩ | ⟨e1, e2⟩ | ⟨e1, e2⟩ | ⟨e1, e2⟩ | ⟨e1, e2⟩ | ⟨e1, e2⟩ | ⟨e1, e2⟩ | ⟨e1, e2⟩ | ⟨e1, e2⟩ | ⟨e1, e2⟩ | ⟨e1, e2⟩ | ⟨e1, e2⟩ | ⟨e1, e2⟩ | ⟨e1, e2⟩ | ⟨e1, e2⟩ | ⟨e1, e2⟩ <;> omega), rfl⟩)
      ·
        refine sw_iinc (n := 44) F 0 (L2 := [(1, .int (jI (1 + 8))), (0, .int (jI (↑i)))]) rfl rfl (by decide) dJ22_numberOfTrailingZeros_41 rfl ?_
        refine sw_iload_n (n := 45) F 1 rfl rfl dJ22_numberOfTrailingZeros_44 rfl ?_
        refine sw_bipush (n := 47) F (8) (by decide) dJ22_numberOfTrailingZeros_45 rfl ?_
        refine sw_iushr (n := 48) F (jI ((↑i) / 256)) (by have h7s := jI_ushrPQ (z := ↑i) (c := 8) (P := 256) (k := 8) (by omega) (by decide) (by decide); exact h7s) dJ22_numberOfTrailingZeros_47 rfl ?_
        refine sw_istore_n (n := 49) F (L2 := [(0, .int (jI ((↑i) / 256))), (1, .int (jI (1 + 8)))]) rfl (by decide) rfl dJ22_numberOfTrailingZeros_48 rfl ?_
        refine sw_iload_n (n := 50) F 0 rfl rfl dJ22_numberOfTrailingZeros_49 rfl ?_
        refine sw_bipush (n := 52) F (16) (by decide) dJ22_numberOfTrailingZeros_50 rfl ?_
        refine sw_icmp_le (n := 55) F (by omega) (by decide) (tgt := 62) dJ22_numberOfTrailingZeros_52 (by decide) rfl (fun c_52 => ?_) (fun c_52 => ?_)
        ·
          refine sw_iload_n (n := 63) F 0 rfl rfl dJ22_numberOfTrailingZeros_62 rfl ?_
          refine sw_iconst (n := 64) F (4) (by decide) dJ22_numberOfTrailingZeros_63 rfl ?_
          refine sw_icmp_le (n := 67) F (by omega) (by decide) (tgt := 74) dJ22_numberOfTrailingZeros_64 (by decide) rfl (fun c_64 => ?_) (fun c_64 => ?_)
          ·
            refine sw_iload_n (n := 75) F 1 rfl rfl dJ22_numberOfTrailingZeros_74 rfl ?_
            refine sw_iload_n (n := 76) F 0 rfl rfl dJ22_numberOfTrailingZeros_75 rfl ?_
            refine sw_iconst (n := 77) F (1) (by decide) dJ22_numberOfTrailingZeros_76 rfl ?_
            refine sw_iushr (n := 78) F (jI (((↑i) / 256) / 2)) (by have h7s := jI_ushrPQ (z := (↑i) / 256) (c := 1) (P := 2) (k := 1) (by omega) (by decide) (by decide); exact h7s) dJ22_numberOfTrailingZeros_77 rfl ?_
            refine sw_iadd (n := 79) F dJ22_numberOfTrailingZeros_78 rfl ?_
            exact sw_iret F _ rfl (by first | rfl | exact jI_nz (by omega) | exact jI_nc (by omega)) dJ22_numberOfTrailingZeros_79 (by rw [hPo]; exact ⟨(by rw [← ht]; have hcx := ntz_c t ht32; rw [← hi] at hcx; congr 3; rcases hcx with ⟨e1, e2⟩ | ⟨e1, e2⟩ | ⟨e1, e2⟩ | ⟨e1, e2⟩ | ⟨e1, e2⟩ | ⟨e1, e2⟩ | ⟨e1, e2⟩ | ⟨e1, e2⟩ | ⟨e1, e2⟩ | ⟨e1, e2⟩ | ⟨e1, e2⟩ | ⟨e1, e2⟩ | ⟨e1, e2⟩ | ⟨e1, e2⟩ | ⟨e1, e2⟩ | ⟨e1, e2⟩ | ⟨e1, e2⟩ | ⟨e1, e2⟩ | ⟨e1, e2⟩ | ⟨e1, e2⟩ | ⟨e1, e2⟩ | ⟨e1, e2⟩ | ⟨e1, e2⟩ | ⟨e1, e2⟩ | ⟨e1, e2⟩ | ⟨e1, e2⟩ | ⟨e1, e2⟩ | ⟨e1, e2⟩ | ⟨e1, e2⟩ | ⟨e1, e2⟩ | ⟨e1, e2⟩ | ⟨e1, e2⟩ <;> omega), rfl⟩)
          ·
            refine sw_iinc (n := 70) F 1 (L2 := [(1, .int (jI (1 + 8 + 2))), (0, .int (jI ((↑i) / 256)))]) rfl rfl (by decide) dJ22_numberOfTrailingZeros_67 rfl ?_
            refine sw_iload_n (n := 71) F 1 rfl rfl dJ22_numberOfTrailingZeros_70 rfl ?_
            refine sw_iconst (n := 72) F (2) (by decide) dJ22_numberOfTrailingZeros_71 rfl ?_
            refine sw_iushr (n := 73) F (jI (((↑i) / 256) / 4)) (by have h7s := jI_ushrPQ (z := (↑i) / 256) (c := 2) (P := 4) (k := 2) (by omega) (by decide) (by decide); exact h7s) dJ22_numberOfTrailingZeros_72 rfl ?_
            refine sw_istore_n (n := 74) F (L2 := [(0, .int (jI (((↑i) / 256) / 4))), (1, .int (jI (1 + 8 + 2)))]) rfl (by decide) rfl dJ22_numberOfTrailingZeros_73 rfl ?_
            refine sw_iload_n (n := 75) F 1 rfl rfl dJ22_numberOfTrailingZeros_74 rfl ?_
            refine sw_iload_n (n := 76) F 0 rfl rfl dJ22_numberOfTrailingZeros_75 rfl ?_
            refine sw_iconst (n := 77) F (1) (by decide) dJ22_numberOfTrailingZeros_76 rfl ?_
            refine sw_iushr (n := 78) F (jI ((((↑i) / 256) / 4) / 2)) (by have h7s := jI_ushrPQ (z := ((↑i) / 256) / 4) (c := 1) (P := 2) (k := 1) (by omega) (by decide) (by decide); exact h7s) dJ22_numberOfTrailingZeros_77 rfl ?_
            refine sw_iadd (n := 79) F dJ22_numberOfTrailingZeros_78 rfl ?_
            exact sw_iret F _ rfl (by first | rfl | exact jI_nz (by omega) | exact jI_nc (by omega)) dJ22_numberOfTrailingZeros_79 (by rw [hPo]; exact ⟨(by rw [← ht]; have hcx := ntz_c t ht32; rw [← hi] at hcx; congr 3; rcases hcx with ⟨e1, e2⟩ | ⟨e1, e2⟩ | ⟨e1, e2⟩ | ⟨e1, e2⟩ | ⟨e1, e2⟩ | ⟨e1, e2⟩ | ⟨e1, e2⟩ | ⟨e1, e2⟩ | ⟨e1, e2⟩ | ⟨e1, e2⟩ | ⟨e1, e2⟩ | ⟨e1, e2⟩ | ⟨e1, e2⟩ | ⟨e1, e2⟩ | ⟨e1, e2⟩ | ⟨e1, e2⟩ | ⟨e1, e2⟩ | ⟨e1, e2⟩ | ⟨e1, e2⟩ | ⟨e1, e2⟩ | ⟨e1, e2⟩ | ⟨e1, e2⟩ | ⟨e1, e2⟩ | ⟨e1, e2⟩ | ⟨e1, e2⟩ | ⟨e1, e2⟩ | ⟨e1, e2⟩ | ⟨e1, e2⟩ | ⟨e1, e2⟩ | ⟨e1, e2⟩ | ⟨e1, e2⟩ | ⟨e1, e2⟩ <;> omega), rfl⟩)
        ·
          refine sw_iinc (n := 58) F 1 (L2 := [(1, .int (jI (1 + 8 + 4))), (0, .int (jI ((↑i) / 256)))]) rfl rfl (by decide) dJ22_numberOfTrailingZeros_55 rfl ?_
          refine sw_iload_n (n := 59) F 1 rfl rfl dJ22_numberOfTrailingZeros_58 rfl ?_
          refine sw_iconst (n := 60) F (4) (by decide) dJ22_numberOfTrailingZeros_59 rfl ?_
          refine sw_iushr (n := 61) F (jI (((↑i) / 256) / 16)) (by have h7s := jI_ushrPQ (z := (↑i) / 256) (c := 4) (P := 16) (k := 4) (by omega) (by decide) (by decide); exact h7s) dJ22_numberOfTrailingZeros_60 rfl ?_
          refine sw_istore_n (n := 62) F (L2 := [(0, .int (jI (((↑i) / 256) / 16))), (1, .int (jI (1 + 8 + 4)))]) rfl (by decide) rfl dJ22_numberOfTrailingZeros_61 rfl ?_
          refine sw_iload_n (n := 63) F 0 rfl rfl dJ22_numberOfTrailingZeros_62 rfl ?_
          refine sw_iconst (n := 64) F (4) (by decide) dJ22_numberOfTrailingZeros_63 rfl ?_
          refine sw_icmp_le (n := 67) F (by omega) (by decide) (tgt := 74) dJ22_numberOfTrailingZeros_64 (by decide) rfl (fun c_64 => ?_) (fun c_64 => ?_)
          ·
            refine sw_iload_n (n := 75) F 1 rfl rfl dJ22_numberOfTrailingZeros_74 rfl ?_
            refine sw_iload_n (n := 76) F 0 rfl rfl dJ22_numberOfTrailingZeros_75 rfl ?_
            refine sw_iconst (n := 77) F (1) (by decide) dJ22_numberOfTrailingZeros_76 rfl ?_
            refine sw_iushr (n := 78) F (jI ((((↑i) / 256) / 16) / 2)) (by have h7s := jI_ushrPQ (z := ((↑i) / 256) / 16) (c := 1) (P := 2) (k := 1) (by omega) (by decide) (by decide); exact h7s) dJ22_numberOfTrailingZeros_77 rfl ?_
            refine sw_iadd (n := 79) F dJ22_numberOfTrailingZeros_78 rfl ?_
            exact sw_iret F _ rfl (by first | rfl | exact jI_nz (by omega) | exact jI_nc (by omega)) dJ22_numberOfTrailingZeros_79 (by rw [hPo]; exact ⟨(by rw [← ht]; have hcx := ntz_c t ht32; rw [← hi] at hcx; congr 3; rcases hcx with ⟨e1, e2⟩ | ⟨e1, e2⟩ | ⟨e1, e2⟩ | ⟨e1, e2⟩ | ⟨e1, e2⟩ | ⟨e1, e2⟩ | ⟨e1, e2⟩ | ⟨e1, e2⟩ | ⟨e1, e2⟩ | ⟨e1, e2⟩ | ⟨e1, e2⟩ | ⟨e1, e2⟩ | ⟨e1, e2⟩ | ⟨e1, e2⟩ | ⟨e1, e2⟩ | ⟨e1, e2⟩ | ⟨e1, e2⟩ | ⟨e1, e2⟩ | ⟨e1, e2⟩ | ⟨e1, e2⟩ | ⟨e1, e2⟩ | ⟨e1, e2⟩ | ⟨e1, e2⟩ | ⟨e1, e2⟩ | ⟨e1, e2⟩ | ⟨e1, e2⟩ | ⟨e1, e2⟩ | ⟨e1, e2⟩ | ⟨e1, e2⟩ | ⟨e1, e2⟩ | ⟨e1, e2⟩ | ⟨e1, e2⟩ <;> omega), rfl⟩)
          ·
            refine sw_iinc (n := 70) F 1 (L2 := [(1, .int (jI (1 + 8 + 4 + 2))), (0, .int (jI (((↑i) / 256) / 16)))]) rfl rfl (by decide) dJ22_numberOfTrailingZeros_67 rfl ?_
            refine sw_iload_n (n := 71) F 1 rfl rfl dJ22_numberOfTrailingZeros_70 rfl ?_
            refine sw_iconst (n := 72) F (2) (by decide) dJ22_numberOfTrailingZeros_71 rfl ?_
            refine sw_iushr (n := 73) F (jI ((((↑i) / 256) / 16) / 4)) (by have h7s := jI_ushrPQ (z := ((↑i) / 256) / 16) (c := 2) (P := 4) (k := 2) (by omega) (by decide) (by decide); exact h7s) dJ22_numberOfTrailingZeros_72 rfl ?_
            refine sw_istore_n (n := 74) F (L2 := [(0, .int (jI ((((↑i) / 256) / 16) / 4))), (1, .int (jI (1 + 8 + 4 + 2)))]) rfl (by decide) rfl dJ22_numberOfTrailingZeros_73 rfl ?_
            refine sw_iload_n (n := 75) F 1 rfl rfl dJ22_numberOfTrailingZeros_74 rfl ?_
            refine sw_iload_n (n := 76) F 0 rfl rfl dJ22_numberOfTrailingZeros_75 rfl ?_
            refine sw_iconst (n := 77) F (1) (by decide) dJ22_numberOfTrailingZeros_76 rfl ?_
            refine sw_iushr (n := 78) F (jI (((((↑i) / 256) / 16) / 4) / 2)) (by have h7s := jI_ushrPQ (z := (((↑i) / 256) / 16) / 4) (c := 1) (P := 2) (k := 1) (by omega) (by decide) (by decide); exact h7s) dJ22_numberOfTrailingZeros_77 rfl ?_
            refine sw_iadd (n := 79) F dJ22_numberOfTrailingZeros_78 rfl ?_
            exact sw_iret F _ rfl (by first | rfl | exact jI_nz (by omega) | exact jI_nc (by omega)) dJ22_numberOfTrailingZeros_79 (by rw [hPo]; exact ⟨(by rw [← ht]; have hcx := ntz_c t ht32; rw [← hi] at hcx; congr 3; rcases hcx with ⟨e1, e2⟩ | ⟨e1, e2⟩ | ⟨e1, e2⟩ | ⟨e1, e2⟩ | ⟨e1, e2⟩ | ⟨e1, e2⟩ | ⟨e1, e2⟩ | ⟨e1, e2⟩ | ⟨e1, e2⟩ | ⟨e1, e2⟩ | ⟨e1, e2⟩ | ⟨e1, e2⟩ | ⟨e1, e2⟩ | ⟨e1, e2⟩ | ⟨e1, e2⟩ | ⟨e1, e2⟩ | ⟨e1, e2⟩ | ⟨e1, e2⟩ | ⟨e1, e2⟩ | ⟨e1, e2⟩ | ⟨e1, e2⟩ | ⟨e1, e2⟩ | ⟨e1, e2⟩ | ⟨e1, e2⟩ | ⟨e1, e2⟩ | ⟨e1, e2⟩ | ⟨e1, e2⟩ | ⟨e1, e2⟩ | ⟨e1, e2⟩ | ⟨e1, e2⟩ | ⟨e1, e2⟩ | ⟨e1, e2⟩ <;> omega), rfl⟩)
    ·
      refine sw_iinc (n := 29) F 0 (L2 := [(1, .int (jI (1 + 16))), (0, .int (jI (↑i)))]) rfl rfl (by decide) dJ22_numberOfTrailingZeros_26 rfl ?_
      refine sw_iload_n (n := 30) F 1 rfl rfl dJ22_numberOfTrailingZeros_29 rfl ?_
      refine sw_bipush (n := 32) F (16) (by decide) dJ22_numberOfTrailingZeros_30 rfl ?_
      refine sw_iushr (n := 33) F (jI ((↑i) / 65536)) (by have h7s := jI_ushrPQ (z := ↑i) (c := 16) (P := 65536) (k := 16) (by omega) (by decide) (by decide); exact h7s) dJ22_numberOfTrailingZeros_32 rfl ?_
      refine sw_istore_n (n := 34) F (L2 := [(0, .int (jI ((↑i) / 65536))), (1, .int (jI (1 + 16)))]) rfl (by decide) rfl dJ22_numberOfTrailingZeros_33 rfl ?_
      refine sw_iload_n (n := 35) F 0 rfl rfl dJ22_numberOfTrailingZeros_34 rfl ?_
      refine sw_sipush (n := 38) F (256) (by decide) dJ22_numberOfTrailingZeros_35 rfl ?_
      refine sw_icmp_le (n := 41) F (by omega) (by decide) (tgt := 49) dJ22_numberOfTrailingZeros_38 (by decide) rfl (fun c_38 => ?_) (fun c_38 => ?_)
      ·
        refine sw_iload_n (n := 50) F 0 rfl rfl dJ22_numberOfTrailingZeros_49 rfl ?_
        refine sw_bipush (n := 52) F (16) (by decide) dJ22_numberOfTrailingZeros_50 rfl ?_
        refine sw_icmp_le (n := 55) F (by omega) (by decide) (tgt := 62) dJ22_numberOfTrailingZeros_52 (by decide) rfl (fun c_52 => ?_) (fun c_52 => ?_)
        ·
          refine sw_iload_n (n := 63) F 0 rfl rfl dJ22_numberOfTrailingZeros_62 rfl ?_
          refine sw_iconst (n := 64) F (4) (by decide) dJ22_numberOfTrailingZeros_63 rfl ?_
          refine sw_icmp_le (n := 67) F (by omega) (by decide) (tgt := 74) dJ22_numberOfTrailingZeros_64 (by decide) rfl (fun c_64 => ?_) (fun c_64 => ?_)
          ·
            refine sw_iload_n (n := 75) F 1 rfl rfl dJ22_numberOfTrailingZeros_74 rfl ?_
            refine sw_iload_n (n := 76) F 0 rfl rfl dJ22_numberOfTrailingZeros_75 rfl ?_
            refine sw_iconst (n := 77) F (1) (by decide) dJ22_numberOfTrailingZeros_76 rfl ?_
            refine sw_iushr (n := 78) F (jI (((↑i) / 65536) / 2)) (by have h7s := jI_ushrPQ (z := (↑i) / 65536) (c := 1) (P := 2) (k := 1) (by omega) (by decide) (by decide); exact h7s) dJ22_numberOfTrailingZeros_77 rfl ?_
            refine sw_iadd (n := 79) F dJ22_numberOfTrailingZeros_78 rfl ?_
            exact sw_iret F _ rfl (by first | rfl | exact jI_nz (by omega) | exact jI_nc (by omega)) dJ22_numberOfTrailingZeros_79 (by rw [hPo]; exact ⟨(by rw [← ht]; have hcx := ntz_c t ht32; rw [← hi] at hcx; congr 3; rcases hcx with ⟨e1, e2⟩ | ⟨e1, e2⟩ | ⟨e1, e2⟩ | ⟨e1, e2⟩ | ⟨e1, e2⟩ | ⟨e1, e2⟩ | ⟨e1, e2⟩ | ⟨e1, e2⟩ | ⟨e1, e2⟩ | ⟨e1, e2⟩ | ⟨e1, e2⟩ | ⟨e1, e2⟩ | ⟨e1, e2⟩ | ⟨e1, e2⟩ | ⟨e1, e2⟩ | ⟨e1, e2⟩ | ⟨e1, e2⟩ | ⟨e1, e2⟩ | ⟨e1, e2⟩ | ⟨e1, e2⟩ | ⟨e1, e2⟩ | ⟨e1, e2⟩ | ⟨e1, e2⟩ | ⟨e1, e2⟩ | ⟨e1, e2⟩ | ⟨e1, e2⟩ | ⟨e1, e2⟩ | ⟨e1, e2⟩ | ⟨e1, e2⟩ | ⟨e1, e2⟩ | ⟨e1, e2⟩ | ⟨e1, e2⟩ <;> omega), rfl⟩)
          ·
            refine sw_iinc (n := 70) F 1 (L2 := [(1, .int (jI (1 + 16 + 2))), (0, .int (jI ((↑i) / 65536)))]) rfl rfl (by decide) dJ22_numberOfTrailingZeros_67 rfl ?_
            refine sw_iload_n (n := 71) F 1 rfl rfl dJ22_numberOfTrailingZeros_70 rfl ?_
            refine sw_iconst (n := 72) F (2) (by decide) dJ22_numberOfTrailingZeros_71 rfl ?_
            refine sw_iushr (n := 73) F (jI (((↑i) / 65536) / 4)) (by have h7s := jI_ushrPQ (z := (↑i) / 65536) (c := 2) (P := 4) (k := 2) (by omega) (by decide) (by decide); exact h7s) dJ22_numberOfTrailingZeros_72 rfl ?_
            refine sw_istore_n (n := 74) F (L2 := [(0, .int (jI (((↑i) / 65536) / 4))), (1, .int (jI (1 + 16 + 2)))]) rfl (by decide) rfl dJ22_numberOfTrailingZeros_73 rfl ?_
            refine sw_iload_n (n := 75) F 1 rfl rfl dJ22_numberOfTrailingZeros_74 rfl ?_
            refine sw_iload_n (n := 76) F 0 rfl rfl dJ22_numberOfTrailingZeros_75 rfl ?_
            refine sw_iconst (n := 77) F (1) (by decide) dJ22_numberOfTrailingZeros_76 rfl ?_
            refine sw_iushr (n := 78) F (jI ((((↑i) / 65536) / 4) / 2)) (by have h7s := jI_ushrPQ (z := ((↑i) / 65536) / 4) (c := 1) (P := 2) (k := 1) (by omega) (by decide) (by decide); exact h7s) dJ22_numberOfTrailingZeros_77 rfl ?_
            refine sw_iadd (n := 79) F dJ22_numberOfTrailingZeros_78 rfl ?_
            exact sw_iret F _ rfl (by first | rfl | exact jI_nz (by omega) | exact jI_nc (by omega)) dJ22_numberOfTrailingZeros_79 (by rw [hPo]; exact ⟨(by rw [← ht]; have hcx := ntz_c t ht32; rw [← hi] at hcx; congr 3; rcases hcx with ⟨e1, e2⟩ | ⟨e1, e2⟩ | ⟨e1, e2⟩ | ⟨e1, e2⟩ | ⟨e1, e2⟩ | ⟨e1, e2⟩ | ⟨e1, e2⟩ | ⟨e1, e2⟩ | ⟨e1, e2⟩ | ⟨e1, e2⟩ | ⟨e1, e2⟩ | ⟨e1, e2⟩ | ⟨e1, e2⟩ | ⟨e1, e2⟩ | ⟨e1, e2⟩ | ⟨e1, e2⟩ | ⟨e1, e2⟩ | ⟨e1, e2⟩ | ⟨e1, e2⟩ | ⟨e1, e2⟩ | ⟨e1, e2⟩ | ⟨e1, e2⟩ | ⟨e1, e2⟩ | ⟨e1, e2⟩ | ⟨e1, e2⟩ | ⟨e1, e2⟩ | ⟨e1, e2⟩ | ⟨e1, e2⟩ | ⟨e1, e2⟩ | ⟨e1, e2⟩ | ⟨e1, e2⟩ | ⟨e1, e2⟩ <;> omega), rfl⟩)
        ·
          refine sw_iinc (n := 58) F 1 (L2 := [(1, .int (jI (1 + 16 + 4))), (0, .int (jI ((↑i) / 65536)))]) rfl rfl (by decide) dJ22_numberOfTrailingZeros_55 rfl ?_
          refine sw_iload_n (n := 59) F 1 rfl rfl dJ22_numberOfTrailingZeros_58 rfl ?_
          refine sw_iconst (n := 60) F (4) (by decide) dJ22_numberOfTrailingZeros_59 rfl ?_
          refine sw_iushr (n := 61) F (jI (((↑i) / 65536) / 16)) (by have h7s := jI_ushrPQ (z := (↑i) / 65536) (c := 4) (P := 16) (k := 4) (by omega) (by decide) (by decide); exact h7s) dJ22_numberOfTrailingZeros_60 rfl ?_
          refine sw_istore_n (n := 62) F (L2 := [(0, .int (jI (((↑i) / 65536) / 16))), (1, .int (jI (1 + 16 + 4)))]) rfl (by decide) rfl dJ22_numberOfTrailingZeros_61 rfl ?_
          refine sw_iload_n (n := 63) F 0 rfl rfl dJ22_numberOfTrailingZeros_62 rfl ?_
          refine sw_iconst (n := 64) F (4) (by decide) dJ22_numberOfTrailingZeros_63 rfl ?_
          refine sw_icmp_le (n := 67) F (by omega) (by decide) (tgt := 74) dJ22_numberOfTrailingZeros_64 (by decide) rfl (fun c_64 => ?_) (fun c_64 => ?_)
          ·
            refine sw_iload_n (n := 75) F 1 rfl rfl dJ22_numberOfTrailingZeros_74 rfl ?_
            refine sw_iload_n (n := 76) F 0 rfl rfl dJ22_numberOfTrailingZeros_75 rfl ?_
            refine sw_iconst (n := 77) F (1) (by decide) dJ22_numberOfTrailingZeros_76 rfl ?_
            refine sw_iushr (n := 78) F (jI ((((↑i) / 65536) / 16) / 2)) (by have h7s := jI_ushrPQ (z := ((↑i) / 65536) / 16) (c := 1) (P := 2) (k := 1) (by omega) (by decide) (by decide); exact h7s) dJ22_numberOfTrailingZeros_77 rfl ?_
            refine sw_iadd (n := 79) F dJ22_numberOfTrailingZeros_78 rfl ?_
            exact sw_iret F _ rfl (by first | rfl | exact jI_nz (by omega) | exact jI_nc (by omega)) dJ22_numberOfTrailingZeros_79 (by rw [hPo]; exact ⟨(by rw [← ht]; have hcx := ntz_c t ht32; rw [← hi] at hcx; congr 3; rcases hcx with ⟨e1, e2⟩ | ⟨e1, e2⟩ | ⟨e1, e2⟩ | ⟨e1, e2⟩ | ⟨e1, e2⟩ | ⟨e1, e2⟩ | ⟨e1, e2⟩ | ⟨e1, e2⟩ | ⟨e1, e2⟩ | ⟨e1, e2⟩ | ⟨e1, e2⟩ | ⟨e1, e2⟩ | ⟨e1, e2⟩ | ⟨e1, e2⟩ | ⟨e1, e2⟩ | ⟨e1, e2⟩ | ⟨e1, e2⟩ | ⟨e1, e2⟩ | ⟨e1, e2⟩ | ⟨e1, e2⟩ | ⟨e1, e2⟩ | ⟨e1, e2⟩ | ⟨e1, e2⟩ | ⟨e1, e2⟩ | ⟨e1, e2⟩ | ⟨e1, e2⟩ | ⟨e1, e2⟩ | ⟨e1, e2⟩ | ⟨e1, e2⟩ | ⟨e1, e2⟩ | ⟨e1, e2⟩ | ⟨e1, e2⟩ <;> omega), rfl⟩)
          ·
            refine sw_iinc (n := 70) F 1 (L2 := [(1, .int (jI (1 + 16 + 4 + 2))), (0, .int (jI (((↑i) / 65536) / 16)))]) rfl rfl (by decide) dJ22_numberOfTrailingZeros_67 rfl ?_
            refine sw_iload_n (n := 71) F 1 rfl rfl dJ22_numberOfTrailingZeros_70 rfl ?_
            refine sw_iconst (n := 72) F (2) (by decide) dJ22_numberOfTrailingZeros_71 rfl ?_
            refine sw_iushr (n := 73) F (jI ((((↑i) / 65536) / 16) / 4)) (by have h7s := jI_ushrPQ (z := ((↑i) / 65536) / 16) (c := 2) (P := 4) (k := 2) (by omega) (by decide) (by decide); exact h7s) dJ22_numberOfTrailingZeros_72 rfl ?_
            refine sw_istore_n (n := 74) F (L2 := [(0, .int (jI ((((↑i) / 65536) / 16) / 4))), (1, .int (jI (1 + 16 + 4 + 2)))]) rfl (by decide) rfl dJ22_numberOfTrailingZeros_73 rfl ?_
            refine sw_iload_n (n := 75) F 1 rfl rfl dJ22_numberOfTrailingZeros_74 rfl ?_
            refine sw_iload_n (n := 76) F 0 rfl rfl dJ22_numberOfTrailingZeros_75 rfl ?_
            refine sw_iconst (n := 77) F (1) (by decide) dJ22_numberOfTrailingZeros_76 rfl ?_
            refine sw_iushr (n := 78) F (jI (((((↑i) / 65536) / 16) / 4) / 2)) (by have h7s := jI_ushrPQ (z := (((↑i) / 65536) / 16) / 4) (c := 1) (P := 2) (k := 1) (by omega) (by decide) (by decide); exact h7s) dJ22_numberOfTrailingZeros_77 rfl ?_
            refine sw_iadd (n := 79) F dJ22_numberOfTrailingZeros_78 rfl ?_
            exact sw_iret F _ rfl (by first | rfl | exact jI_nz (by omega) | exact jI_nc (by omega)) dJ22_numberOfTrailingZeros_79 (by rw [hPo]; exact ⟨(by rw [← ht]; have hcx := ntz_c t ht32; rw [← hi] at hcx; congr 3; rcases hcx with ⟨e1, e2⟩ | ⟨e1, e2⟩ | ⟨e1, e2⟩ | ⟨e1, e2⟩ | ⟨e1, e2⟩ | ⟨e1, e2⟩ | ⟨e1, e2⟩ | ⟨e1, e2⟩ | ⟨e1, e2⟩ | ⟨e1, e2⟩ | ⟨e1, e2⟩ | ⟨e1, e2⟩ | ⟨e1, e2⟩ | ⟨e1, e2⟩ | ⟨e1, e2⟩ | ⟨e1, e2⟩ | ⟨e1, e2⟩ | ⟨e1, e2⟩ | ⟨e1, e2⟩ | ⟨e1, e2⟩ | ⟨e1, e2⟩ | ⟨e1, e2⟩ | ⟨e1, e2⟩ | ⟨e1, e2⟩ | ⟨e1, e2⟩ | ⟨e1, e2⟩ | ⟨e1, e2⟩ | ⟨e1, e2⟩ | ⟨e1, e2⟩ | ⟨e1, e2⟩ | ⟨e1, e2⟩ | ⟨e1, e2⟩ <;> omega), rfl⟩)
      ·
        refine sw_iinc (n := 44) F 1 (L2 := [(1, .int (jI (1 + 16 + 8))), (0, .int (jI ((↑i) / 65536)))]) rfl rfl (by decide) dJ22_numberOfTrailingZeros_41 rfl ?_
        refine sw_iload_n (n := 45) F 1 rfl rfl dJ22_numberOfTrailingZeros_44 rfl ?_
        refine sw_bipush (n := 47) F (8) (by decide) dJ22_numberOfTrailingZeros_45 rfl ?_
        refine sw_iushr (n := 48) F (jI (((↑i) / 65536) / 256)) (by have h7s := jI_ushrPQ (z := (↑i) / 65536) (c := 8) (P := 256) (k := 8) (by omega) (by decide) (by decide); exact h7s) dJ22_numberOfTrailingZeros_47 rfl ?_
        refine sw_istore_n (n := 49) F (L2 := [(0, .int (jI (((↑i) / 65536) / 256))), (1, .int (jI (1 + 16 + 8)))]) rfl (by decide) rfl dJ22_numberOfTrailingZeros_48 rfl ?_
        refine sw_iload_n (n := 50) F 0 rfl rfl dJ22_numberOfTrailingZeros_49 rfl ?_
        refine sw_bipush (n := 52) F (16) (by decide) dJ22_numberOfTrailingZeros_50 rfl ?_
        refine sw_icmp_le (n := 55) F (by omega) (by decide) (tgt := 62) dJ22_numberOfTrailingZeros_52 (by decide) rfl (fun c_52 => ?_) (fun c_52 => ?_)
        ·
          refine sw_iload_n (n := 63) F 0 rfl rfl dJ22_numberOfTrailingZeros_62 rfl ?_
          refine sw_iconst (n := 64) F (4) (by decide) dJ22_numberOfTrailingZeros_63 rfl ?_
          refine sw_icmp_le (n := 67) F (by omega) (by decide) (tgt := 74) dJ22_numberOfTrailingZeros_64 (by decide) rfl (fun c_64 => ?_) (fun c_64 => ?_)
          ·
            refine sw_iload_n (n := 75) F 1 rfl rfl dJ22_numberOfTrailingZeros_74 rfl ?_
            refine sw_iload_n (n := 76) F 0 rfl rfl dJ22_numberOfTrailingZeros_75 rfl ?_
            refine sw_iconst (n := 77) F (1) (by decide) dJ22_numberOfTrailingZeros_76 rfl ?_
            refine sw_iushr (n := 78) F (jI ((((↑i) / 65536) / 256) / 2)) (by have h7s := jI_ushrPQ (z := ((↑i) / 65536) / 256) (c := 1) (P := 2) (k := 1) (by omega) (by decide) (by decide); exact h7s) dJ22_numberOfTrailingZeros_77 rfl ?_
            refine sw_iadd (n := 79) F dJ22_numberOfTrailingZeros_78 rfl ?_
            exact sw_iret F _ rfl (by first | rfl | exact jI_nz (by omega) | exact jI_nc (by omega)) dJ22_numberOfTrailingZeros_79 (by rw [hPo]; exact ⟨(by rw [← ht]; have hcx := ntz_c t ht32; rw [← hi] at hcx; congr 3; rcases hcx with ⟨e1, e2⟩ | ⟨e1, e2⟩ | ⟨e1, e2⟩ | ⟨e1, e2⟩ | ⟨e1, e2⟩ | ⟨e1, e2⟩ | ⟨e1, e2⟩ | ⟨e1, e2⟩ | ⟨e1, e2⟩ | ⟨e1, e2⟩ | ⟨e1, e2⟩ | ⟨e1, e2⟩ | ⟨e1, e2⟩ | ⟨e1, e2⟩ | ⟨e1, e2⟩ | ⟨e1, e2⟩ | ⟨e1, e2⟩ | ⟨e1, e2⟩ | ⟨e1, e2⟩ | ⟨e1, e2⟩ | ⟨e1, e2⟩ | ⟨e1, e2⟩ | ⟨e1, e2⟩ | ⟨e1, e2⟩ | ⟨e1, e2⟩ | ⟨e1, e2⟩ | ⟨e1, e2⟩ | ⟨e1, e2⟩ | ⟨e1, e2⟩ | ⟨e1, e2⟩ | ⟨e1, e2⟩ | ⟨e1, e2⟩ <;> omega), rfl⟩)
          ·
            refine sw_iinc (n := 70) F 1 (L2 := [(1, .int (jI (1 + 16 + 8 + 2))), (0, .int (jI (((↑i) / 65536) / 256)))]) rfl rfl (by decide) dJ22_numberOfTrailingZeros_67 rfl ?_
            refine sw_iload_n (n := 71) F 1 rfl rfl dJ22_numberOfTrailingZeros_70 rfl ?_
            refine sw_iconst (n := 72) F (2) (by decide) dJ22_numberOfTrailingZeros_71 rfl ?_
            refine sw_iushr (n := 73) F (jI ((((↑i) / 65536) / 256) / 4)) (by have h7s := jI_ushrPQ (z := ((↑i) / 65536) / 256) (c := 2) (P := 4) (k := 2) (by omega) (by decide) (by decide); exact h7s) dJ22_numberOfTrailingZeros_72 rfl ?_
            refine sw_istore_n (n := 74) F (L2 := [(0, .int (jI ((((↑i) / 65536) / 256) / 4))), (1, .int (jI (1 + 16 + 8 + 2)))]) rfl (by decide) rfl dJ22_numberOfTrailingZeros_73 rfl ?_
            refine sw_iload_n (n := 75) F 1 rfl rfl dJ22_numberOfTrailingZeros_74 rfl ?_
            refine sw_iload_n (n := 76) F 0 rfl rfl dJ22_numberOfTrailingZeros_75 rfl ?_
            refine sw_iconst (n := 77) F (1) (by decide) dJ22_numberOfTrailingZeros_76 rfl ?_
            refine sw_iushr (n := 78) F (jI (((((↑i) / 65536) / 256) / 4) / 2)) (by have h7s := jI_ushrPQ (z := (((↑i) / 65536) / 256) / 4) (c := 1) (P := 2) (k := 1) (by omega) (by decide) (by decide); exact h7s) dJ22_numberOfTrailingZeros_77 rfl ?_
            refine sw_iadd (n := 79) F dJ22_numberOfTrailingZeros_78 rfl ?_
            exact sw_iret F _ rfl (by first | rfl | exact jI_nz (by omega) | exact jI_nc (by omega)) dJ22_numberOfTrailingZeros_79 (by rw [hPo]; exact ⟨(by rw [← ht]; have hcx := ntz_c t ht32; rw [← hi] at hcx; congr 3; rcases hcx with ⟨e1, e2⟩ | ⟨e1, e2⟩ | ⟨e1, e2⟩ | ⟨e1, e2⟩ | ⟨e1, e2⟩ | ⟨e1, e2⟩ | ⟨e1, e2⟩ | ⟨e1, e2⟩ | ⟨e1, e2⟩ | ⟨e1, e2⟩ | ⟨e1, e2⟩ | ⟨e1, e2⟩ | ⟨e1, e2⟩ | ⟨e1, e2⟩ | ⟨e1, e2⟩ | ⟨e1, e2⟩ | ⟨e1, e2⟩ | ⟨e1, e2⟩ | ⟨e1, e2⟩ | ⟨e1, e2⟩ | ⟨e1, e2⟩ | ⟨e1, e2⟩ | ⟨e1, e2⟩ | ⟨e1, e2⟩ | ⟨e1, e2⟩ | ⟨e1, e2⟩ | ⟨e1, e2⟩ | ⟨e1, e2⟩ | ⟨e1, e2⟩ | ⟨e1, e2⟩ | ⟨e1, e2⟩ | ⟨e1, e2⟩ <;> omega), rfl⟩)
        ·
          refine sw_iinc (n := 58) F 1 (L2 := [(1, .int (jI (1 + 16 + 8 + 4))), (0, .int (jI (((↑i) / 65536) / 256)))]) rfl rfl (by decide) dJ22_numberOfTrailingZeros_55 rfl ?_
          refine sw_iload_n (n := 59) F 1 rfl rfl dJ22_numberOfTrailingZeros_58 rfl ?_
          refine sw_iconst (n := 60) F (4) (by decide) dJ22_numberOfTrailingZeros_59 rfl ?_
          refine sw_iushr (n := 61) F (jI ((((↑i) / 65536) / 256) / 16)) (by have h7s := jI_ushrPQ (z := ((↑i) / 65536) / 256) (c := 4) (P := 16) (k := 4) (by omega) (by decide) (by decide); exact h7s) dJ22_numberOfTrailingZeros_60 rfl ?_
          refine sw_istore_n (n := 62) F (L2 := [(0, .int (jI ((((↑i) / 65536) / 256) / 16))), (1, .int (jI (1 + 16 + 8 + 4)))]) rfl (by decide) rfl dJ22_numberOfTrailingZeros_61 rfl ?_
          refine sw_iload_n (n := 63) F 0 rfl rfl dJ22_numberOfTrailingZeros_62 rfl ?_
          refine sw_iconst (n := 64) F (4) (by decide) dJ22_numberOfTrailingZeros_63 rfl ?_
          refine sw_icmp_le (n := 67) F (by omega) (by decide) (tgt := 74) dJ22_numberOfTrailingZeros_64 (by decide) rfl (fun c_64 => ?_) (fun c_64 => ?_)
          ·
            refine sw_iload_n (n := 75) F 1 rfl rfl dJ22_numberOfTrailingZeros_74 rfl ?_
            refine sw_iload_n (n := 76) F 0 rfl rfl dJ22_numberOfTrailingZeros_75 rfl ?_
            refine sw_iconst (n := 77) F (1) (by decide) dJ22_numberOfTrailingZeros_76 rfl ?_
            refine sw_iushr (n := 78) F (jI (((((↑i) / 65536) / 256) / 16) / 2)) (by have h7s := jI_ushrPQ (z := (((↑i) / 65536) / 256) / 16) (c := 1) (P := 2) (k := 1) (by omega) (by decide) (by decide); exact h7s) dJ22_numberOfTrailingZeros_77 rfl ?_
            refine sw_iadd (n := 79) F dJ22_numberOfTrailingZeros_78 rfl ?_
            exact sw_iret F _ rfl (by first | rfl | exact jI_nz (by omega) | exact jI_nc (by omega)) dJ22_numberOfTrailingZeros_79 (by rw [hPo]; exact ⟨(by rw [← ht]; have hcx := ntz_c t ht32; rw [← hi] at hcx; congr 3; rcases hcx with ⟨e1, e2⟩ | ⟨e1, e2⟩ | ⟨e1, e2⟩ | ⟨e1, e2⟩ | ⟨e1, e2⟩ | ⟨e1, e2⟩ | ⟨e1, e2⟩ | ⟨e1, e2⟩ | ⟨e1, e2⟩ | ⟨e1, e2⟩ | ⟨e1, e2⟩ | ⟨e1, e2⟩ | ⟨e1, e2⟩ | ⟨e1, e2⟩ | ⟨e1, e2⟩ | ⟨e1, e2⟩ | ⟨e1, e2⟩ | ⟨e1, e2⟩ | ⟨e1, e2⟩ | ⟨e1, e2⟩ | ⟨e1, e2⟩ | ⟨e1, e2⟩ | ⟨e1, e2⟩ | ⟨e1, e2⟩ | ⟨e1, e2⟩ | ⟨e1, e2⟩ | ⟨e1, e2⟩ | ⟨e1, e2⟩ | ⟨e1, e2⟩ | ⟨e1, e2⟩ | ⟨e1, e2⟩ | ⟨e1, e2⟩ <;> omega), rfl⟩)
          ·
            refine sw_iinc (n := 70) F 1 (L2 := [(1, .int (jI (1 + 16 + 8 + 4 + 2))), (0, .int (jI ((((↑i) / 65536) / 256) / 16)))]) rfl rfl (by decide) dJ22_numberOfTrailingZeros_67 rfl ?_
            refine sw_iload_n (n := 71) F 1 rfl rfl dJ22_numberOfTrailingZeros_70 rfl ?_
            refine sw_iconst (n := 72) F (2) (by decide) dJ22_numberOfTrailingZeros_71 rfl ?_
            refine sw_iushr (n := 73) F (jI (((((↑i) / 65536) / 256) / 16) / 4)) (by have h7s := jI_ushrPQ (z := (((↑i) / 65536) / 256) / 16) (c := 2) (P := 4) (k := 2) (by omega) (by decide) (by decide); exact h7s) dJ22_numberOfTrailingZeros_72 rfl ?_
            refine sw_istore_n (n := 74) F (L2 := [(0, .int (jI (((((↑i) / 65536) / 256) / 16) / 4))), (1, .int (jI (1 + 16 + 8 + 4 + 2)))]) rfl (by decide) rfl dJ22_numberOfTrailingZeros_73 rfl ?_
            refine sw_iload_n (n := 75) F 1 rfl rfl dJ22_numberOfTrailingZeros_74 rfl ?_
            refine sw_iload_n (n := 76) F 0 rfl rfl dJ22_numberOfTrailingZeros_75 rfl ?_
            refine sw_iconst (n := 77) F (1) (by decide) dJ22_numberOfTrailingZeros_76 rfl ?_
            refine sw_iushr (n := 78) F (jI ((((((↑i) / 65536) / 256) / 16) / 4) / 2)) (by have h7s := jI_ushrPQ (z := ((((↑i) / 65536) / 256) / 16) / 4) (c := 1) (P := 2) (k := 1) (by omega) (by decide) (by decide); exact h7s) dJ22_numberOfTrailingZeros_77 rfl ?_
            refine sw_iadd (n := 79) F dJ22_numberOfTrailingZeros_78 rfl ?_
            exact sw_iret F _ rfl (by first | rfl | exact jI_nz (by omega) | exact jI_nc (by omega)) dJ22_numberOfTrailingZeros_79 (by rw [hPo]; exact ⟨(by rw [← ht]; have hcx := ntz_c t ht32; rw [← hi] at hcx; congr 3; rcases hcx with ⟨e1, e2⟩ | ⟨e1, e2⟩ | ⟨e1, e2⟩ | ⟨e1, e2⟩ | ⟨e1, e2⟩ | ⟨e1, e2⟩ | ⟨e1, e2⟩ | ⟨e1, e2⟩ | ⟨e1, e2⟩ | ⟨e1, e2⟩ | ⟨e1, e2⟩ | ⟨e1, e2⟩ | ⟨e1, e2⟩ | ⟨e1, e2⟩ | ⟨e1, e2⟩ | ⟨e1, e2⟩ | ⟨e1, e2⟩ | ⟨e1, e2⟩ | ⟨e1, e2⟩ | ⟨e1, e2⟩ | ⟨e1, e2⟩ | ⟨e1, e2⟩ | ⟨e1, e2⟩ | ⟨e1, e2⟩ | ⟨e1, e2⟩ | ⟨e1, e2⟩ | ⟨e1, e2⟩ | ⟨e1, e2⟩ | ⟨e1, e2⟩ | ⟨e1, e2⟩ | ⟨e1, e2⟩ | ⟨e1, e2⟩ <;> omega), rfl⟩)
  ·
    refine sw_iload_n (n := 13) F 0 rfl rfl dJ22_numberOfTrailingZeros_12 rfl ?_
    refine sw_top (topI (show (↑i : Int) = 0 by omega)) ?_
    refine sw_bipush (n := 15) F (32) (by decide) dJ22_numberOfTrailingZeros_13 rfl ?_
    refine sw_iand (n := 16) F (jI (0)) (by decide) dJ22_numberOfTrailingZeros_15 rfl ?_
    exact sw_iret F _ rfl (by first | rfl | exact jI_nz (by omega) | exact jI_nc (by omega)) dJ22_numberOfTrailingZeros_16 (by rw [hPo]; exact ⟨(by rw [← ht]; rcases Nat.eq_zero_or_pos t with e | e; rw [e]; rfl; have h2 : 2 ^ 1 ≤ 2 ^ t := Nat.pow_le_pow_right (by decide) e; omega), rfl⟩)
theorem nd_J35_binaryGcd : yJ35_binaryGcd.cls ≠ "java/lang/invoke/MethodHandle" ∧ yJ35_binaryGcd.cls ≠ "java/lang/invoke/VarHandle" ∧ (parseMethodDescriptor yJ35_binaryGcd.desc).map (fun d => d.parameters.length) = some 2 := by decide +kernel
set_option maxRecDepth 100000 in
set_option maxHeartbeats 16000000 in
theorem ct_J35_binaryGcd {g : GG} {l : Launch} (a : Nat) (b : Nat) (ha : 0 < a ∧ a < 4294967296) (hb : 0 < b ∧ b < 4294967296) : Ct g l yJ35_binaryGcd (ws_ yJ35_binaryGcd cJ35_binaryGcd 5 (Option.some Jvm.ClassFile.FieldType.int)) 2 33 0 0 [.int (jI (↑a)), .int (jI (↑b))] [] (fun v9 Ws9 => v9 = some (.int (jI (↑(Nat.gcd a b)))) ∧ Ws9 = []) (nox) := by
  refine Ct.of (cc := cJ35_binaryGcd) (nL := 5) (ret := (Option.some Jvm.ClassFile.FieldType.int)) (by decide) rfl (Nat.le_of_ble_eq_true rfl) ?_
  intro x hg hl hPo hPx hmc hms F
  subst hg; subst hl
  refine SW.cast (L' := [(0, .int (jI (↑a))), (1, .int (jI (↑b)))]) ?_ rfl rfl rfl
  have hsa := fac_spec a ha.1
  have hsb := fac_spec b hb.1
  have hfa := fac_lt (p := 2) (k := 32) (by decide) ha.1 (by rw [show (2 ^ 32 : Nat) = 4294967296 from by decide]; exact ha.2)
  have hfb := fac_lt (p := 2) (k := 32) (by decide) hb.1 (by rw [show (2 ^ 32 : Nat) = 4294967296 from by decide]; exact hb.2)
  have hla := Nat.div_le_self a (2 ^ fac 2 a)
  have hlb := Nat.div_le_self b (2 ^ fac 2 b)
  refine sw_iload_n (n := 1) F 1 rfl rfl dJ35_binaryGcd_0 rfl ?_
  refine sw_if_neU (n := 4) F (by omega) (tgt := 6) dJ35_binaryGcd_1 (by decide) rfl (fun c_1 => ?_) (fun c_1 => ?_)
  ·
    refine sw_iload_n (n := 7) F 0 rfl rfl dJ35_binaryGcd_6 rfl ?_
    refine sw_if_neU (n := 10) F (by omega) (tgt := 12) dJ35_binaryGcd_7 (by decide) rfl (fun c_7 => ?_) (fun c_7 => ?_)
    ·
      refine sw_iload_n (n := 13) F 0 rfl rfl dJ35_binaryGcd_12 rfl ?_
      refine sw_callS (n := 16) F (ct_J22_numberOfTrailingZeros (g := xg x) (l := xl x) a ha) q1985 q1336 q130 q1337 nd_J22_numberOfTrailingZeros rfl (by decide) [] rfl [] rfl 0 0 ⟨by omega, by omega⟩ [] rfl (Nat.le_of_ble_eq_true rfl) dJ35_binaryGcd_13 rfl (fun _ _ h => h.elim) (fun v Ws h => ?_)
      obtain ⟨rfl, rfl⟩ := h
      show SW x [] _ _ _ _ [.int (jI (↑(fac 2 a)))]
      refine sw_istore_n (n := 17) F (L2 := [(2, .int (jI (↑(fac 2 a)))), (0, .int (jI (↑a))), (1, .int (jI (↑b)))]) rfl (by decide) rfl dJ35_binaryGcd_16 rfl ?_
      refine sw_iload_n (n := 18) F 2 rfl rfl dJ35_binaryGcd_17 rfl ?_
      refine sw_callS (n := 21) F (ct_J22_numberOfTrailingZeros (g := xg x) (l := xl x) b hb) q1985 q1336 q130 q1337 nd_J22_numberOfTrailingZeros rfl (by decide) [] rfl [] rfl 0 0 ⟨by omega, by omega⟩ [] rfl (Nat.le_of_ble_eq_true rfl) dJ35_binaryGcd_18 rfl (fun _ _ h => h.elim) (fun v Ws h => ?_)
      obtain ⟨rfl, rfl⟩ := h
      show SW x [] _ _ _ _ [.int (jI (↑(fac 2 b)))]
      refine sw_istore_n (n := 22) F (L2 := [(3, .int (jI (↑(fac 2 b)))), (2, .int (jI (↑(fac 2 a)))), (0, .int (jI (↑a))), (1, .int (jI (↑b)))]) rfl (by decide) rfl dJ35_binaryGcd_21 rfl ?_
      refine sw_iload_n (n := 23) F 2 rfl rfl dJ35_binaryGcd_22 rfl ?_
      refine sw_iload_n (n := 24) F 1 rfl rfl dJ35_binaryGcd_23 rfl ?_
      refine sw_iushr (n := 25) F (jI ((↑a) / ((2 ^ fac 2 a : Nat) : Int))) (by have h7s := jI_ushrP (z := ↑a) (c := ↑(fac 2 a)) (k := fac 2 a) (by omega) (by omega); exact h7s) dJ35_binaryGcd_24 rfl ?_
      refine sw_top (topI (show ((↑a) / ((2 ^ fac 2 a : Nat) : Int) : Int) = ↑(a / 2 ^ fac 2 a) by rw [Int.natCast_ediv])) ?_
      refine sw_istore_n (n := 26) F (L2 := [(0, .int (jI (↑(a / 2 ^ fac 2 a)))), (3, .int (jI (↑(fac 2 b)))), (2, .int (jI (↑(fac 2 a)))), (1, .int (jI (↑b)))]) rfl (by decide) rfl dJ35_binaryGcd_25 rfl ?_
      refine sw_iload_n (n := 27) F 3 rfl rfl dJ35_binaryGcd_26 rfl ?_
      refine sw_iload_n (n := 28) F 1 rfl rfl dJ35_binaryGcd_27 rfl ?_
      refine sw_iushr (n := 29) F (jI ((↑b) / ((2 ^ fac 2 b : Nat) : Int))) (by have h7s := jI_ushrP (z := ↑b) (c := ↑(fac 2 b)) (k := fac 2 b) (by omega) (by omega); exact h7s) dJ35_binaryGcd_28 rfl ?_
      refine sw_top (topI (show ((↑b) / ((2 ^ fac 2 b : Nat) : Int) : Int) = ↑(b / 2 ^ fac 2 b) by rw [Int.natCast_ediv])) ?_
      refine sw_istore_n (n := 30) F (L2 := [(1, .int (jI (↑(b / 2 ^ fac 2 b)))), (0, .int (jI (↑(a / 2 ^ fac 2 a)))), (3, .int (jI (↑(fac 2 b)))), (2, .int (jI (↑(fac 2 a))))]) rfl (by decide) rfl dJ35_binaryGcd_29 rfl ?_
      refine sw_iload_n (n := 31) F 3 rfl rfl dJ35_binaryGcd_30 rfl ?_
      refine sw_iload_n (n := 32) F 2 rfl rfl dJ35_binaryGcd_31 rfl ?_
      have K40 : ∀ (t : Nat), ((t = fac 2 a ∧ fac 2 a ≤ fac 2 b) ∨ (t = fac 2 b ∧ fac 2 b ≤ fac 2 a)) → SW x [] 0 0 40 [(1, .int (jI (↑(b / 2 ^ fac 2 b)))), (0, .int (jI (↑(a / 2 ^ fac 2 a)))), (3, .int (jI (↑(fac 2 b)))), (2, .int (jI (↑(fac 2 a))))] [.int (jI (↑t))] := by
        intro t ht
        refine sw_istore (n := 42) F (L2 := [(4, .int (jI (↑t))), (1, .int (jI (↑(b / 2 ^ fac 2 b)))), (0, .int (jI (↑(a / 2 ^ fac 2 a)))), (3, .int (jI (↑(fac 2 b)))), (2, .int (jI (↑(fac 2 a))))]) rfl (by decide) dJ35_binaryGcd_40 rfl ?_
        have K42 : ∀ N42 : Nat, ∀ (x_ : Nat) (y_ : Nat), (x_ % 2 = 1 ∧ x_ < 4294967296) → (y_ % 2 = 1 ∧ y_ < 4294967296) → (Nat.gcd x_ y_ * 2 ^ t = Nat.gcd a b) → ((x_ + y_) < N42) → SW x [] 0 0 42 [(0, .int (jI (↑x_))), (1, .int (jI (↑y_))), (4, .int (jI (↑t)))] [] := by
          intro N42; induction N42 with
          | zero => intro x_ y_ hxo hyo hg hmu42; omega
          | succ N42 ih42 =>
            intro x_ y_ hxo hyo hg hmu42
            refine sw_iload_n (n := 43) F 0 rfl rfl dJ35_binaryGcd_42 rfl ?_
            refine sw_iload_n (n := 44) F 1 rfl rfl dJ35_binaryGcd_43 rfl ?_
            refine sw_icmp_eqU (n := 47) F (by omega) (by omega) (tgt := 86) dJ35_binaryGcd_44 (by decide) rfl (fun c_44 => ?_) (fun c_44 => ?_)
            ·
              have hxy : y_ = x_ := by omega
              have hgx := hg
              rw [hxy, Nat.gcd_self] at hgx
              refine sw_iload_n (n := 87) F 0 rfl rfl dJ35_binaryGcd_86 rfl ?_
              refine sw_iload (n := 89) F 2 rfl dJ35_binaryGcd_87 rfl ?_
              refine sw_ishl (n := 90) F (jI ((↑x_) * ((2 ^ t : Nat) : Int))) (by have h7s := jI_shl (↑x_) (c := ↑t) (k := t) (by omega); exact h7s) dJ35_binaryGcd_89 rfl ?_
              refine sw_top (topI (show ((↑x_) * ((2 ^ t : Nat) : Int) : Int) = ↑(Nat.gcd a b) by rw [← hgx, Int.natCast_mul])) ?_
              exact sw_iret F _ rfl (by first | rfl | exact jI_nz (by omega) | exact jI_nc (by omega)) dJ35_binaryGcd_90 (by rw [hPo]; exact ⟨rfl, rfl⟩)
            ·
              refine sw_iload_n (n := 48) F 0 rfl rfl dJ35_binaryGcd_47 rfl ?_
              refine sw_ldc (n := 50) F (-2147483648) q1899 (by decide) dJ35_binaryGcd_48 rfl ?_
              refine sw_iadd (n := 51) F dJ35_binaryGcd_50 rfl ?_
              refine sw_iload_n (n := 52) F 1 rfl rfl dJ35_binaryGcd_51 rfl ?_
              refine sw_ldc (n := 54) F (-2147483648) q1899 (by decide) dJ35_binaryGcd_52 rfl ?_
              refine sw_iadd (n := 55) F dJ35_binaryGcd_54 rfl ?_
              refine sw_icmp_le (n := 58) F (by omega) (by omega) (tgt := 72) dJ35_binaryGcd_55 (by decide) rfl (fun c_55 => ?_) (fun c_55 => ?_)
              ·
                refine sw_iload_n (n := 73) F 1 rfl rfl dJ35_binaryGcd_72 rfl ?_
                refine sw_iload_n (n := 74) F 0 rfl rfl dJ35_binaryGcd_73 rfl ?_
                refine sw_isub (n := 75) F dJ35_binaryGcd_74 rfl ?_
                refine sw_istore_n (n := 76) F (L2 := [(1, .int (jI ((↑y_) - (↑x_)))), (0, .int (jI (↑x_))), (4, .int (jI (↑t)))]) rfl (by decide) rfl dJ35_binaryGcd_75 rfl ?_
                refine SW.cast (L' := [(1, .int (jI (↑(y_ - x_)))), (0, .int (jI (↑x_))), (4, .int (jI (↑t)))]) ?_ rfl (by rw [show Value.int (jI ((↑y_) - (↑x_))) = Value.int (jI (↑(y_ - x_))) from topI (by omega)]) rfl
                have hfx := fac_lt (p := 2) (n := y_ - x_) (k := 32) (by decide) (by omega) (by rw [show (2 ^ 32 : Nat) = 4294967296 from by decide]; omega)
                have hsx := fac_spec (y_ - x_) (by omega)
                have hlx := Nat.div_le_self (y_ - x_) (2 ^ fac 2 (y_ - x_))
                refine sw_iload_n (n := 77) F 0 rfl rfl dJ35_binaryGcd_76 rfl ?_
                refine sw_iload_n (n := 78) F 0 rfl rfl dJ35_binaryGcd_77 rfl ?_
                refine sw_callS (n := 81) F (ct_J22_numberOfTrailingZeros (g := xg x) (l := xl x) (y_ - x_) (by first | omega | assumption)) q1985 q1336 q130 q1337 nd_J22_numberOfTrailingZeros rfl (by decide) [] rfl [] rfl 0 0 ⟨by omega, by omega⟩ [.int (jI (↑(y_ - x_)))] rfl (Nat.le_of_ble_eq_true rfl) dJ35_binaryGcd_78 rfl (fun _ _ h => h.elim) (fun v Ws h => ?_)
                obtain ⟨rfl, rfl⟩ := h
                show SW x [] _ _ _ _ [.int (jI (↑(fac 2 (y_ - x_)))), .int (jI (↑(y_ - x_)))]
                refine sw_iushr (n := 82) F (jI ((↑(y_ - x_)) / ((2 ^ fac 2 (y_ - x_) : Nat) : Int))) (by have h7s := jI_ushrP (z := ↑(y_ - x_)) (c := ↑(fac 2 (y_ - x_))) (k := fac 2 (y_ - x_)) (by omega) (by omega); exact h7s) dJ35_binaryGcd_81 rfl ?_
                refine sw_top (topI (show ((↑(y_ - x_)) / ((2 ^ fac 2 (y_ - x_) : Nat) : Int) : Int) = ↑((y_ - x_) / 2 ^ fac 2 (y_ - x_)) by rw [Int.natCast_ediv])) ?_
                refine sw_istore_n (n := 83) F (L2 := [(1, .int (jI (↑((y_ - x_) / 2 ^ fac 2 (y_ - x_))))), (0, .int (jI (↑x_))), (4, .int (jI (↑t)))]) rfl (by decide) rfl dJ35_binaryGcd_82 rfl ?_
                refine sw_goto F (n := 42) dJ35_binaryGcd_83 (by decide) ?_
                refine sw_loc [1, 0, 2] (L2 := [(0, .int (jI (↑x_))), (1, .int (jI (↑((y_ - x_) / 2 ^ fac 2 (y_ - x_))))), (4, .int (jI (↑t)))]) rfl ?_
                exact ih42 x_ ((y_ - x_) / 2 ^ fac 2 (y_ - x_)) (by omega) (by omega) (by rw [Nat.gcd_comm, g_sub hxo.1 (by omega), Nat.gcd_comm]; exact hg) (by omega)
              ·
                refine sw_iload_n (n := 59) F 0 rfl rfl dJ35_binaryGcd_58 rfl ?_
                refine sw_iload_n (n := 60) F 1 rfl rfl dJ35_binaryGcd_59 rfl ?_
                refine sw_isub (n := 61) F dJ35_binaryGcd_60 rfl ?_
                refine sw_istore_n (n := 62) F (L2 := [(0, .int (jI ((↑x_) - (↑y_)))), (1, .int (jI (↑y_))), (4, .int (jI (↑t)))]) rfl (by decide) rfl dJ35_binaryGcd_61 rfl ?_
                refine SW.cast (L' := [(0, .int (jI (↑(x_ - y_)))), (1, .int (jI (↑y_))), (4, .int (jI (↑t)))]) ?_ rfl (by rw [show Value.int (jI ((↑x_) - (↑y_))) = Value.int (jI (↑(x_ - y_))) from topI (by omega)]) rfl
                have hfx := fac_lt (p := 2) (n := x_ - y_) (k := 32) (by decide) (by omega) (by rw [show (2 ^ 32 : Nat) = 4294967296 from by decide]; omega)
                have hsx := fac_spec (x_ - y_) (by omega)
                have hlx := Nat.div_le_self (x_ - y_) (2 ^ fac 2 (x_ - y_))
                refine sw_iload_n (n := 63) F 0 rfl rfl dJ35_binaryGcd_62 rfl ?_
                refine sw_iload_n (n := 64) F 0 rfl rfl dJ35_binaryGcd_63 rfl ?_
                refine sw_callS (n := 67) F (ct_J22_numberOfTrailingZeros (g := xg x) (l := xl x) (x_ - y_) (by first | omega | assumption)) q1985 q1336 q130 q1337 nd_J22_numberOfTrailingZeros rfl (by decide) [] rfl [] rfl 0 0 ⟨by omega, by omega⟩ [.int (jI (↑(x_ - y_)))] rfl (Nat.le_of_ble_eq_true rfl) dJ35_binaryGcd_64 rfl (fun _ _ h => h.elim) (fun v Ws h => ?_)
                obtain ⟨rfl, rfl⟩ := h
                show SW x [] _ _ _ _ [.int (jI (↑(fac 2 (x_ - y_)))), .int (jI (↑(x_ - y_)))]
                refine sw_iushr (n := 68) F (jI ((↑(x_ - y_)) / ((2 ^ fac 2 (x_ - y_) : Nat) : Int))) (by have h7s := jI_ushrP (z := ↑(x_ - y_)) (c := ↑(fac 2 (x_ - y_))) (k := fac 2 (x_ - y_)) (by omega) (by omega); exact h7s) dJ35_binaryGcd_67 rfl ?_
                refine sw_top (topI (show ((↑(x_ - y_)) / ((2 ^ fac 2 (x_ - y_) : Nat) : Int) : Int) = ↑((x_ - y_) / 2 ^ fac 2 (x_ - y_)) by rw [Int.natCast_ediv])) ?_
                refine sw_istore_n (n := 69) F (L2 := [(0, .int (jI (↑((x_ - y_) / 2 ^ fac 2 (x_ - y_))))), (1, .int (jI (↑y_))), (4, .int (jI (↑t)))]) rfl (by decide) rfl dJ35_binaryGcd_68 rfl ?_
                refine sw_goto F (n := 42) dJ35_binaryGcd_69 (by decide) ?_
                exact ih42 ((x_ - y_) / 2 ^ fac 2 (x_ - y_)) y_ (by omega) (by omega) (by rw [g_sub hyo.1 (by omega)]; exact hg) (by omega)
        refine sw_loc [2, 1, 0] (L2 := [(0, .int (jI (↑(a / 2 ^ fac 2 a)))), (1, .int (jI (↑(b / 2 ^ fac 2 b)))), (4, .int (jI (↑t)))]) rfl ?_
        exact K42 _ (a / 2 ^ fac 2 a) (b / 2 ^ fac 2 b) (by omega) (by omega) (by exact g_init ha.1 hb.1 ht) (Nat.lt_succ_self _)
      refine sw_icmp_ge (n := 35) F (by omega) (by omega) (tgt := 39) dJ35_binaryGcd_32 (by decide) rfl (fun c_32 => ?_) (fun c_32 => ?_)
      ·
        refine sw_iload_n (n := 40) F 2 rfl rfl dJ35_binaryGcd_39 rfl ?_
        exact K40 (fac 2 b) (by omega)
      ·
        refine sw_iload_n (n := 36) F 3 rfl rfl dJ35_binaryGcd_35 rfl ?_
        refine sw_goto F (n := 40) dJ35_binaryGcd_36 (by decide) ?_
        exact K40 (fac 2 a) (by omega)
    · exfalso; omega
  · exfalso; omega
theorem nd_J35_getLowestSetBit : yJ35_getLowestSetBit.cls ≠ "java/lang/invoke/MethodHandle" ∧ yJ35_getLowestSetBit.cls ≠ "java/lang/invoke/VarHandle" ∧ (parseMethodDescriptor yJ35_getLowestSetBit.desc).map (fun d => d.parameters.length) = some 0 := by decide +kernel
set_option maxRecDepth 100000 in
set_option maxHeartbeats 16000000 in
theorem ct_J35_getLowestSetBit {g : GG} {l : Launch} (q : Nat) (a : Nat) (N : Nat) (f : Nat → Nat) (n : Nat) (o : Nat) (hN : o + n ≤ N ∧ N ≤ 64) (hf : ∀ k, k < N → f k < 4294967296) (hn : 0 < n) (h0 : mw f o n ≠ 0) : Ct g l yJ35_getLowestSetBit (ws_ yJ35_getLowestSetBit cJ35_getLowestSetBit 3 (Option.some Jvm.ClassFile.FieldType.int)) 2 33 0 0 [.ref q] [ob g q 19 [.ref a, .int (jI (↑n)), .int (jI (↑o))], aN g 0 a N f] (fun v9 Ws9 => v9 = some (.int (jI (↑(fac 2 (mw f o n))))) ∧ Ws9 = [ob g q 19 [.ref a, .int (jI (↑n)), .int (jI (↑o))], aN g 0 a N f]) (nox) := by
  refine Ct.of (cc := cJ35_getLowestSetBit) (nL := 3) (ret := (Option.some Jvm.ClassFile.FieldType.int)) (by decide) rfl (Nat.le_of_ble_eq_true rfl) ?_
  intro x hg hl hPo hPx hmc hms F
  subst hg; subst hl
  refine SW.cast (L' := [(0, .ref q)]) ?_ rfl rfl rfl
  refine sw_aload_n (n := 1) F 0 (some q) rfl rfl rfl dJ35_getLowestSetBit_0 rfl ?_
  refine sw_get (n := 4) F 0 rfl (k := 1) ⟨(RJ35, TJ35, 3), rfl, by decide, q1837, in_J35, Or.inl rfl⟩ rfl dJ35_getLowestSetBit_1 rfl ?_
  refine sw_if_ne (n := 7) F (by omega) (tgt := 9) dJ35_getLowestSetBit_4 (by decide) rfl (fun c_4 => ?_) (fun c_4 => ?_)
  ·
    refine sw_aload_n (n := 10) F 0 (some q) rfl rfl rfl dJ35_getLowestSetBit_9 rfl ?_
    have K40 : ∀ (k : Nat), (k < n) → (∀ i, i < k → f (o + n - 1 - i) = 0) → (k + 1 = n ∨ f (o + n - 1 - k) ≠ 0) → SW x [ob (xg x) q 19 [.ref a, .int (jI (↑n)), .int (jI (↑o))], aN (xg x) 0 a N f] 0 0 40 [(0, .ref q), (1, .int (jI (↑n - 1 - ↑k)))] [] := by
      intro k hk hz hq
      refine sw_aload_n (n := 41) F 0 (some q) rfl rfl rfl dJ35_getLowestSetBit_40 rfl ?_
      refine sw_get (n := 44) F 0 rfl (k := 0) ⟨(RJ35, TJ35, 3), rfl, by decide, q1836, in_J35, Or.inl rfl⟩ rfl dJ35_getLowestSetBit_41 rfl ?_
      refine sw_iload_n (n := 45) F 1 rfl rfl dJ35_getLowestSetBit_44 rfl ?_
      refine sw_aload_n (n := 46) F 0 (some q) rfl rfl rfl dJ35_getLowestSetBit_45 rfl ?_
      refine sw_get (n := 49) F 0 rfl (k := 2) ⟨(RJ35, TJ35, 3), rfl, by decide, q1838, in_J35, Or.inl rfl⟩ rfl dJ35_getLowestSetBit_46 rfl ?_
      refine sw_iadd (n := 50) F dJ35_getLowestSetBit_49 rfl ?_
      refine sw_ialoadN (n := 51) F 1 rfl (fun _ => rfl) (o + n - 1 - k) (by omega) (by omega) dJ35_getLowestSetBit_50 rfl ?_
      have hb_x : f (o + n - 1 - k) < 4294967296 := hf _ (by omega)
      have hw0 : f (o + n - 1 - k) ≠ 0 := by intro hc; exact h0 (mw_zero fun j hj => by rcases Nat.lt_or_ge (n - 1 - j) k with c | c; have := hz (n - 1 - j) c; rw [show o + n - 1 - (n - 1 - j) = o + j by omega] at this; exact this; rw [show o + j = o + n - 1 - k by omega]; exact hc)
      have hfm := fac_mw hf hN.1 hk hz hw0
      have hf32 := fac_lt (p := 2) (k := 32) (n := f (o + n - 1 - k)) (by decide) (by omega) (by rw [show (2 ^ 32 : Nat) = 4294967296 from by decide]; exact hb_x)
      refine sw_istore_n (n := 52) F (L2 := [(2, .int (jI (↑(f (o + n - 1 - k))))), (0, .ref q), (1, .int (jI (↑n - 1 - ↑k)))]) rfl (by decide) rfl dJ35_getLowestSetBit_51 rfl ?_
      refine sw_iload_n (n := 53) F 0 rfl rfl dJ35_getLowestSetBit_52 rfl ?_
      refine sw_if_neU (n := 56) F (by omega) (tgt := 58) dJ35_getLowestSetBit_53 (by decide) rfl (fun c_53 => ?_) (fun c_53 => ?_)
      ·
        refine sw_aload_n (n := 59) F 1 (some q) rfl rfl rfl dJ35_getLowestSetBit_58 rfl ?_
        refine sw_get (n := 62) F 0 rfl (k := 1) ⟨(RJ35, TJ35, 3), rfl, by decide, q1837, in_J35, Or.inl rfl⟩ rfl dJ35_getLowestSetBit_59 rfl ?_
        refine sw_iconst (n := 63) F (1) (by decide) dJ35_getLowestSetBit_62 rfl ?_
        refine sw_isub (n := 64) F dJ35_getLowestSetBit_63 rfl ?_
        refine sw_iload_n (n := 65) F 2 rfl rfl dJ35_getLowestSetBit_64 rfl ?_
        refine sw_isub (n := 66) F dJ35_getLowestSetBit_65 rfl ?_
        refine sw_top (topI (show (((↑n) - 1) - (↑n - 1 - ↑k) : Int) = ↑k by omega)) ?_
        refine sw_iconst (n := 67) F (5) (by decide) dJ35_getLowestSetBit_66 rfl ?_
        refine sw_ishl (n := 68) F (jI ((↑k) * 32)) (by have h7s := jI_shlQ (↑k) (c := 5) (P := 32) (k := 5) (by decide) (by decide); exact h7s) dJ35_getLowestSetBit_67 rfl ?_
        refine sw_iload_n (n := 69) F 0 rfl rfl dJ35_getLowestSetBit_68 rfl ?_
        refine sw_callS (n := 72) F (ct_J22_numberOfTrailingZeros (g := xg x) (l := xl x) (f (o + n - 1 - k)) (by first | omega | assumption)) q1985 q1336 q130 q1337 nd_J22_numberOfTrailingZeros rfl (by decide) [0, 1] rfl [ob (xg x) q 19 [.ref a, .int (jI (↑n)), .int (jI (↑o))], aN (xg x) 0 a N f] rfl 0 0 ⟨by omega, by omega⟩ [.int (jI ((↑k) * 32))] rfl (Nat.le_of_ble_eq_true rfl) dJ35_getLowestSetBit_69 rfl (fun _ _ h => h.elim) (fun v Ws h => ?_)
        obtain ⟨rfl, rfl⟩ := h
        show SW x [ob (xg x) q 19 [.ref a, .int (jI (↑n)), .int (jI (↑o))], aN (xg x) 0 a N f] _ _ _ _ [.int (jI (↑(fac 2 (f (o + n - 1 - k))))), .int (jI ((↑k) * 32))]
        refine sw_iadd (n := 73) F dJ35_getLowestSetBit_72 rfl ?_
        refine sw_top (topI (show (((↑k) * 32) + (↑(fac 2 (f (o + n - 1 - k)))) : Int) = ↑(fac 2 (mw f o n)) by omega)) ?_
        exact sw_iret F _ rfl (by first | rfl | exact jI_nz (by omega) | exact jI_nc (by omega)) dJ35_getLowestSetBit_73 (by rw [hPo]; exact ⟨rfl, rfl⟩)
      · exfalso; omega
    refine sw_get (n := 13) F 0 rfl (k := 1) ⟨(RJ35, TJ35, 3), rfl, by decide, q1837, in_J35, Or.inl rfl⟩ rfl dJ35_getLowestSetBit_10 rfl ?_
    refine sw_iconst (n := 14) F (1) (by decide) dJ35_getLowestSetBit_13 rfl ?_
    refine sw_isub (n := 15) F dJ35_getLowestSetBit_14 rfl ?_
    refine sw_istore_n (n := 16) F (L2 := [(1, .int (jI ((↑n) - 1))), (0, .ref q)]) rfl (by decide) rfl dJ35_getLowestSetBit_15 rfl ?_
    have K16 : ∀ N16 : Nat, ∀ (k : Nat), (k < n) → (∀ i, i < k → f (o + n - 1 - i) = 0) → ((n - k) < N16) → SW x [ob (xg x) q 19 [.ref a, .int (jI (↑n)), .int (jI (↑o))], aN (xg x) 0 a N f] 0 0 16 [(0, .ref q), (1, .int (jI (↑n - 1 - ↑k)))] [] := by
      intro N16; induction N16 with
      | zero => intro k hk hz hmu16; omega
      | succ N16 ih16 =>
        intro k hk hz hmu16
        refine sw_iload_n (n := 17) F 1 rfl rfl dJ35_getLowestSetBit_16 rfl ?_
        refine sw_if_le (n := 20) F (by omega) (tgt := 40) dJ35_getLowestSetBit_17 (by decide) rfl (fun c_17 => ?_) (fun c_17 => ?_)
        ·
          exact K40 k hk (by first | exact hz | (intro i hi; omega) | (intro i hi; rcases Nat.lt_or_ge i k with c | c; exact hz i c; rw [show i = k by omega]; omega)) (by first | (left; omega) | (right; omega))
        ·
          refine sw_aload_n (n := 21) F 0 (some q) rfl rfl rfl dJ35_getLowestSetBit_20 rfl ?_
          refine sw_get (n := 24) F 0 rfl (k := 0) ⟨(RJ35, TJ35, 3), rfl, by decide, q1836, in_J35, Or.inl rfl⟩ rfl dJ35_getLowestSetBit_21 rfl ?_
          refine sw_iload_n (n := 25) F 1 rfl rfl dJ35_getLowestSetBit_24 rfl ?_
          refine sw_aload_n (n := 26) F 0 (some q) rfl rfl rfl dJ35_getLowestSetBit_25 rfl ?_
          refine sw_get (n := 29) F 0 rfl (k := 2) ⟨(RJ35, TJ35, 3), rfl, by decide, q1838, in_J35, Or.inl rfl⟩ rfl dJ35_getLowestSetBit_26 rfl ?_
          refine sw_iadd (n := 30) F dJ35_getLowestSetBit_29 rfl ?_
          refine sw_ialoadN (n := 31) F 1 rfl (fun _ => rfl) (o + n - 1 - k) (by omega) (by omega) dJ35_getLowestSetBit_30 rfl ?_
          have hb_x : f (o + n - 1 - k) < 4294967296 := hf _ (by omega)
          refine sw_if_neU (n := 34) F (by omega) (tgt := 40) dJ35_getLowestSetBit_31 (by decide) rfl (fun c_31 => ?_) (fun c_31 => ?_)
          ·
            exact K40 k hk (by first | exact hz | (intro i hi; omega) | (intro i hi; rcases Nat.lt_or_ge i k with c | c; exact hz i c; rw [show i = k by omega]; omega)) (by first | (left; omega) | (right; omega))
          ·
            refine sw_iinc (n := 37) F 1 (L2 := [(1, .int (jI (↑n - 1 - ↑k + (-1)))), (0, .ref q)]) rfl rfl (by decide) dJ35_getLowestSetBit_34 rfl ?_
            refine sw_goto F (n := 16) dJ35_getLowestSetBit_37 (by decide) ?_
            refine sw_loc [1, 0] (L2 := [(0, .ref q), (1, .int (jI (↑n - 1 - ↑k + (-1))))]) rfl ?_
            rw [show (↑n - 1 - ↑k + (-1) : Int) = ↑n - 1 - ↑(k + 1) by omega]
            exact ih16 (k + 1) (by first | omega | assumption) (by first | exact hz | (intro i hi; omega) | (intro i hi; rcases Nat.lt_or_ge i k with c | c; exact hz i c; rw [show i = k by omega]; omega)) (by omega)
    refine SW.cast (L' := [(1, .int (jI (↑n - 1 - 0))), (0, .ref q)]) ?_ rfl (by rw [show Value.int (jI ((↑n) - 1)) = Value.int (jI (↑n - 1 - 0)) from topI (by omega)]) rfl
    refine sw_loc [1, 0] (L2 := [(0, .ref q), (1, .int (jI (↑n - 1 - 0)))]) rfl ?_
    exact K16 _ 0 hn (by first | exact hz | (intro i hi; omega) | (intro i hi; rcases Nat.lt_or_ge i k with c | c; exact hz i c; rw [show i = k by omega]; omega)) (Nat.lt_succ_self _)
  · exfalso; omega
theorem nd_J35_init_5 : yJ35_init_5.cls ≠ "java/lang/invoke/MethodHandle" ∧ yJ35_init_5.cls ≠ "java/lang/invoke/VarHandle" ∧ (parseMethodDescriptor yJ35_init_5.desc).map (fun d => d.parameters.length) = some 1 := by decide +kernel
set_option maxRecDepth 100000 in
set_option maxHeartbeats 16000000 in
theorem ct_J35_init_5 {g : GG} {l : Launch} (M : Nat → Option PV) (q : Nat) (q2 : Nat) (v : Int) (a : Nat) (hx : at_ g M q2 (vI v a)) (hb : v.natAbs < bw 6) : Ct g l yJ35_init_5 (ws_ yJ35_init_5 cJ35_init_5 2 (Option.none : Option Jvm.ClassFile.FieldType)) 2 36 1 8 [.ref q, .ref q2] [ob g q 19 [.null, .int (jI 0), .int (jI 0)], pl g M] (fun v9 Ws9 => ∃ a1 : Nat, ∃ n1 : Nat, ∃ f1 : Nat → Nat, v9 = none ∧ (wOK n1 f1) ∧ (wv f1 n1 = v.natAbs) ∧ Ws9 = [ob g q 19 [.ref a1, .int (jI (↑n1)), .int (jI 0)], aN g 0 a1 n1 f1, pl g M]) (nox) := by
  refine Ct.of (cc := cJ35_init_5) (nL := 2) (ret := (Option.none : Option Jvm.ClassFile.FieldType)) (by decide) rfl (Nat.le_of_ble_eq_true rfl) ?_
  intro x hg hl hPo hPx hmc hms F
  subst hg; subst hl
  refine SW.cast (L' := [(0, .ref q), (1, .ref q2)]) ?_ rfl rfl rfl
  refine sw_factI 1 rfl hx (fun n9 f9 ha9 hw9 hv9 => ?_)
  have hn9 : n9 ≤ 6 := wOK_len hw9 (by rw [hv9]; exact hb)
  refine sw_aload_n (n := 1) F 0 (some q) rfl rfl rfl dJ35_init_5_0 rfl ?_
  refine sw_objInit (n := 4) F q1835 q_oi q_oc (by decide) dJ35_init_5_1 rfl ?_
  refine sw_aload_n (n := 5) F 0 (some q) rfl rfl rfl dJ35_init_5_4 rfl ?_
  refine sw_iconst (n := 6) F (0) (by decide) dJ35_init_5_5 rfl ?_
  refine sw_put (n := 9) F 0 rfl (k := 2) ⟨(RJ35, TJ35, 3), rfl, by decide, q1838, in_J35, Or.inl rfl⟩ .int ⟨(RJ35, TJ35, 3), rfl, rfl, tyJ35_ok 2 (by decide), nmJ35, tyJ35, tyJ35_ok⟩ rfl rfl (Nat.le_of_ble_eq_true rfl) rfl [ob (xg x) q 19 [.null, .int (jI 0), .int (jI 0)], pl (xg x) M] rfl dJ35_init_5_6 rfl ?_
  refine sw_aload_n (n := 10) F 0 (some q) rfl rfl rfl dJ35_init_5_9 rfl ?_
  refine sw_aload_n (n := 11) F 1 (some q2) rfl rfl rfl dJ35_init_5_10 rfl ?_
  refine sw_getI (n := 14) F 1 rfl hx (k := 1) ⟨(RJ19, TJ19, 6), rfl, by decide, q1073, in_J19, Or.inl rfl⟩ (.ref a) (fun _ _ _ _ => rfl) dJ35_init_5_11 rfl ?_
  refine sw_alenK (n := 15) F (plA F 1 rfl ha9) dJ35_init_5_14 rfl ?_
  show SW x _ _ _ _ _ [.int (jI (↑n9)), .ref q]
  refine sw_put (n := 18) F 0 rfl (k := 1) ⟨(RJ35, TJ35, 3), rfl, by decide, q1837, in_J35, Or.inl rfl⟩ .int ⟨(RJ35, TJ35, 3), rfl, rfl, tyJ35_ok 1 (by decide), nmJ35, tyJ35, tyJ35_ok⟩ rfl rfl (Nat.le_of_ble_eq_true rfl) rfl [ob (xg x) q 19 [.null, .int (jI (↑n9)), .int (jI 0)], pl (xg x) M] rfl dJ35_init_5_15 rfl ?_
  refine sw_aload_n (n := 19) F 0 (some q) rfl rfl rfl dJ35_init_5_18 rfl ?_
  refine sw_aload_n (n := 20) F 1 (some q2) rfl rfl rfl dJ35_init_5_19 rfl ?_
  refine sw_getI (n := 23) F 1 rfl hx (k := 1) ⟨(RJ19, TJ19, 6), rfl, by decide, q1073, in_J19, Or.inl rfl⟩ (.ref a) (fun _ _ _ _ => rfl) dJ35_init_5_20 rfl ?_
  refine sw_aload_n (n := 24) F 0 (some q) rfl rfl rfl dJ35_init_5_23 rfl ?_
  refine sw_get (n := 27) F 0 rfl (k := 1) ⟨(RJ35, TJ35, 3), rfl, by decide, q1837, in_J35, Or.inl rfl⟩ rfl dJ35_init_5_24 rfl ?_
  refine sw_callS (n := 30) F (ct_J23_copyOf_2 (g := xg x) (l := xl x) M a n9 f9 ha9 (by first | omega | assumption)) q2074 q1348 q131 q1349 nd_J23_copyOf_2 rfl (by decide) [1, 0] rfl [ob (xg x) q 19 [.null, .int (jI (↑n9)), .int (jI 0)]] rfl 0 0 ⟨by omega, by omega⟩ [.ref q] rfl (Nat.le_of_ble_eq_true rfl) dJ35_init_5_27 rfl (fun _ _ h => h.elim) (fun v Ws h => ?_)
  obtain ⟨r1_1, rfl, rfl⟩ := h
  show SW x [aN (xg x) 0 r1_1 n9 f9, pl (xg x) M, ob (xg x) q 19 [.null, .int (jI (↑n9)), .int (jI 0)]] _ _ _ _ [.ref r1_1, .ref q]
  refine sw_put (n := 33) F 2 rfl (k := 0) ⟨(RJ35, TJ35, 3), rfl, by decide, q1836, in_J35, Or.inl rfl⟩ (tyJ35 0) ⟨(RJ35, TJ35, 3), rfl, rfl, tyJ35_ok 0 (by decide), nmJ35, tyJ35, tyJ35_ok⟩ rfl rfl (Nat.le_of_ble_eq_true rfl) rfl [aN (xg x) 0 r1_1 n9 f9, pl (xg x) M, ob (xg x) q 19 [.ref r1_1, .int (jI (↑n9)), .int (jI 0)]] rfl dJ35_init_5_30 rfl ?_
  refine sw_perm [2, 0, 1] rfl [ob (xg x) q 19 [.ref r1_1, .int (jI (↑n9)), .int (jI 0)], aN (xg x) 0 r1_1 n9 f9, pl (xg x) M] rfl ?_
  exact sw_vret F rfl dJ35_init_5_33 (by rw [hPo]; exact ⟨r1_1, n9, f9, rfl, (by exact hw9), (by exact hv9), rfl⟩)
theorem nd_J35_toBigInteger : yJ35_toBigInteger.cls ≠ "java/lang/invoke/MethodHandle" ∧ yJ35_toBigInteger.cls ≠ "java/lang/invoke/VarHandle" ∧ (parseMethodDescriptor yJ35_toBigInteger.desc).map (fun d => d.parameters.length) = some 1 := by decide +kernel
set_option maxRecDepth 100000 in
set_option maxHeartbeats 16000000 in
theorem ct_J35_toBigInteger {g : GG} {l : Launch} (M : Nat → Option PV) (q : Nat) (a : Nat) (N : Nat) (f : Nat → Nat) (n : Nat) (o : Nat) (sg : Int) (hN : o + n ≤ N ∧ N ≤ 64) (hf : ∀ k, k < N → f k < 4294967296) (hn : n ≤ 8 ∧ N ≤ 8) (hw : wOK n (fun j => f (o + j))) (hsg : (n = 0 ∧ sg = 0) ∨ sg = 1 ∨ sg = -1) : Ct g l yJ35_toBigInteger (ws_ yJ35_toBigInteger cJ35_toBigInteger 2 (Option.some (Jvm.ClassFile.FieldType.object "java/math/BigInteger"))) 5 100 2 14 [.ref q, .int (jI sg)] [ob g q 19 [.ref a, .int (jI (↑n)), .int (jI (↑o))], aN g 0 a N f, pl g M] (fun v9 Ws9 => ∃ M1 : Nat → Option PV, ∃ r1 : Nat, ∃ a1 : Nat, v9 = some (.ref r1) ∧ (le_ M M1) ∧ (at_ g M1 r1 (vI (sg * ↑(mw f o n)) a1)) ∧ Ws9 = [pl g M1]) (nox) := by
  refine Ct.of (cc := cJ35_toBigInteger) (nL := 2) (ret := (Option.some (Jvm.ClassFile.FieldType.object "java/math/BigInteger"))) (by decide) rfl (Nat.le_of_ble_eq_true rfl) ?_
  intro x hg hl hPo hPx hmc hms F
  subst hg; subst hl
  refine SW.cast (L' := [(0, .ref q), (1, .int (jI sg))]) ?_ rfl rfl rfl
  refine sw_aload_n (n := 1) F 0 (some q) rfl rfl rfl dJ35_toBigInteger_0 rfl ?_
  refine sw_get (n := 4) F 0 rfl (k := 1) ⟨(RJ35, TJ35, 3), rfl, by decide, q1837, in_J35, Or.inl rfl⟩ rfl dJ35_toBigInteger_1 rfl ?_
  refine sw_if_eq (n := 7) F (by omega) (tgt := 11) dJ35_toBigInteger_4 (by decide) rfl (fun c_4 => ?_) (fun c_4 => ?_)
  ·
    refine sw_gets (n := 14) F (kBZ F.gx.1).1 q1944 (Or.inl rfl) dJ35_toBigInteger_11 rfl ?_
    have hk_1 : at_ (xg x) M (tR (xg x) (Jvm.Term.static "java/math/BigInteger" "ZERO" "Ljava/math/BigInteger;")) (vI 0 (tR (xg x) (.field (Jvm.Term.static "java/math/BigInteger" "ZERO" "Ljava/math/BigInteger;") "java/math/BigInteger" "mag" "[I"))) := Or.inr (kBZ F.gx.1).2
    refine sw_drop [2, 0, 1] 1 rfl [pl (xg x) M] rfl ?_
    exact sw_aret F (some (tR (xg x) (Jvm.Term.static "java/math/BigInteger" "ZERO" "Ljava/math/BigInteger;"))) _ rfl rfl (by first | exact Or.inl ⟨_, rfl⟩ | exact Or.inr ⟨_, rfl⟩) dJ35_toBigInteger_14 (by rw [hPo]; exact ⟨M, tR (xg x) (Jvm.Term.static "java/math/BigInteger" "ZERO" "Ljava/math/BigInteger;"), tR (xg x) (.field (Jvm.Term.static "java/math/BigInteger" "ZERO" "Ljava/math/BigInteger;") "java/math/BigInteger" "mag" "[I"), rfl, le_.rf, (by rw [show (sg * ↑(mw f o n) : Int) = 0 by rcases hsg with ⟨e, e2⟩ | e; rw [e2]; exact Int.zero_mul _; rw [show n = 0 by omega]; exact Int.mul_zero _]; assumption), rfl⟩)
  ·
    refine sw_iload_n (n := 8) F 1 rfl rfl dJ35_toBigInteger_7 rfl ?_
    refine sw_if_ne (n := 11) F (by omega) (tgt := 15) dJ35_toBigInteger_8 (by decide) rfl (fun c_8 => ?_) (fun c_8 => ?_)
    ·
      have hsg2 : sg = 1 ∨ sg = -1 := by omega
      have hsg := hsg2
      refine sw_new (n := 18) F (ci := 16) (N := 6) RJ19 TJ19 tyJ19 rfl q1945 q1065 q127 in_J19 tyJ19_ok (fs := [.int (jI 0), .null, .int (jI 0), .int (jI 0), .int (jI 0), .int (jI 0)]) rfl 1 8 ⟨by omega, by omega⟩ dJ35_toBigInteger_15 rfl (fun q_2 => ?_)
      refine sw_dup (n := 19) F rfl dJ35_toBigInteger_18 rfl ?_
      refine sw_aload_n (n := 20) F 0 (some q) rfl rfl rfl dJ35_toBigInteger_19 rfl ?_
      refine sw_callV (n := 23) F (ct_J35_getMagnitudeArray (g := xg x) (l := xl x) q a N f n o hN hf (by first | omega | assumption)) (rcv_ob F 1 rfl rfl) q1946 q1948 qs24 q144 q1949 nd_J35_getMagnitudeArray rfl (by decide) [1, 2, 0, 3] (perm_ok _ 4 (by decide +kernel) rfl) [ob (xg x) q_2 16 [.int (jI 0), .null, .int (jI 0), .int (jI 0), .int (jI 0), .int (jI 0)], pl (xg x) M] rfl 0 0 ⟨by omega, by omega⟩ [.ref q_2, .ref q_2] rfl (Nat.le_of_ble_eq_true rfl) dJ35_toBigInteger_20 rfl (fun _ _ h => h.elim) (fun v Ws h => ?_)
      obtain ⟨a1_3, f1_4, rfl, hf1_5, hv1_6, h01_7, rfl⟩ := h
      show SW x [ob (xg x) q 19 [.ref a1_3, .int (jI (↑n)), .int (jI 0)], aN (xg x) 0 a1_3 n f1_4, ob (xg x) q_2 16 [.int (jI 0), .null, .int (jI 0), .int (jI 0), .int (jI 0), .int (jI 0)], pl (xg x) M] _ _ _ _ [.ref a1_3, .ref q_2, .ref q_2]
      refine sw_iload_n (n := 24) F 1 rfl rfl dJ35_toBigInteger_23 rfl ?_
      refine sw_callI (n := 27) F (ct_J19_init_2_o (g := xg x) (l := xl x) q_2 a1_3 n f1_4 sg (by first | omega | assumption)) q1954 q1109 q127 q1110 rfl nd_J19_init_2 rfl (by decide) [2, 1, 0, 3] (perm_ok _ 4 (by decide +kernel) rfl) [ob (xg x) q 19 [.ref a1_3, .int (jI (↑n)), .int (jI 0)], pl (xg x) M] rfl 0 0 ⟨by omega, by omega⟩ [.ref q_2] rfl (Nat.le_of_ble_eq_true rfl) dJ35_toBigInteger_24 rfl (fun _ _ h => h.elim) (fun v Ws h => ?_)
      obtain ⟨rfl, rfl⟩ := h
      show SW x [ob (xg x) q_2 16 [.int (jI sg), .ref a1_3, .int (jI 0), .int (jI 0), .int (jI 0), .int (jI 0)], aN (xg x) 0 a1_3 n f1_4, ob (xg x) q 19 [.ref a1_3, .int (jI (↑n)), .int (jI 0)], pl (xg x) M] _ _ _ _ [.ref q_2]
      have hf0 : f o ≠ 0 := hw.2 (by omega)
      have hwE : wOK n f1_4 := wOK_nz hf1_5 (by rw [h01_7]; exact hf0)
      have hb0 : f1_4 0 < 4294967296 := hf1_5 0 (by omega)
      have hsa := sgn_abs (m := mw f o n) hsg
      have hmp : mw f o n ≠ 0 := by have h9 := wOK_ge hwE (by omega); have h8 := bw_pos (n - 1); rw [hv1_6] at h9; omega
      have hvE : wv f1_4 n = (sg * ↑(mw f o n)).natAbs := by rw [hsa.1, hv1_6]
      refine sw_perm [1, 3, 0, 2] (perm_ok _ 4 (by decide +kernel) rfl) [aN (xg x) 0 a1_3 n f1_4, pl (xg x) M, ob (xg x) q_2 16 [.int (jI sg), .ref a1_3, .int (jI 0), .int (jI 0), .int (jI 0), .int (jI 0)], ob (xg x) q 19 [.ref a1_3, .int (jI (↑n)), .int (jI 0)]] rfl ?_
      refine sw_absA F (fun M_8 hle_9 hat_10 => ?_)
      show SW x [pl (xg x) M_8, ob (xg x) q_2 16 [.int (jI sg), .ref a1_3, .int (jI 0), .int (jI 0), .int (jI 0), .int (jI 0)], ob (xg x) q 19 [.ref a1_3, .int (jI (↑n)), .int (jI 0)]] _ _ _ _ [.ref q_2]
      refine sw_perm [1, 0, 2] rfl [ob (xg x) q_2 16 [.int (jI sg), .ref a1_3, .int (jI 0), .int (jI 0), .int (jI 0), .int (jI 0)], pl (xg x) M_8, ob (xg x) q 19 [.ref a1_3, .int (jI (↑n)), .int (jI 0)]] rfl ?_
      refine SW.cast (Ps' := ob (xg x) q_2 16 (flI (sg * ↑(mw f o n)) a1_3 0 0 0 0) :: [pl (xg x) M_8, ob (xg x) q 19 [.ref a1_3, .int (jI (↑n)), .int (jI 0)]]) ?_ (by simp only [flI]; rw [sgI_sg (by omega) hmp]) rfl rfl
      refine sw_absI F (Or.inr rfl) hat_10 hwE hvE (fun M_11 hle_12 hat_13 => ?_)
      show SW x [pl (xg x) M_11, ob (xg x) q 19 [.ref a1_3, .int (jI (↑n)), .int (jI 0)]] _ _ _ _ [.ref q_2]
      refine sw_drop [0, 1] 1 rfl [pl (xg x) M_11] rfl ?_
      exact sw_aret F (some q_2) _ rfl rfl (by first | exact Or.inl ⟨_, rfl⟩ | exact Or.inr ⟨_, rfl⟩) dJ35_toBigInteger_27 (by rw [hPo]; exact ⟨M_11, q_2, a1_3, rfl, (le_.tr hle_9 hle_12), hat_13, rfl⟩)
    ·
      refine sw_gets (n := 14) F (kBZ F.gx.1).1 q1944 (Or.inl rfl) dJ35_toBigInteger_11 rfl ?_
      have hk_14 : at_ (xg x) M (tR (xg x) (Jvm.Term.static "java/math/BigInteger" "ZERO" "Ljava/math/BigInteger;")) (vI 0 (tR (xg x) (.field (Jvm.Term.static "java/math/BigInteger" "ZERO" "Ljava/math/BigInteger;") "java/math/BigInteger" "mag" "[I"))) := Or.inr (kBZ F.gx.1).2
      refine sw_drop [2, 0, 1] 1 rfl [pl (xg x) M] rfl ?_
      exact sw_aret F (some (tR (xg x) (Jvm.Term.static "java/math/BigInteger" "ZERO" "Ljava/math/BigInteger;"))) _ rfl rfl (by first | exact Or.inl ⟨_, rfl⟩ | exact Or.inr ⟨_, rfl⟩) dJ35_toBigInteger_14 (by rw [hPo]; exact ⟨M, tR (xg x) (Jvm.Term.static "java/math/BigInteger" "ZERO" "Ljava/math/BigInteger;"), tR (xg x) (.field (Jvm.Term.static "java/math/BigInteger" "ZERO" "Ljava/math/BigInteger;") "java/math/BigInteger" "mag" "[I"), rfl, le_.rf, (by rw [show (sg * ↑(mw f o n) : Int) = 0 by rcases hsg with ⟨e, e2⟩ | e; rw [e2]; exact Int.zero_mul _; rw [show n = 0 by omega]; exact Int.mul_zero _]; assumption), rfl⟩)
