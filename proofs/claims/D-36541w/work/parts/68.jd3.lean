set_option maxRecDepth 100000
def dkwJ8_signum_1 : List UInt8 := [180, 0, 28, 182, 2, 86, 172]
abbrev dktJ8_signum_1 : List UInt8 := dkwJ8_signum_1 ++ []
def dkwJ8_signum_0 : List UInt8 := [42, 180, 0, 24, 20, 0, 125, 148, 153, 0, 13, 42, 180, 0, 24, 184, 2, 84, 167, 0, 10, 42]
abbrev dktJ8_signum_0 : List UInt8 := dkwJ8_signum_0 ++ dktJ8_signum_1
theorem dksJ8_signum_0 : cJ8_signum.data.toList.drop 0 = dktJ8_signum_0 := by decide +kernel
theorem dksJ8_signum_1 : cJ8_signum.data.toList.drop 22 = dktJ8_signum_1 := dk_seg dksJ8_signum_0 22 rfl rfl
theorem dJ8_signum_0 : decode cJ8_signum 0 = .ok (.aload_n 0, 1) := dk_42 (dk_at dksJ8_signum_0 0 rfl rfl)
theorem dJ8_signum_1 : decode cJ8_signum 1 = .ok (.getfield 24, 3) := dk_180 0 24 (dk_at dksJ8_signum_0 1 rfl rfl)
theorem dJ8_signum_4 : decode cJ8_signum 4 = .ok (.ldc2_w 125, 3) := dk_20 0 125 (dk_at dksJ8_signum_0 4 rfl rfl)
theorem dJ8_signum_7 : decode cJ8_signum 7 = .ok (.lcmp, 1) := dk_148 (dk_at dksJ8_signum_0 7 rfl rfl)
theorem dJ8_signum_8 : decode cJ8_signum 8 = .ok (.ifCond .eq 13, 3) := dk_153 0 13 (dk_at dksJ8_signum_0 8 rfl rfl)
theorem dJ8_signum_11 : decode cJ8_signum 11 = .ok (.aload_n 0, 1) := dk_42 (dk_at dksJ8_signum_0 11 rfl rfl)
theorem dJ8_signum_12 : decode cJ8_signum 12 = .ok (.getfield 24, 3) := dk_180 0 24 (dk_at dksJ8_signum_0 12 rfl rfl)
theorem dJ8_signum_15 : decode cJ8_signum 15 = .ok (.invokestatic 596, 3) := dk_184 2 84 (dk_at dksJ8_signum_0 15 rfl rfl)
theorem dJ8_signum_18 : decode cJ8_signum 18 = .ok (.goto 10, 3) := dk_167 0 10 (dk_at dksJ8_signum_0 18 rfl rfl)
theorem dJ8_signum_21 : decode cJ8_signum 21 = .ok (.aload_n 0, 1) := dk_42 (dk_at dksJ8_signum_0 21 rfl rfl)
theorem dJ8_signum_22 : decode cJ8_signum 22 = .ok (.getfield 28, 3) := dk_180 0 28 (dk_at dksJ8_signum_1 0 rfl rfl)
theorem dJ8_signum_25 : decode cJ8_signum 25 = .ok (.invokevirtual 598, 3) := dk_182 2 86 (dk_at dksJ8_signum_1 3 rfl rfl)
theorem dJ8_signum_28 : decode cJ8_signum 28 = .ok (.ireturn, 1) := dk_172 (dk_at dksJ8_signum_1 6 rfl rfl)
def dkwJ8_precision_1 : List UInt8 := [184, 0, 112, 60, 167, 0, 11, 42, 180, 0, 28, 184, 0, 131, 60, 42, 27, 181, 0, 21, 27, 172]
abbrev dktJ8_precision_1 : List UInt8 := dkwJ8_precision_1 ++ []
def dkwJ8_precision_0 : List UInt8 := [42, 180, 0, 21, 60, 27, 154, 0, 37, 42, 180, 0, 24, 65, 32, 20, 0, 125, 148, 153, 0, 11, 32]
abbrev dktJ8_precision_0 : List UInt8 := dkwJ8_precision_0 ++ dktJ8_precision_1
theorem dksJ8_precision_0 : cJ8_precision.data.toList.drop 0 = dktJ8_precision_0 := by decide +kernel
theorem dksJ8_precision_1 : cJ8_precision.data.toList.drop 23 = dktJ8_precision_1 := dk_seg dksJ8_precision_0 23 rfl rfl
theorem dJ8_precision_0 : decode cJ8_precision 0 = .ok (.aload_n 0, 1) := dk_42 (dk_at dksJ8_precision_0 0 rfl rfl)
theorem dJ8_precision_1 : decode cJ8_precision 1 = .ok (.getfield 21, 3) := dk_180 0 21 (dk_at dksJ8_precision_0 1 rfl rfl)
theorem dJ8_precision_4 : decode cJ8_precision 4 = .ok (.istore_n 1, 1) := dk_60 (dk_at dksJ8_precision_0 4 rfl rfl)
theorem dJ8_precision_5 : decode cJ8_precision 5 = .ok (.iload_n 1, 1) := dk_27 (dk_at dksJ8_precision_0 5 rfl rfl)
theorem dJ8_precision_6 : decode cJ8_precision 6 = .ok (.ifCond .ne 37, 3) := dk_154 0 37 (dk_at dksJ8_precision_0 6 rfl rfl)
theorem dJ8_precision_9 : decode cJ8_precision 9 = .ok (.aload_n 0, 1) := dk_42 (dk_at dksJ8_precision_0 9 rfl rfl)
theorem dJ8_precision_10 : decode cJ8_precision 10 = .ok (.getfield 24, 3) := dk_180 0 24 (dk_at dksJ8_precision_0 10 rfl rfl)
theorem dJ8_precision_13 : decode cJ8_precision 13 = .ok (.lstore_n 2, 1) := dk_65 (dk_at dksJ8_precision_0 13 rfl rfl)
theorem dJ8_precision_14 : decode cJ8_precision 14 = .ok (.lload_n 2, 1) := dk_32 (dk_at dksJ8_precision_0 14 rfl rfl)
theorem dJ8_precision_15 : decode cJ8_precision 15 = .ok (.ldc2_w 125, 3) := dk_20 0 125 (dk_at dksJ8_precision_0 15 rfl rfl)
theorem dJ8_precision_18 : decode cJ8_precision 18 = .ok (.lcmp, 1) := dk_148 (dk_at dksJ8_precision_0 18 rfl rfl)
theorem dJ8_precision_19 : decode cJ8_precision 19 = .ok (.ifCond .eq 11, 3) := dk_153 0 11 (dk_at dksJ8_precision_0 19 rfl rfl)
theorem dJ8_precision_22 : decode cJ8_precision 22 = .ok (.lload_n 2, 1) := dk_32 (dk_at dksJ8_precision_0 22 rfl rfl)
theorem dJ8_precision_23 : decode cJ8_precision 23 = .ok (.invokestatic 112, 3) := dk_184 0 112 (dk_at dksJ8_precision_1 0 rfl rfl)
theorem dJ8_precision_26 : decode cJ8_precision 26 = .ok (.istore_n 1, 1) := dk_60 (dk_at dksJ8_precision_1 3 rfl rfl)
theorem dJ8_precision_27 : decode cJ8_precision 27 = .ok (.goto 11, 3) := dk_167 0 11 (dk_at dksJ8_precision_1 4 rfl rfl)
theorem dJ8_precision_30 : decode cJ8_precision 30 = .ok (.aload_n 0, 1) := dk_42 (dk_at dksJ8_precision_1 7 rfl rfl)
theorem dJ8_precision_31 : decode cJ8_precision 31 = .ok (.getfield 28, 3) := dk_180 0 28 (dk_at dksJ8_precision_1 8 rfl rfl)
theorem dJ8_precision_34 : decode cJ8_precision 34 = .ok (.invokestatic 131, 3) := dk_184 0 131 (dk_at dksJ8_precision_1 11 rfl rfl)
theorem dJ8_precision_37 : decode cJ8_precision 37 = .ok (.istore_n 1, 1) := dk_60 (dk_at dksJ8_precision_1 14 rfl rfl)
theorem dJ8_precision_38 : decode cJ8_precision 38 = .ok (.aload_n 0, 1) := dk_42 (dk_at dksJ8_precision_1 15 rfl rfl)
theorem dJ8_precision_39 : decode cJ8_precision 39 = .ok (.iload_n 1, 1) := dk_27 (dk_at dksJ8_precision_1 16 rfl rfl)
theorem dJ8_precision_40 : decode cJ8_precision 40 = .ok (.putfield 21, 3) := dk_181 0 21 (dk_at dksJ8_precision_1 17 rfl rfl)
theorem dJ8_precision_43 : decode cJ8_precision 43 = .ok (.iload_n 1, 1) := dk_27 (dk_at dksJ8_precision_1 20 rfl rfl)
theorem dJ8_precision_44 : decode cJ8_precision 44 = .ok (.ireturn, 1) := dk_172 (dk_at dksJ8_precision_1 21 rfl rfl)
def dkwJ8_longDigitLength_3 : List UInt8 := [148, 156, 0, 7, 28, 167, 0, 6, 28, 4, 96, 172]
abbrev dktJ8_longDigitLength_3 : List UInt8 := dkwJ8_longDigitLength_3 ++ []
def dkwJ8_longDigitLength_2 : List UInt8 := [4, 96, 17, 4, 209, 104, 16, 12, 124, 61, 178, 0, 95, 78, 28, 45, 190, 162, 0, 11, 30, 45, 28, 47]
abbrev dktJ8_longDigitLength_2 : List UInt8 := dkwJ8_longDigitLength_2 ++ dktJ8_longDigitLength_3
def dkwJ8_longDigitLength_1 : List UInt8 := [148, 156, 0, 6, 30, 117, 63, 30, 20, 0, 56, 148, 156, 0, 5, 4, 172, 16, 64, 30, 184, 2, 249, 100]
abbrev dktJ8_longDigitLength_1 : List UInt8 := dkwJ8_longDigitLength_1 ++ dktJ8_longDigitLength_2
def dkwJ8_longDigitLength_0 : List UInt8 := [178, 1, 55, 154, 0, 19, 30, 20, 0, 125, 148, 154, 0, 11, 187, 1, 59, 89, 183, 1, 61, 191, 30, 9]
abbrev dktJ8_longDigitLength_0 : List UInt8 := dkwJ8_longDigitLength_0 ++ dktJ8_longDigitLength_1
theorem dksJ8_longDigitLength_0 : cJ8_longDigitLength.data.toList.drop 0 = dktJ8_longDigitLength_0 := by decide +kernel
theorem dksJ8_longDigitLength_1 : cJ8_longDigitLength.data.toList.drop 24 = dktJ8_longDigitLength_1 := dk_seg dksJ8_longDigitLength_0 24 rfl rfl
theorem dksJ8_longDigitLength_2 : cJ8_longDigitLength.data.toList.drop 48 = dktJ8_longDigitLength_2 := dk_seg dksJ8_longDigitLength_1 24 rfl rfl
theorem dksJ8_longDigitLength_3 : cJ8_longDigitLength.data.toList.drop 72 = dktJ8_longDigitLength_3 := dk_seg dksJ8_longDigitLength_2 24 rfl rfl
theorem dJ8_longDigitLength_0 : decode cJ8_longDigitLength 0 = .ok (.getstatic 311, 3) := dk_178 1 55 (dk_at dksJ8_longDigitLength_0 0 rfl rfl)
theorem dJ8_longDigitLength_3 : decode cJ8_longDigitLength 3 = .ok (.ifCond .ne 19, 3) := dk_154 0 19 (dk_at dksJ8_longDigitLength_0 3 rfl rfl)
theorem dJ8_longDigitLength_6 : decode cJ8_longDigitLength 6 = .ok (.lload_n 0, 1) := dk_30 (dk_at dksJ8_longDigitLength_0 6 rfl rfl)
theorem dJ8_longDigitLength_7 : decode cJ8_longDigitLength 7 = .ok (.ldc2_w 125, 3) := dk_20 0 125 (dk_at dksJ8_longDigitLength_0 7 rfl rfl)
theorem dJ8_longDigitLength_10 : decode cJ8_longDigitLength 10 = .ok (.lcmp, 1) := dk_148 (dk_at dksJ8_longDigitLength_0 10 rfl rfl)
theorem dJ8_longDigitLength_11 : decode cJ8_longDigitLength 11 = .ok (.ifCond .ne 11, 3) := dk_154 0 11 (dk_at dksJ8_longDigitLength_0 11 rfl rfl)
theorem dJ8_longDigitLength_14 : decode cJ8_longDigitLength 14 = .ok (.new 315, 3) := dk_187 1 59 (dk_at dksJ8_longDigitLength_0 14 rfl rfl)
theorem dJ8_longDigitLength_17 : decode cJ8_longDigitLength 17 = .ok (.dup, 1) := dk_89 (dk_at dksJ8_longDigitLength_0 17 rfl rfl)
theorem dJ8_longDigitLength_18 : decode cJ8_longDigitLength 18 = .ok (.invokespecial 317, 3) := dk_183 1 61 (dk_at dksJ8_longDigitLength_0 18 rfl rfl)
theorem dJ8_longDigitLength_21 : decode cJ8_longDigitLength 21 = .ok (.athrow, 1) := dk_191 (dk_at dksJ8_longDigitLength_0 21 rfl rfl)
theorem dJ8_longDigitLength_22 : decode cJ8_longDigitLength 22 = .ok (.lload_n 0, 1) := dk_30 (dk_at dksJ8_longDigitLength_0 22 rfl rfl)
theorem dJ8_longDigitLength_23 : decode cJ8_longDigitLength 23 = .ok (.lconst 0, 1) := dk_9 (dk_at dksJ8_longDigitLength_0 23 rfl rfl)
theorem dJ8_longDigitLength_24 : decode cJ8_longDigitLength 24 = .ok (.lcmp, 1) := dk_148 (dk_at dksJ8_longDigitLength_1 0 rfl rfl)
theorem dJ8_longDigitLength_25 : decode cJ8_longDigitLength 25 = .ok (.ifCond .ge 6, 3) := dk_156 0 6 (dk_at dksJ8_longDigitLength_1 1 rfl rfl)
theorem dJ8_longDigitLength_28 : decode cJ8_longDigitLength 28 = .ok (.lload_n 0, 1) := dk_30 (dk_at dksJ8_longDigitLength_1 4 rfl rfl)
theorem dJ8_longDigitLength_29 : decode cJ8_longDigitLength 29 = .ok (.lneg, 1) := dk_117 (dk_at dksJ8_longDigitLength_1 5 rfl rfl)
theorem dJ8_longDigitLength_30 : decode cJ8_longDigitLength 30 = .ok (.lstore_n 0, 1) := dk_63 (dk_at dksJ8_longDigitLength_1 6 rfl rfl)
theorem dJ8_longDigitLength_31 : decode cJ8_longDigitLength 31 = .ok (.lload_n 0, 1) := dk_30 (dk_at dksJ8_longDigitLength_1 7 rfl rfl)
theorem dJ8_longDigitLength_32 : decode cJ8_longDigitLength 32 = .ok (.ldc2_w 56, 3) := dk_20 0 56 (dk_at dksJ8_longDigitLength_1 8 rfl rfl)
theorem dJ8_longDigitLength_35 : decode cJ8_longDigitLength 35 = .ok (.lcmp, 1) := dk_148 (dk_at dksJ8_longDigitLength_1 11 rfl rfl)
theorem dJ8_longDigitLength_36 : decode cJ8_longDigitLength 36 = .ok (.ifCond .ge 5, 3) := dk_156 0 5 (dk_at dksJ8_longDigitLength_1 12 rfl rfl)
theorem dJ8_longDigitLength_39 : decode cJ8_longDigitLength 39 = .ok (.iconst 1, 1) := dk_4 (dk_at dksJ8_longDigitLength_1 15 rfl rfl)
theorem dJ8_longDigitLength_40 : decode cJ8_longDigitLength 40 = .ok (.ireturn, 1) := dk_172 (dk_at dksJ8_longDigitLength_1 16 rfl rfl)
theorem dJ8_longDigitLength_41 : decode cJ8_longDigitLength 41 = .ok (.bipush 64, 2) := dk_16 64 (dk_at dksJ8_longDigitLength_1 17 rfl rfl)
theorem dJ8_longDigitLength_43 : decode cJ8_longDigitLength 43 = .ok (.lload_n 0, 1) := dk_30 (dk_at dksJ8_longDigitLength_1 19 rfl rfl)
theorem dJ8_longDigitLength_44 : decode cJ8_longDigitLength 44 = .ok (.invokestatic 761, 3) := dk_184 2 249 (dk_at dksJ8_longDigitLength_1 20 rfl rfl)
theorem dJ8_longDigitLength_47 : decode cJ8_longDigitLength 47 = .ok (.isub, 1) := dk_100 (dk_at dksJ8_longDigitLength_1 23 rfl rfl)
theorem dJ8_longDigitLength_48 : decode cJ8_longDigitLength 48 = .ok (.iconst 1, 1) := dk_4 (dk_at dksJ8_longDigitLength_2 0 rfl rfl)
theorem dJ8_longDigitLength_49 : decode cJ8_longDigitLength 49 = .ok (.iadd, 1) := dk_96 (dk_at dksJ8_longDigitLength_2 1 rfl rfl)
theorem dJ8_longDigitLength_50 : decode cJ8_longDigitLength 50 = .ok (.sipush 1233, 3) := dk_17 4 209 (dk_at dksJ8_longDigitLength_2 2 rfl rfl)
theorem dJ8_longDigitLength_53 : decode cJ8_longDigitLength 53 = .ok (.imul, 1) := dk_104 (dk_at dksJ8_longDigitLength_2 5 rfl rfl)
theorem dJ8_longDigitLength_54 : decode cJ8_longDigitLength 54 = .ok (.bipush 12, 2) := dk_16 12 (dk_at dksJ8_longDigitLength_2 6 rfl rfl)
theorem dJ8_longDigitLength_56 : decode cJ8_longDigitLength 56 = .ok (.iushr, 1) := dk_124 (dk_at dksJ8_longDigitLength_2 8 rfl rfl)
theorem dJ8_longDigitLength_57 : decode cJ8_longDigitLength 57 = .ok (.istore_n 2, 1) := dk_61 (dk_at dksJ8_longDigitLength_2 9 rfl rfl)
theorem dJ8_longDigitLength_58 : decode cJ8_longDigitLength 58 = .ok (.getstatic 95, 3) := dk_178 0 95 (dk_at dksJ8_longDigitLength_2 10 rfl rfl)
theorem dJ8_longDigitLength_61 : decode cJ8_longDigitLength 61 = .ok (.astore_n 3, 1) := dk_78 (dk_at dksJ8_longDigitLength_2 13 rfl rfl)
theorem dJ8_longDigitLength_62 : decode cJ8_longDigitLength 62 = .ok (.iload_n 2, 1) := dk_28 (dk_at dksJ8_longDigitLength_2 14 rfl rfl)
theorem dJ8_longDigitLength_63 : decode cJ8_longDigitLength 63 = .ok (.aload_n 3, 1) := dk_45 (dk_at dksJ8_longDigitLength_2 15 rfl rfl)
theorem dJ8_longDigitLength_64 : decode cJ8_longDigitLength 64 = .ok (.arraylength, 1) := dk_190 (dk_at dksJ8_longDigitLength_2 16 rfl rfl)
theorem dJ8_longDigitLength_65 : decode cJ8_longDigitLength 65 = .ok (.if_icmp .ge 11, 3) := dk_162 0 11 (dk_at dksJ8_longDigitLength_2 17 rfl rfl)
theorem dJ8_longDigitLength_68 : decode cJ8_longDigitLength 68 = .ok (.lload_n 0, 1) := dk_30 (dk_at dksJ8_longDigitLength_2 20 rfl rfl)
theorem dJ8_longDigitLength_69 : decode cJ8_longDigitLength 69 = .ok (.aload_n 3, 1) := dk_45 (dk_at dksJ8_longDigitLength_2 21 rfl rfl)
theorem dJ8_longDigitLength_70 : decode cJ8_longDigitLength 70 = .ok (.iload_n 2, 1) := dk_28 (dk_at dksJ8_longDigitLength_2 22 rfl rfl)
theorem dJ8_longDigitLength_71 : decode cJ8_longDigitLength 71 = .ok (.laload, 1) := dk_47 (dk_at dksJ8_longDigitLength_2 23 rfl rfl)
theorem dJ8_longDigitLength_72 : decode cJ8_longDigitLength 72 = .ok (.lcmp, 1) := dk_148 (dk_at dksJ8_longDigitLength_3 0 rfl rfl)
theorem dJ8_longDigitLength_73 : decode cJ8_longDigitLength 73 = .ok (.ifCond .ge 7, 3) := dk_156 0 7 (dk_at dksJ8_longDigitLength_3 1 rfl rfl)
theorem dJ8_longDigitLength_76 : decode cJ8_longDigitLength 76 = .ok (.iload_n 2, 1) := dk_28 (dk_at dksJ8_longDigitLength_3 4 rfl rfl)
theorem dJ8_longDigitLength_77 : decode cJ8_longDigitLength 77 = .ok (.goto 6, 3) := dk_167 0 6 (dk_at dksJ8_longDigitLength_3 5 rfl rfl)
theorem dJ8_longDigitLength_80 : decode cJ8_longDigitLength 80 = .ok (.iload_n 2, 1) := dk_28 (dk_at dksJ8_longDigitLength_3 8 rfl rfl)
theorem dJ8_longDigitLength_81 : decode cJ8_longDigitLength 81 = .ok (.iconst 1, 1) := dk_4 (dk_at dksJ8_longDigitLength_3 9 rfl rfl)
theorem dJ8_longDigitLength_82 : decode cJ8_longDigitLength 82 = .ok (.iadd, 1) := dk_96 (dk_at dksJ8_longDigitLength_3 10 rfl rfl)
theorem dJ8_longDigitLength_83 : decode cJ8_longDigitLength 83 = .ok (.ireturn, 1) := dk_172 (dk_at dksJ8_longDigitLength_3 11 rfl rfl)
def dkwJ19_init_2_1 : List UInt8 := [180, 0, 28, 190, 18, 43, 161, 0, 7, 42, 182, 0, 44, 177]
abbrev dktJ19_init_2_1 : List UInt8 := dkwJ19_init_2_1 ++ []
def dkwJ19_init_2_0 : List UInt8 := [42, 183, 0, 3, 42, 43, 190, 154, 0, 7, 3, 167, 0, 4, 28, 181, 0, 32, 42, 43, 181, 0, 28, 42]
abbrev dktJ19_init_2_0 : List UInt8 := dkwJ19_init_2_0 ++ dktJ19_init_2_1
theorem dksJ19_init_2_0 : cJ19_init_2.data.toList.drop 0 = dktJ19_init_2_0 := by decide +kernel
theorem dksJ19_init_2_1 : cJ19_init_2.data.toList.drop 24 = dktJ19_init_2_1 := dk_seg dksJ19_init_2_0 24 rfl rfl
theorem dJ19_init_2_0 : decode cJ19_init_2 0 = .ok (.aload_n 0, 1) := dk_42 (dk_at dksJ19_init_2_0 0 rfl rfl)
theorem dJ19_init_2_1 : decode cJ19_init_2 1 = .ok (.invokespecial 3, 3) := dk_183 0 3 (dk_at dksJ19_init_2_0 1 rfl rfl)
theorem dJ19_init_2_4 : decode cJ19_init_2 4 = .ok (.aload_n 0, 1) := dk_42 (dk_at dksJ19_init_2_0 4 rfl rfl)
theorem dJ19_init_2_5 : decode cJ19_init_2 5 = .ok (.aload_n 1, 1) := dk_43 (dk_at dksJ19_init_2_0 5 rfl rfl)
theorem dJ19_init_2_6 : decode cJ19_init_2 6 = .ok (.arraylength, 1) := dk_190 (dk_at dksJ19_init_2_0 6 rfl rfl)
theorem dJ19_init_2_7 : decode cJ19_init_2 7 = .ok (.ifCond .ne 7, 3) := dk_154 0 7 (dk_at dksJ19_init_2_0 7 rfl rfl)
theorem dJ19_init_2_10 : decode cJ19_init_2 10 = .ok (.iconst 0, 1) := dk_3 (dk_at dksJ19_init_2_0 10 rfl rfl)
theorem dJ19_init_2_11 : decode cJ19_init_2 11 = .ok (.goto 4, 3) := dk_167 0 4 (dk_at dksJ19_init_2_0 11 rfl rfl)
theorem dJ19_init_2_14 : decode cJ19_init_2 14 = .ok (.iload_n 2, 1) := dk_28 (dk_at dksJ19_init_2_0 14 rfl rfl)
theorem dJ19_init_2_15 : decode cJ19_init_2 15 = .ok (.putfield 32, 3) := dk_181 0 32 (dk_at dksJ19_init_2_0 15 rfl rfl)
theorem dJ19_init_2_18 : decode cJ19_init_2 18 = .ok (.aload_n 0, 1) := dk_42 (dk_at dksJ19_init_2_0 18 rfl rfl)
theorem dJ19_init_2_19 : decode cJ19_init_2 19 = .ok (.aload_n 1, 1) := dk_43 (dk_at dksJ19_init_2_0 19 rfl rfl)
theorem dJ19_init_2_20 : decode cJ19_init_2 20 = .ok (.putfield 28, 3) := dk_181 0 28 (dk_at dksJ19_init_2_0 20 rfl rfl)
theorem dJ19_init_2_23 : decode cJ19_init_2 23 = .ok (.aload_n 0, 1) := dk_42 (dk_at dksJ19_init_2_0 23 rfl rfl)
theorem dJ19_init_2_24 : decode cJ19_init_2 24 = .ok (.getfield 28, 3) := dk_180 0 28 (dk_at dksJ19_init_2_1 0 rfl rfl)
theorem dJ19_init_2_27 : decode cJ19_init_2 27 = .ok (.arraylength, 1) := dk_190 (dk_at dksJ19_init_2_1 3 rfl rfl)
theorem dJ19_init_2_28 : decode cJ19_init_2 28 = .ok (.ldc 43, 2) := dk_18 43 (dk_at dksJ19_init_2_1 4 rfl rfl)
theorem dJ19_init_2_30 : decode cJ19_init_2 30 = .ok (.if_icmp .lt 7, 3) := dk_161 0 7 (dk_at dksJ19_init_2_1 6 rfl rfl)
theorem dJ19_init_2_33 : decode cJ19_init_2 33 = .ok (.aload_n 0, 1) := dk_42 (dk_at dksJ19_init_2_1 9 rfl rfl)
theorem dJ19_init_2_34 : decode cJ19_init_2 34 = .ok (.invokevirtual 44, 3) := dk_182 0 44 (dk_at dksJ19_init_2_1 10 rfl rfl)
theorem dJ19_init_2_37 : decode cJ19_init_2 37 = .ok (.return_, 1) := dk_177 (dk_at dksJ19_init_2_1 13 rfl rfl)
def dkwJ21_signum_0 : List UInt8 := [30, 16, 63, 123, 30, 117, 16, 63, 125, 129, 136, 172]
abbrev dktJ21_signum_0 : List UInt8 := dkwJ21_signum_0 ++ []
theorem dksJ21_signum_0 : cJ21_signum.data.toList.drop 0 = dktJ21_signum_0 := by decide +kernel
theorem dJ21_signum_0 : decode cJ21_signum 0 = .ok (.lload_n 0, 1) := dk_30 (dk_at dksJ21_signum_0 0 rfl rfl)
theorem dJ21_signum_1 : decode cJ21_signum 1 = .ok (.bipush 63, 2) := dk_16 63 (dk_at dksJ21_signum_0 1 rfl rfl)
theorem dJ21_signum_3 : decode cJ21_signum 3 = .ok (.lshr, 1) := dk_123 (dk_at dksJ21_signum_0 3 rfl rfl)
theorem dJ21_signum_4 : decode cJ21_signum 4 = .ok (.lload_n 0, 1) := dk_30 (dk_at dksJ21_signum_0 4 rfl rfl)
theorem dJ21_signum_5 : decode cJ21_signum 5 = .ok (.lneg, 1) := dk_117 (dk_at dksJ21_signum_0 5 rfl rfl)
theorem dJ21_signum_6 : decode cJ21_signum 6 = .ok (.bipush 63, 2) := dk_16 63 (dk_at dksJ21_signum_0 6 rfl rfl)
theorem dJ21_signum_8 : decode cJ21_signum 8 = .ok (.lushr, 1) := dk_125 (dk_at dksJ21_signum_0 8 rfl rfl)
theorem dJ21_signum_9 : decode cJ21_signum 9 = .ok (.lor, 1) := dk_129 (dk_at dksJ21_signum_0 9 rfl rfl)
theorem dJ21_signum_10 : decode cJ21_signum 10 = .ok (.l2i, 1) := dk_136 (dk_at dksJ21_signum_0 10 rfl rfl)
theorem dJ21_signum_11 : decode cJ21_signum 11 = .ok (.ireturn, 1) := dk_172 (dk_at dksJ21_signum_0 11 rfl rfl)
def dkwJ21_numberOfLeadingZeros_1 : List UInt8 := [184, 1, 52, 172]
abbrev dktJ21_numberOfLeadingZeros_1 : List UInt8 := dkwJ21_numberOfLeadingZeros_1 ++ []
def dkwJ21_numberOfLeadingZeros_0 : List UInt8 := [30, 16, 32, 125, 136, 61, 28, 154, 0, 14, 16, 32, 30, 136, 184, 1, 52, 96, 167, 0, 7, 28]
abbrev dktJ21_numberOfLeadingZeros_0 : List UInt8 := dkwJ21_numberOfLeadingZeros_0 ++ dktJ21_numberOfLeadingZeros_1
theorem dksJ21_numberOfLeadingZeros_0 : cJ21_numberOfLeadingZeros.data.toList.drop 0 = dktJ21_numberOfLeadingZeros_0 := by decide +kernel
theorem dksJ21_numberOfLeadingZeros_1 : cJ21_numberOfLeadingZeros.data.toList.drop 22 = dktJ21_numberOfLeadingZeros_1 := dk_seg dksJ21_numberOfLeadingZeros_0 22 rfl rfl
theorem dJ21_numberOfLeadingZeros_0 : decode cJ21_numberOfLeadingZeros 0 = .ok (.lload_n 0, 1) := dk_30 (dk_at dksJ21_numberOfLeadingZeros_0 0 rfl rfl)
theorem dJ21_numberOfLeadingZeros_1 : decode cJ21_numberOfLeadingZeros 1 = .ok (.bipush 32, 2) := dk_16 32 (dk_at dksJ21_numberOfLeadingZeros_0 1 rfl rfl)
theorem dJ21_numberOfLeadingZeros_3 : decode cJ21_numberOfLeadingZeros 3 = .ok (.lushr, 1) := dk_125 (dk_at dksJ21_numberOfLeadingZeros_0 3 rfl rfl)
theorem dJ21_numberOfLeadingZeros_4 : decode cJ21_numberOfLeadingZeros 4 = .ok (.l2i, 1) := dk_136 (dk_at dksJ21_numberOfLeadingZeros_0 4 rfl rfl)
theorem dJ21_numberOfLeadingZeros_5 : decode cJ21_numberOfLeadingZeros 5 = .ok (.istore_n 2, 1) := dk_61 (dk_at dksJ21_numberOfLeadingZeros_0 5 rfl rfl)
theorem dJ21_numberOfLeadingZeros_6 : decode cJ21_numberOfLeadingZeros 6 = .ok (.iload_n 2, 1) := dk_28 (dk_at dksJ21_numberOfLeadingZeros_0 6 rfl rfl)
theorem dJ21_numberOfLeadingZeros_7 : decode cJ21_numberOfLeadingZeros 7 = .ok (.ifCond .ne 14, 3) := dk_154 0 14 (dk_at dksJ21_numberOfLeadingZeros_0 7 rfl rfl)
theorem dJ21_numberOfLeadingZeros_10 : decode cJ21_numberOfLeadingZeros 10 = .ok (.bipush 32, 2) := dk_16 32 (dk_at dksJ21_numberOfLeadingZeros_0 10 rfl rfl)
theorem dJ21_numberOfLeadingZeros_12 : decode cJ21_numberOfLeadingZeros 12 = .ok (.lload_n 0, 1) := dk_30 (dk_at dksJ21_numberOfLeadingZeros_0 12 rfl rfl)
theorem dJ21_numberOfLeadingZeros_13 : decode cJ21_numberOfLeadingZeros 13 = .ok (.l2i, 1) := dk_136 (dk_at dksJ21_numberOfLeadingZeros_0 13 rfl rfl)
theorem dJ21_numberOfLeadingZeros_14 : decode cJ21_numberOfLeadingZeros 14 = .ok (.invokestatic 308, 3) := dk_184 1 52 (dk_at dksJ21_numberOfLeadingZeros_0 14 rfl rfl)
theorem dJ21_numberOfLeadingZeros_17 : decode cJ21_numberOfLeadingZeros 17 = .ok (.iadd, 1) := dk_96 (dk_at dksJ21_numberOfLeadingZeros_0 17 rfl rfl)
theorem dJ21_numberOfLeadingZeros_18 : decode cJ21_numberOfLeadingZeros 18 = .ok (.goto 7, 3) := dk_167 0 7 (dk_at dksJ21_numberOfLeadingZeros_0 18 rfl rfl)
theorem dJ21_numberOfLeadingZeros_21 : decode cJ21_numberOfLeadingZeros 21 = .ok (.iload_n 2, 1) := dk_28 (dk_at dksJ21_numberOfLeadingZeros_0 21 rfl rfl)
theorem dJ21_numberOfLeadingZeros_22 : decode cJ21_numberOfLeadingZeros 22 = .ok (.invokestatic 308, 3) := dk_184 1 52 (dk_at dksJ21_numberOfLeadingZeros_1 0 rfl rfl)
theorem dJ21_numberOfLeadingZeros_25 : decode cJ21_numberOfLeadingZeros 25 = .ok (.ireturn, 1) := dk_172 (dk_at dksJ21_numberOfLeadingZeros_1 3 rfl rfl)
def dkwJ22_numberOfLeadingZeros_3 : List UInt8 := [5, 124, 59, 27, 26, 4, 124, 100, 172]
abbrev dktJ22_numberOfLeadingZeros_3 : List UInt8 := dkwJ22_numberOfLeadingZeros_3 ++ []
def dkwJ22_numberOfLeadingZeros_2 : List UInt8 := [124, 59, 26, 16, 16, 161, 0, 10, 132, 1, 252, 26, 7, 124, 59, 26, 7, 161, 0, 10, 132, 1, 254, 26]
abbrev dktJ22_numberOfLeadingZeros_2 : List UInt8 := dkwJ22_numberOfLeadingZeros_2 ++ dktJ22_numberOfLeadingZeros_3
def dkwJ22_numberOfLeadingZeros_1 : List UInt8 := [161, 0, 11, 132, 1, 240, 26, 16, 16, 124, 59, 26, 17, 1, 0, 161, 0, 11, 132, 1, 248, 26, 16, 8]
abbrev dktJ22_numberOfLeadingZeros_1 : List UInt8 := dkwJ22_numberOfLeadingZeros_1 ++ dktJ22_numberOfLeadingZeros_2
def dkwJ22_numberOfLeadingZeros_0 : List UInt8 := [26, 157, 0, 14, 26, 154, 0, 8, 16, 32, 167, 0, 4, 3, 172, 16, 31, 60, 26, 19, 1, 8]
abbrev dktJ22_numberOfLeadingZeros_0 : List UInt8 := dkwJ22_numberOfLeadingZeros_0 ++ dktJ22_numberOfLeadingZeros_1
theorem dksJ22_numberOfLeadingZeros_0 : cJ22_numberOfLeadingZeros.data.toList.drop 0 = dktJ22_numberOfLeadingZeros_0 := by decide +kernel
theorem dksJ22_numberOfLeadingZeros_1 : cJ22_numberOfLeadingZeros.data.toList.drop 22 = dktJ22_numberOfLeadingZeros_1 := dk_seg dksJ22_numberOfLeadingZeros_0 22 rfl rfl
theorem dksJ22_numberOfLeadingZeros_2 : cJ22_numberOfLeadingZeros.data.toList.drop 46 = dktJ22_numberOfLeadingZeros_2 := dk_seg dksJ22_numberOfLeadingZeros_1 24 rfl rfl
theorem dksJ22_numberOfLeadingZeros_3 : cJ22_numberOfLeadingZeros.data.toList.drop 70 = dktJ22_numberOfLeadingZeros_3 := dk_seg dksJ22_numberOfLeadingZeros_2 24 rfl rfl
theorem dJ22_numberOfLeadingZeros_0 : decode cJ22_numberOfLeadingZeros 0 = .ok (.iload_n 0, 1) := dk_26 (dk_at dksJ22_numberOfLeadingZeros_0 0 rfl rfl)
theorem dJ22_numberOfLeadingZeros_1 : decode cJ22_numberOfLeadingZeros 1 = .ok (.ifCond .gt 14, 3) := dk_157 0 14 (dk_at dksJ22_numberOfLeadingZeros_0 1 rfl rfl)
theorem dJ22_numberOfLeadingZeros_4 : decode cJ22_numberOfLeadingZeros 4 = .ok (.iload_n 0, 1) := dk_26 (dk_at dksJ22_numberOfLeadingZeros_0 4 rfl rfl)
theorem dJ22_numberOfLeadingZeros_5 : decode cJ22_numberOfLeadingZeros 5 = .ok (.ifCond .ne 8, 3) := dk_154 0 8 (dk_at dksJ22_numberOfLeadingZeros_0 5 rfl rfl)
theorem dJ22_numberOfLeadingZeros_8 : decode cJ22_numberOfLeadingZeros 8 = .ok (.bipush 32, 2) := dk_16 32 (dk_at dksJ22_numberOfLeadingZeros_0 8 rfl rfl)
theorem dJ22_numberOfLeadingZeros_10 : decode cJ22_numberOfLeadingZeros 10 = .ok (.goto 4, 3) := dk_167 0 4 (dk_at dksJ22_numberOfLeadingZeros_0 10 rfl rfl)
theorem dJ22_numberOfLeadingZeros_13 : decode cJ22_numberOfLeadingZeros 13 = .ok (.iconst 0, 1) := dk_3 (dk_at dksJ22_numberOfLeadingZeros_0 13 rfl rfl)
theorem dJ22_numberOfLeadingZeros_14 : decode cJ22_numberOfLeadingZeros 14 = .ok (.ireturn, 1) := dk_172 (dk_at dksJ22_numberOfLeadingZeros_0 14 rfl rfl)
theorem dJ22_numberOfLeadingZeros_15 : decode cJ22_numberOfLeadingZeros 15 = .ok (.bipush 31, 2) := dk_16 31 (dk_at dksJ22_numberOfLeadingZeros_0 15 rfl rfl)
theorem dJ22_numberOfLeadingZeros_17 : decode cJ22_numberOfLeadingZeros 17 = .ok (.istore_n 1, 1) := dk_60 (dk_at dksJ22_numberOfLeadingZeros_0 17 rfl rfl)
theorem dJ22_numberOfLeadingZeros_18 : decode cJ22_numberOfLeadingZeros 18 = .ok (.iload_n 0, 1) := dk_26 (dk_at dksJ22_numberOfLeadingZeros_0 18 rfl rfl)
theorem dJ22_numberOfLeadingZeros_19 : decode cJ22_numberOfLeadingZeros 19 = .ok (.ldc_w 264, 3) := dk_19 1 8 (dk_at dksJ22_numberOfLeadingZeros_0 19 rfl rfl)
theorem dJ22_numberOfLeadingZeros_22 : decode cJ22_numberOfLeadingZeros 22 = .ok (.if_icmp .lt 11, 3) := dk_161 0 11 (dk_at dksJ22_numberOfLeadingZeros_1 0 rfl rfl)
theorem dJ22_numberOfLeadingZeros_25 : decode cJ22_numberOfLeadingZeros 25 = .ok (.iinc 1 (-16), 3) := dk_132 1 240 (dk_at dksJ22_numberOfLeadingZeros_1 3 rfl rfl)
theorem dJ22_numberOfLeadingZeros_28 : decode cJ22_numberOfLeadingZeros 28 = .ok (.iload_n 0, 1) := dk_26 (dk_at dksJ22_numberOfLeadingZeros_1 6 rfl rfl)
theorem dJ22_numberOfLeadingZeros_29 : decode cJ22_numberOfLeadingZeros 29 = .ok (.bipush 16, 2) := dk_16 16 (dk_at dksJ22_numberOfLeadingZeros_1 7 rfl rfl)
theorem dJ22_numberOfLeadingZeros_31 : decode cJ22_numberOfLeadingZeros 31 = .ok (.iushr, 1) := dk_124 (dk_at dksJ22_numberOfLeadingZeros_1 9 rfl rfl)
theorem dJ22_numberOfLeadingZeros_32 : decode cJ22_numberOfLeadingZeros 32 = .ok (.istore_n 0, 1) := dk_59 (dk_at dksJ22_numberOfLeadingZeros_1 10 rfl rfl)
theorem dJ22_numberOfLeadingZeros_33 : decode cJ22_numberOfLeadingZeros 33 = .ok (.iload_n 0, 1) := dk_26 (dk_at dksJ22_numberOfLeadingZeros_1 11 rfl rfl)
theorem dJ22_numberOfLeadingZeros_34 : decode cJ22_numberOfLeadingZeros 34 = .ok (.sipush 256, 3) := dk_17 1 0 (dk_at dksJ22_numberOfLeadingZeros_1 12 rfl rfl)
theorem dJ22_numberOfLeadingZeros_37 : decode cJ22_numberOfLeadingZeros 37 = .ok (.if_icmp .lt 11, 3) := dk_161 0 11 (dk_at dksJ22_numberOfLeadingZeros_1 15 rfl rfl)
theorem dJ22_numberOfLeadingZeros_40 : decode cJ22_numberOfLeadingZeros 40 = .ok (.iinc 1 (-8), 3) := dk_132 1 248 (dk_at dksJ22_numberOfLeadingZeros_1 18 rfl rfl)
theorem dJ22_numberOfLeadingZeros_43 : decode cJ22_numberOfLeadingZeros 43 = .ok (.iload_n 0, 1) := dk_26 (dk_at dksJ22_numberOfLeadingZeros_1 21 rfl rfl)
theorem dJ22_numberOfLeadingZeros_44 : decode cJ22_numberOfLeadingZeros 44 = .ok (.bipush 8, 2) := dk_16 8 (dk_at dksJ22_numberOfLeadingZeros_1 22 rfl rfl)
theorem dJ22_numberOfLeadingZeros_46 : decode cJ22_numberOfLeadingZeros 46 = .ok (.iushr, 1) := dk_124 (dk_at dksJ22_numberOfLeadingZeros_2 0 rfl rfl)
theorem dJ22_numberOfLeadingZeros_47 : decode cJ22_numberOfLeadingZeros 47 = .ok (.istore_n 0, 1) := dk_59 (dk_at dksJ22_numberOfLeadingZeros_2 1 rfl rfl)
theorem dJ22_numberOfLeadingZeros_48 : decode cJ22_numberOfLeadingZeros 48 = .ok (.iload_n 0, 1) := dk_26 (dk_at dksJ22_numberOfLeadingZeros_2 2 rfl rfl)
theorem dJ22_numberOfLeadingZeros_49 : decode cJ22_numberOfLeadingZeros 49 = .ok (.bipush 16, 2) := dk_16 16 (dk_at dksJ22_numberOfLeadingZeros_2 3 rfl rfl)
theorem dJ22_numberOfLeadingZeros_51 : decode cJ22_numberOfLeadingZeros 51 = .ok (.if_icmp .lt 10, 3) := dk_161 0 10 (dk_at dksJ22_numberOfLeadingZeros_2 5 rfl rfl)
theorem dJ22_numberOfLeadingZeros_54 : decode cJ22_numberOfLeadingZeros 54 = .ok (.iinc 1 (-4), 3) := dk_132 1 252 (dk_at dksJ22_numberOfLeadingZeros_2 8 rfl rfl)
theorem dJ22_numberOfLeadingZeros_57 : decode cJ22_numberOfLeadingZeros 57 = .ok (.iload_n 0, 1) := dk_26 (dk_at dksJ22_numberOfLeadingZeros_2 11 rfl rfl)
theorem dJ22_numberOfLeadingZeros_58 : decode cJ22_numberOfLeadingZeros 58 = .ok (.iconst 4, 1) := dk_7 (dk_at dksJ22_numberOfLeadingZeros_2 12 rfl rfl)
theorem dJ22_numberOfLeadingZeros_59 : decode cJ22_numberOfLeadingZeros 59 = .ok (.iushr, 1) := dk_124 (dk_at dksJ22_numberOfLeadingZeros_2 13 rfl rfl)
theorem dJ22_numberOfLeadingZeros_60 : decode cJ22_numberOfLeadingZeros 60 = .ok (.istore_n 0, 1) := dk_59 (dk_at dksJ22_numberOfLeadingZeros_2 14 rfl rfl)
theorem dJ22_numberOfLeadingZeros_61 : decode cJ22_numberOfLeadingZeros 61 = .ok (.iload_n 0, 1) := dk_26 (dk_at dksJ22_numberOfLeadingZeros_2 15 rfl rfl)
theorem dJ22_numberOfLeadingZeros_62 : decode cJ22_numberOfLeadingZeros 62 = .ok (.iconst 4, 1) := dk_7 (dk_at dksJ22_numberOfLeadingZeros_2 16 rfl rfl)
theorem dJ22_numberOfLeadingZeros_63 : decode cJ22_numberOfLeadingZeros 63 = .ok (.if_icmp .lt 10, 3) := dk_161 0 10 (dk_at dksJ22_numberOfLeadingZeros_2 17 rfl rfl)
theorem dJ22_numberOfLeadingZeros_66 : decode cJ22_numberOfLeadingZeros 66 = .ok (.iinc 1 (-2), 3) := dk_132 1 254 (dk_at dksJ22_numberOfLeadingZeros_2 20 rfl rfl)
theorem dJ22_numberOfLeadingZeros_69 : decode cJ22_numberOfLeadingZeros 69 = .ok (.iload_n 0, 1) := dk_26 (dk_at dksJ22_numberOfLeadingZeros_2 23 rfl rfl)
theorem dJ22_numberOfLeadingZeros_70 : decode cJ22_numberOfLeadingZeros 70 = .ok (.iconst 2, 1) := dk_5 (dk_at dksJ22_numberOfLeadingZeros_3 0 rfl rfl)
theorem dJ22_numberOfLeadingZeros_71 : decode cJ22_numberOfLeadingZeros 71 = .ok (.iushr, 1) := dk_124 (dk_at dksJ22_numberOfLeadingZeros_3 1 rfl rfl)
theorem dJ22_numberOfLeadingZeros_72 : decode cJ22_numberOfLeadingZeros 72 = .ok (.istore_n 0, 1) := dk_59 (dk_at dksJ22_numberOfLeadingZeros_3 2 rfl rfl)
theorem dJ22_numberOfLeadingZeros_73 : decode cJ22_numberOfLeadingZeros 73 = .ok (.iload_n 1, 1) := dk_27 (dk_at dksJ22_numberOfLeadingZeros_3 3 rfl rfl)
theorem dJ22_numberOfLeadingZeros_74 : decode cJ22_numberOfLeadingZeros 74 = .ok (.iload_n 0, 1) := dk_26 (dk_at dksJ22_numberOfLeadingZeros_3 4 rfl rfl)
theorem dJ22_numberOfLeadingZeros_75 : decode cJ22_numberOfLeadingZeros 75 = .ok (.iconst 1, 1) := dk_4 (dk_at dksJ22_numberOfLeadingZeros_3 5 rfl rfl)
theorem dJ22_numberOfLeadingZeros_76 : decode cJ22_numberOfLeadingZeros 76 = .ok (.iushr, 1) := dk_124 (dk_at dksJ22_numberOfLeadingZeros_3 6 rfl rfl)
theorem dJ22_numberOfLeadingZeros_77 : decode cJ22_numberOfLeadingZeros 77 = .ok (.isub, 1) := dk_100 (dk_at dksJ22_numberOfLeadingZeros_3 7 rfl rfl)
theorem dJ22_numberOfLeadingZeros_78 : decode cJ22_numberOfLeadingZeros 78 = .ok (.ireturn, 1) := dk_172 (dk_at dksJ22_numberOfLeadingZeros_3 8 rfl rfl)
section ROWW
variable {x : EX} {y : MethodName} {cc : ByteArray} {ret : Option FieldType} {nL fr lo : Nat} {tab : List ExceptionTableEntry} {Ps : List HP} {bc bs pc n : Nat} {L : List (Nat × Value)} {st : List Value}
theorem sw_ldcw (F : Fx x y cc ret nL fr lo tab) {idx : Nat} (v : Int) {v0 : Int32} (hq : Cond.constant y.cls idx v0 ∈ lw_all) (hv : v0 = jI v) (hd : decode cc pc = .ok (.ldc_w idx, 3)) (hn : pc + 3 = n) (k : SW x Ps bc bs n L (.int (jI v) :: st)) : SW x Ps bc bs pc L st := by
  subst hn; intro H locs h uc us ls I hl; have w := k H locs h uc us ls I hl; exact lv_ldcw F.exec F.code F.own (hv ▸ F.wd _ hq) hd w
end ROWW
theorem jI_ushrP {z : Int} (hz : 0 ≤ z ∧ z < 4294967296) {c : Int} {k : Nat} (h : c % 32 = (k : Int)) : ((jI z).toUInt32 >>> ((jI c).toUInt32 &&& Int32.toUInt32 31)).toInt32 = jI (z / ((2 ^ k : Nat) : Int)) := by
  rw [jI_ushr z h, Int.emod_eq_of_lt hz.1 hz.2]
theorem jL_ushrP {z : Int} (hz : 0 ≤ z ∧ z < 18446744073709551616) {c : Int} {k : Nat} (hc : -2147483648 ≤ c ∧ c ≤ 2147483647) (h : c % 64 = (k : Int)) : ((jL z).toUInt64 >>> ((jI c).toInt64.toUInt64 &&& Int64.toUInt64 63)).toInt64 = jL (z / ((2 ^ k : Nat) : Int)) := by
  rw [jL_ushrc z hc h, Int.emod_eq_of_lt hz.1 hz.2]
theorem jI_shlQ (z : Int) {c P : Int} {k : Nat} (h : c % 32 = (k : Int)) (hP : ((2 ^ k : Nat) : Int) = P) : jI z <<< (jI c &&& 31) = jI (z * P) := by rw [jI_shl z h, hP]
theorem jL_shlQ (z : Int) {c P : Int} {k : Nat} (hc : -2147483648 ≤ c ∧ c ≤ 2147483647) (h : c % 64 = (k : Int)) (hP : ((2 ^ k : Nat) : Int) = P) : jL z <<< ((jI c).toInt64 &&& 63) = jL (z * P) := by rw [jL_shl z hc h, hP]
theorem jI_shrQ {z : Int} (hz : -2147483648 ≤ z ∧ z ≤ 2147483647) {c P : Int} {k : Nat} (h : c % 32 = (k : Int)) (hP : ((2 ^ k : Nat) : Int) = P) : jI z >>> (jI c &&& 31) = jI (z / P) := by rw [jI_shr hz h, hP]
theorem jL_shrQ {z : Int} (hz : -9223372036854775808 ≤ z ∧ z ≤ 9223372036854775807) {c P : Int} {k : Nat} (hc : -2147483648 ≤ c ∧ c ≤ 2147483647) (h : c % 64 = (k : Int)) (hP : ((2 ^ k : Nat) : Int) = P) : jL z >>> ((jI c).toInt64 &&& 63) = jL (z / P) := by rw [jL_shr hz hc h, hP]
theorem jI_ushrQ (z : Int) {c P : Int} {k : Nat} (h : c % 32 = (k : Int)) (hP : ((2 ^ k : Nat) : Int) = P) : ((jI z).toUInt32 >>> ((jI c).toUInt32 &&& Int32.toUInt32 31)).toInt32 = jI (z % 4294967296 / P) := by rw [jI_ushr z h, hP]
theorem jL_ushrcQ (z : Int) {c P : Int} {k : Nat} (hc : -2147483648 ≤ c ∧ c ≤ 2147483647) (h : c % 64 = (k : Int)) (hP : ((2 ^ k : Nat) : Int) = P) : ((jL z).toUInt64 >>> ((jI c).toInt64.toUInt64 &&& Int64.toUInt64 63)).toInt64 = jL (z % 18446744073709551616 / P) := by rw [jL_ushrc z hc h, hP]
theorem jI_ushrPQ {z : Int} (hz : 0 ≤ z ∧ z < 4294967296) {c P : Int} {k : Nat} (h : c % 32 = (k : Int)) (hP : ((2 ^ k : Nat) : Int) = P) : ((jI z).toUInt32 >>> ((jI c).toUInt32 &&& Int32.toUInt32 31)).toInt32 = jI (z / P) := by rw [jI_ushrP hz h, hP]
theorem jL_ushrPQ {z : Int} (hz : 0 ≤ z ∧ z < 18446744073709551616) {c P : Int} {k : Nat} (hc : -2147483648 ≤ c ∧ c ≤ 2147483647) (h : c % 64 = (k : Int)) (hP : ((2 ^ k : Nat) : Int) = P) : ((jL z).toUInt64 >>> ((jI c).toInt64.toUInt64 &&& Int64.toUInt64 63)).toInt64 = jL (z / P) := by rw [jL_ushrP hz hc h, hP]
theorem blen_d {z : Int} (k : Nat) (h : ((2 ^ k : Nat) : Int) ≤ z) : (blen z.toNat : Int) = blen (z / ((2 ^ k : Nat) : Int)).toNat + k := by
  have h0 : 0 < 2 ^ k := Nat.pow_pos (by decide)
  have e : (z / ((2 ^ k : Nat) : Int)).toNat = z.toNat / 2 ^ k := by
    have h1 : ((z.toNat / 2 ^ k : Nat) : Int) = z / ((2 ^ k : Nat) : Int) := by rw [Int.natCast_ediv, Int.toNat_of_nonneg (by omega)]
    rw [← h1, Int.toNat_natCast]
  rw [e, blen_sh k (by omega)]; omega
theorem blen_3 {z : Int} (h : 1 ≤ z ∧ z < 4) : (blen z.toNat : Int) = 1 + z / 2 := by
  have : z = 1 ∨ z = 2 ∨ z = 3 := by omega
  rcases this with e | e | e <;> subst e
  · rw [show (1 : Int).toNat = 1 from rfl, blen_1]; rfl
  · rw [show (2 : Int).toNat = 2 from rfl, blen_s (by decide), show 2 / 2 = 1 from rfl, blen_1]; rfl
  · rw [show (3 : Int).toNat = 3 from rfl, blen_s (by decide), show 3 / 2 = 1 from rfl, blen_1]; rfl
/-- the leading zeros of a word -/
def nlz (z : Int) : Int := 32 - (blen (z % 4294967296).toNat : Int)
theorem nlz_n {z : Int} (h : -2147483648 ≤ z ∧ z < 0) : nlz z = 0 := by
  unfold nlz; rw [blen_of (k := 31) (by omega) (by omega)]; rfl
theorem nlz_0 : nlz 0 = 32 := by unfold nlz; rw [show ((0 : Int) % 4294967296).toNat = 0 from rfl, blen_0]; rfl
theorem nlz_p {z : Int} (h : 0 ≤ z ∧ z < 4294967296) : nlz z = 32 - (blen z.toNat : Int) := by unfold nlz; rw [Int.emod_eq_of_lt h.1 h.2]
theorem nd_J22_numberOfLeadingZeros : yJ22_numberOfLeadingZeros.cls ≠ "java/lang/invoke/MethodHandle" ∧ yJ22_numberOfLeadingZeros.cls ≠ "java/lang/invoke/VarHandle" ∧ (parseMethodDescriptor yJ22_numberOfLeadingZeros.desc).map (fun d => d.parameters.length) = some 1 := by decide +kernel
set_option maxRecDepth 100000 in
set_option maxHeartbeats 16000000 in
theorem ct_J22_numberOfLeadingZeros {g : GG} {l : Launch} (z : Int) (hz : -2147483648 ≤ z ∧ z ≤ 2147483647) : Ct g l yJ22_numberOfLeadingZeros (ws_ yJ22_numberOfLeadingZeros cJ22_numberOfLeadingZeros 2 (Option.some Jvm.ClassFile.FieldType.int)) 1 12 0 0 [.int (jI z)] [] (fun v9 Ws9 => v9 = some (.int (jI (nlz z))) ∧ Ws9 = []) (nox) := by
  refine Ct.of (cc := cJ22_numberOfLeadingZeros) (nL := 2) (ret := (Option.some Jvm.ClassFile.FieldType.int)) (by decide) rfl (Nat.le_of_ble_eq_true rfl) ?_
  intro x hg hl hPo hPx hmc hms F
  subst hg; subst hl
  refine SW.cast (L' := [(0, .int (jI z))]) ?_ rfl rfl rfl
  refine sw_iload_n (n := 1) F 0 rfl rfl dJ22_numberOfLeadingZeros_0 rfl ?_
  refine sw_if_gt (n := 4) F (by omega) (tgt := 15) dJ22_numberOfLeadingZeros_1 (by decide) rfl (fun c_1 => ?_) (fun c_1 => ?_)
  ·
    refine sw_bipush (n := 17) F (31) (by decide) dJ22_numberOfLeadingZeros_15 rfl ?_
    refine sw_istore_n (n := 18) F (L2 := [(1, .int (jI 31)), (0, .int (jI z))]) rfl (by decide) rfl dJ22_numberOfLeadingZeros_17 rfl ?_
    refine sw_iload_n (n := 19) F 1 rfl rfl dJ22_numberOfLeadingZeros_18 rfl ?_
    refine sw_ldcw (n := 22) F (65536) q1227 (by decide) dJ22_numberOfLeadingZeros_19 rfl ?_
    refine sw_icmp_lt (n := 25) F (by omega) (by decide) (tgt := 33) dJ22_numberOfLeadingZeros_22 (by decide) rfl (fun c_22 => ?_) (fun c_22 => ?_)
    ·
      have K33 : ∀ (i : Int) (n : Int), (1 ≤ i ∧ i < 65536) → ((blen z.toNat : Int) + n = 31 + (blen i.toNat : Int)) → (15 ≤ n ∧ n ≤ 31) → SW x [] 0 0 33 [(0, .int (jI i)), (1, .int (jI n))] [] := by
        intro i n hi hn hn2
        refine sw_iload_n (n := 34) F 0 rfl rfl dJ22_numberOfLeadingZeros_33 rfl ?_
        refine sw_sipush (n := 37) F (256) (by decide) dJ22_numberOfLeadingZeros_34 rfl ?_
        refine sw_icmp_lt (n := 40) F (by omega) (by decide) (tgt := 48) dJ22_numberOfLeadingZeros_37 (by decide) rfl (fun c_37 => ?_) (fun c_37 => ?_)
        ·
          have K48 : ∀ (i : Int) (n : Int), (1 ≤ i ∧ i < 256) → ((blen z.toNat : Int) + n = 31 + (blen i.toNat : Int)) → (7 ≤ n ∧ n ≤ 31) → SW x [] 0 0 48 [(0, .int (jI i)), (1, .int (jI n))] [] := by
            intro i n hi hn hn2
            refine sw_iload_n (n := 49) F 0 rfl rfl dJ22_numberOfLeadingZeros_48 rfl ?_
            refine sw_bipush (n := 51) F (16) (by decide) dJ22_numberOfLeadingZeros_49 rfl ?_
            refine sw_icmp_lt (n := 54) F (by omega) (by decide) (tgt := 61) dJ22_numberOfLeadingZeros_51 (by decide) rfl (fun c_51 => ?_) (fun c_51 => ?_)
            ·
              have K61 : ∀ (i : Int) (n : Int), (1 ≤ i ∧ i < 16) → ((blen z.toNat : Int) + n = 31 + (blen i.toNat : Int)) → (3 ≤ n ∧ n ≤ 31) → SW x [] 0 0 61 [(0, .int (jI i)), (1, .int (jI n))] [] := by
                intro i n hi hn hn2
                refine sw_iload_n (n := 62) F 0 rfl rfl dJ22_numberOfLeadingZeros_61 rfl ?_
                refine sw_iconst (n := 63) F (4) (by decide) dJ22_numberOfLeadingZeros_62 rfl ?_
                refine sw_icmp_lt (n := 66) F (by omega) (by decide) (tgt := 73) dJ22_numberOfLeadingZeros_63 (by decide) rfl (fun c_63 => ?_) (fun c_63 => ?_)
                ·
                  have K73 : ∀ (i : Int) (n : Int), (1 ≤ i ∧ i < 4) → ((blen z.toNat : Int) + n = 31 + (blen i.toNat : Int)) → (1 ≤ n ∧ n ≤ 31) → SW x [] 0 0 73 [(0, .int (jI i)), (1, .int (jI n))] [] := by
                    intro i n hi hn hn2
                    refine sw_iload_n (n := 74) F 1 rfl rfl dJ22_numberOfLeadingZeros_73 rfl ?_
                    refine sw_iload_n (n := 75) F 0 rfl rfl dJ22_numberOfLeadingZeros_74 rfl ?_
                    refine sw_iconst (n := 76) F (1) (by decide) dJ22_numberOfLeadingZeros_75 rfl ?_
                    have hb := blen_3 (z := i) (by omega)
                    have hnl := nlz_p (z := z) (by omega)
                    refine sw_iushr (n := 77) F (jI (i / 2)) (by have h7s := jI_ushrPQ (z := i) (c := 1) (P := 2) (k := 1) (by omega) (by decide) (by decide); exact h7s) dJ22_numberOfLeadingZeros_76 rfl ?_
                    refine sw_isub (n := 78) F dJ22_numberOfLeadingZeros_77 rfl ?_
                    exact sw_iret F _ rfl (by first | rfl | exact jI_nz (by omega) | exact jI_nc (by omega)) dJ22_numberOfLeadingZeros_78 (by rw [hPo]; exact ⟨(by first | (congr 3; omega) | (congr 2; omega) | rfl), rfl⟩)
                  exact K73 i n (by first | omega | assumption) hn (by first | omega | assumption)
                ·
                  refine sw_iinc (n := 69) F 1 (L2 := [(1, .int (jI (n + (-2)))), (0, .int (jI i))]) rfl rfl (by decide) dJ22_numberOfLeadingZeros_66 rfl ?_
                  refine sw_iload_n (n := 70) F 1 rfl rfl dJ22_numberOfLeadingZeros_69 rfl ?_
                  refine sw_iconst (n := 71) F (2) (by decide) dJ22_numberOfLeadingZeros_70 rfl ?_
                  refine sw_iushr (n := 72) F (jI (i / 4)) (by have h7s := jI_ushrPQ (z := i) (c := 2) (P := 4) (k := 2) (by omega) (by decide) (by decide); exact h7s) dJ22_numberOfLeadingZeros_71 rfl ?_
                  have hb : (blen i.toNat : Int) = blen (i / 4).toNat + 2 := blen_d 2 (by omega)
                  refine sw_istore_n (n := 73) F (L2 := [(0, .int (jI (i / 4))), (1, .int (jI (n + (-2))))]) rfl (by decide) rfl dJ22_numberOfLeadingZeros_72 rfl ?_
                  have K73 : ∀ (i : Int) (n : Int), (1 ≤ i ∧ i < 4) → ((blen z.toNat : Int) + n = 31 + (blen i.toNat : Int)) → (1 ≤ n ∧ n ≤ 31) → SW x [] 0 0 73 [(0, .int (jI i)), (1, .int (jI n))] [] := by
                    intro i n hi hn hn2
                    refine sw_iload_n (n := 74) F 1 rfl rfl dJ22_numberOfLeadingZeros_73 rfl ?_
                    refine sw_iload_n (n := 75) F 0 rfl rfl dJ22_numberOfLeadingZeros_74 rfl ?_
                    refine sw_iconst (n := 76) F (1) (by decide) dJ22_numberOfLeadingZeros_75 rfl ?_
                    have hb := blen_3 (z := i) (by omega)
                    have hnl := nlz_p (z := z) (by omega)
                    refine sw_iushr (n := 77) F (jI (i / 2)) (by have h7s := jI_ushrPQ (z := i) (c := 1) (P := 2) (k := 1) (by omega) (by decide) (by decide); exact h7s) dJ22_numberOfLeadingZeros_76 rfl ?_
                    refine sw_isub (n := 78) F dJ22_numberOfLeadingZeros_77 rfl ?_
                    exact sw_iret F _ rfl (by first | rfl | exact jI_nz (by omega) | exact jI_nc (by omega)) dJ22_numberOfLeadingZeros_78 (by rw [hPo]; exact ⟨(by first | (congr 3; omega) | (congr 2; omega) | rfl), rfl⟩)
                  exact K73 (i / 4) (n + (-2)) (by first | omega | assumption) (by first | omega | assumption) (by first | omega | assumption)
              exact K61 i n (by first | omega | assumption) hn (by first | omega | assumption)
            ·
              refine sw_iinc (n := 57) F 1 (L2 := [(1, .int (jI (n + (-4)))), (0, .int (jI i))]) rfl rfl (by decide) dJ22_numberOfLeadingZeros_54 rfl ?_
              refine sw_iload_n (n := 58) F 1 rfl rfl dJ22_numberOfLeadingZeros_57 rfl ?_
              refine sw_iconst (n := 59) F (4) (by decide) dJ22_numberOfLeadingZeros_58 rfl ?_
              refine sw_iushr (n := 60) F (jI (i / 16)) (by have h7s := jI_ushrPQ (z := i) (c := 4) (P := 16) (k := 4) (by omega) (by decide) (by decide); exact h7s) dJ22_numberOfLeadingZeros_59 rfl ?_
              have hb : (blen i.toNat : Int) = blen (i / 16).toNat + 4 := blen_d 4 (by omega)
              refine sw_istore_n (n := 61) F (L2 := [(0, .int (jI (i / 16))), (1, .int (jI (n + (-4))))]) rfl (by decide) rfl dJ22_numberOfLeadingZeros_60 rfl ?_
              have K61 : ∀ (i : Int) (n : Int), (1 ≤ i ∧ i < 16) → ((blen z.toNat : Int) + n = 31 + (blen i.toNat : Int)) → (3 ≤ n ∧ n ≤ 31) → SW x [] 0 0 61 [(0, .int (jI i)), (1, .int (jI n))] [] := by
                intro i n hi hn hn2
                refine sw_iload_n (n := 62) F 0 rfl rfl dJ22_numberOfLeadingZeros_61 rfl ?_
                refine sw_iconst (n := 63) F (4) (by decide) dJ22_numberOfLeadingZeros_62 rfl ?_
                refine sw_icmp_lt (n := 66) F (by omega) (by decide) (tgt := 73) dJ22_numberOfLeadingZeros_63 (by decide) rfl (fun c_63 => ?_) (fun c_63 => ?_)
                ·
                  have K73 : ∀ (i : Int) (n : Int), (1 ≤ i ∧ i < 4) → ((blen z.toNat : Int) + n = 31 + (blen i.toNat : Int)) → (1 ≤ n ∧ n ≤ 31) → SW x [] 0 0 73 [(0, .int (jI i)), (1, .int (jI n))] [] := by
                    intro i n hi hn hn2
                    refine sw_iload_n (n := 74) F 1 rfl rfl dJ22_numberOfLeadingZeros_73 rfl ?_
                    refine sw_iload_n (n := 75) F 0 rfl rfl dJ22_numberOfLeadingZeros_74 rfl ?_
                    refine sw_iconst (n := 76) F (1) (by decide) dJ22_numberOfLeadingZeros_75 rfl ?_
                    have hb := blen_3 (z := i) (by omega)
                    have hnl := nlz_p (z := z) (by omega)
                    refine sw_iushr (n := 77) F (jI (i / 2)) (by have h7s := jI_ushrPQ (z := i) (c := 1) (P := 2) (k := 1) (by omega) (by decide) (by decide); exact h7s) dJ22_numberOfLeadingZeros_76 rfl ?_
                    refine sw_isub (n := 78) F dJ22_numberOfLeadingZeros_77 rfl ?_
                    exact sw_iret F _ rfl (by first | rfl | exact jI_nz (by omega) | exact jI_nc (by omega)) dJ22_numberOfLeadingZeros_78 (by rw [hPo]; exact ⟨(by first | (congr 3; omega) | (congr 2; omega) | rfl), rfl⟩)
                  exact K73 i n (by first | omega | assumption) hn (by first | omega | assumption)
                ·
                  refine sw_iinc (n := 69) F 1 (L2 := [(1, .int (jI (n + (-2)))), (0, .int (jI i))]) rfl rfl (by decide) dJ22_numberOfLeadingZeros_66 rfl ?_
                  refine sw_iload_n (n := 70) F 1 rfl rfl dJ22_numberOfLeadingZeros_69 rfl ?_
                  refine sw_iconst (n := 71) F (2) (by decide) dJ22_numberOfLeadingZeros_70 rfl ?_
                  refine sw_iushr (n := 72) F (jI (i / 4)) (by have h7s := jI_ushrPQ (z := i) (c := 2) (P := 4) (k := 2) (by omega) (by decide) (by decide); exact h7s) dJ22_numberOfLeadingZeros_71 rfl ?_
                  have hb : (blen i.toNat : Int) = blen (i / 4).toNat + 2 := blen_d 2 (by omega)
                  refine sw_istore_n (n := 73) F (L2 := [(0, .int (jI (i / 4))), (1, .int (jI (n + (-2))))]) rfl (by decide) rfl dJ22_numberOfLeadingZeros_72 rfl ?_
                  have K73 : ∀ (i : Int) (n : Int), (1 ≤ i ∧ i < 4) → ((blen z.toNat : Int) + n = 31 + (blen i.toNat : Int)) → (1 ≤ n ∧ n ≤ 31) → SW x [] 0 0 73 [(0, .int (jI i)), (1, .int (jI n))] [] := by
                    intro i n hi hn hn2
                    refine sw_iload_n (n := 74) F 1 rfl rfl dJ22_numberOfLeadingZeros_73 rfl ?_
                    refine sw_iload_n (n := 75) F 0 rfl rfl dJ22_numberOfLeadingZeros_74 rfl ?_
                    refine sw_iconst (n := 76) F (1) (by decide) dJ22_numberOfLeadingZeros_75 rfl ?_
                    have hb := blen_3 (z := i) (by omega)
                    have hnl := nlz_p (z := z) (by omega)
                    refine sw_iushr (n := 77) F (jI (i / 2)) (by have h7s := jI_ushrPQ (z := i) (c := 1) (P := 2) (k := 1) (by omega) (by decide) (by decide); exact h7s) dJ22_numberOfLeadingZeros_76 rfl ?_
                    refine sw_isub (n := 78) F dJ22_numberOfLeadingZeros_77 rfl ?_
                    exact sw_iret F _ rfl (by first | rfl | exact jI_nz (by omega) | exact jI_nc (by omega)) dJ22_numberOfLeadingZeros_78 (by rw [hPo]; exact ⟨(by first | (congr 3; omega) | (congr 2; omega) | rfl), rfl⟩)
                  exact K73 (i / 4) (n + (-2)) (by first | omega | assumption) (by first | omega | assumption) (by first | omega | assumption)
              exact K61 (i / 16) (n + (-4)) (by first | omega | assumption) (by first | omega | assumption) (by first | omega | assumption)
          exact K48 i n (by first | omega | assumption) hn (by first | omega | assumption)
        ·
          refine sw_iinc (n := 43) F 1 (L2 := [(1, .int (jI (n + (-8)))), (0, .int (jI i))]) rfl rfl (by decide) dJ22_numberOfLeadingZeros_40 rfl ?_
          refine sw_iload_n (n := 44) F 1 rfl rfl dJ22_numberOfLeadingZeros_43 rfl ?_
          refine sw_bipush (n := 46) F (8) (by decide) dJ22_numberOfLeadingZeros_44 rfl ?_
          refine sw_iushr (n := 47) F (jI (i / 256)) (by have h7s := jI_ushrPQ (z := i) (c := 8) (P := 256) (k := 8) (by omega) (by decide) (by decide); exact h7s) dJ22_numberOfLeadingZeros_46 rfl ?_
          have hb : (blen i.toNat : Int) = blen (i / 256).toNat + 8 := blen_d 8 (by omega)
          refine sw_istore_n (n := 48) F (L2 := [(0, .int (jI (i / 256))), (1, .int (jI (n + (-8))))]) rfl (by decide) rfl dJ22_numberOfLeadingZeros_47 rfl ?_
          have K48 : ∀ (i : Int) (n : Int), (1 ≤ i ∧ i < 256) → ((blen z.toNat : Int) + n = 31 + (blen i.toNat : Int)) → (7 ≤ n ∧ n ≤ 31) → SW x [] 0 0 48 [(0, .int (jI i)), (1, .int (jI n))] [] := by
            intro i n hi hn hn2
            refine sw_iload_n (n := 49) F 0 rfl rfl dJ22_numberOfLeadingZeros_48 rfl ?_
            refine sw_bipush (n := 51) F (16) (by decide) dJ22_numberOfLeadingZeros_49 rfl ?_
            refine sw_icmp_lt (n := 54) F (by omega) (by decide) (tgt := 61) dJ22_numberOfLeadingZeros_51 (by decide) rfl (fun c_51 => ?_) (fun c_51 => ?_)
            ·
              have K61 : ∀ (i : Int) (n : Int), (1 ≤ i ∧ i < 16) → ((blen z.toNat : Int) + n = 31 + (blen i.toNat : Int)) → (3 ≤ n ∧ n ≤ 31) → SW x [] 0 0 61 [(0, .int (jI i)), (1, .int (jI n))] [] := by
                intro i n hi hn hn2
                refine sw_iload_n (n := 62) F 0 rfl rfl dJ22_numberOfLeadingZeros_61 rfl ?_
                refine sw_iconst (n := 63) F (4) (by decide) dJ22_numberOfLeadingZeros_62 rfl ?_
                refine sw_icmp_lt (n := 66) F (by omega) (by decide) (tgt := 73) dJ22_numberOfLeadingZeros_63 (by decide) rfl (fun c_63 => ?_) (fun c_63 => ?_)
                ·
                  have K73 : ∀ (i : Int) (n : Int), (1 ≤ i ∧ i < 4) → ((blen z.toNat : Int) + n = 31 + (blen i.toNat : Int)) → (1 ≤ n ∧ n ≤ 31) → SW x [] 0 0 73 [(0, .int (jI i)), (1, .int (jI n))] [] := by
                    intro i n hi hn hn2
                    refine sw_iload_n (n := 74) F 1 rfl rfl dJ22_numberOfLeadingZeros_73 rfl ?_
                    refine sw_iload_n (n := 75) F 0 rfl rfl dJ22_numberOfLeadingZeros_74 rfl ?_
                    refine sw_iconst (n := 76) F (1) (by decide) dJ22_numberOfLeadingZeros_75 rfl ?_
                    have hb := blen_3 (z := i) (by omega)
                    have hnl := nlz_p (z := z) (by omega)
                    refine sw_iushr (n := 77) F (jI (i / 2)) (by have h7s := jI_ushrPQ (z := i) (c := 1) (P := 2) (k := 1) (by omega) (by decide) (by decide); exact h7s) dJ22_numberOfLeadingZeros_76 rfl ?_
                    refine sw_isub (n := 78) F dJ22_numberOfLeadingZeros_77 rfl ?_
                    exact sw_iret F _ rfl (by first | rfl | exact jI_nz (by omega) | exact jI_nc (by omega)) dJ22_numberOfLeadingZeros_78 (by rw [hPo]; exact ⟨(by first | (congr 3; omega) | (congr 2; omega) | rfl), rfl⟩)
                  exact K73 i n (by first | omega | assumption) hn (by first | omega | assumption)
                ·
                  refine sw_iinc (n := 69) F 1 (L2 := [(1, .int (jI (n + (-2)))), (0, .int (jI i))]) rfl rfl (by decide) dJ22_numberOfLeadingZeros_66 rfl ?_
                  refine sw_iload_n (n := 70) F 1 rfl rfl dJ22_numberOfLeadingZeros_69 rfl ?_
                  refine sw_iconst (n := 71) F (2) (by decide) dJ22_numberOfLeadingZeros_70 rfl ?_
                  refine sw_iushr (n := 72) F (jI (i / 4)) (by have h7s := jI_ushrPQ (z := i) (c := 2) (P := 4) (k := 2) (by omega) (by decide) (by decide); exact h7s) dJ22_numberOfLeadingZeros_71 rfl ?_
                  have hb : (blen i.toNat : Int) = blen (i / 4).toNat + 2 := blen_d 2 (by omega)
                  refine sw_istore_n (n := 73) F (L2 := [(0, .int (jI (i / 4))), (1, .int (jI (n + (-2))))]) rfl (by decide) rfl dJ22_numberOfLeadingZeros_72 rfl ?_
                  have K73 : ∀ (i : Int) (n : Int), (1 ≤ i ∧ i < 4) → ((blen z.toNat : Int) + n = 31 + (blen i.toNat : Int)) → (1 ≤ n ∧ n ≤ 31) → SW x [] 0 0 73 [(0, .int (jI i)), (1, .int (jI n))] [] := by
                    intro i n hi hn hn2
                    refine sw_iload_n (n := 74) F 1 rfl rfl dJ22_numberOfLeadingZeros_73 rfl ?_
                    refine sw_iload_n (n := 75) F 0 rfl rfl dJ22_numberOfLeadingZeros_74 rfl ?_
                    refine sw_iconst (n := 76) F (1) (by decide) dJ22_numberOfLeadingZeros_75 rfl ?_
                    have hb := blen_3 (z := i) (by omega)
                    have hnl := nlz_p (z := z) (by omega)
                    refine sw_iushr (n := 77) F (jI (i / 2)) (by have h7s := jI_ushrPQ (z := i) (c := 1) (P := 2) (k := 1) (by omega) (by decide) (by decide); exact h7s) dJ22_numberOfLeadingZeros_76 rfl ?_
                    refine sw_isub (n := 78) F dJ22_numberOfLeadingZeros_77 rfl ?_
                    exact sw_iret F _ rfl (by first | rfl | exact jI_nz (by omega) | exact jI_nc (by omega)) dJ22_numberOfLeadingZeros_78 (by rw [hPo]; exact ⟨(by first | (congr 3; omega) | (congr 2; omega) | rfl), rfl⟩)
                  exact K73 (i / 4) (n + (-2)) (by first | omega | assumption) (by first | omega | assumption) (by first | omega | assumption)
              exact K61 i n (by first | omega | assumption) hn (by first | omega | assumption)
            ·
              refine sw_iinc (n := 57) F 1 (L2 := [(1, .int (jI (n + (-4)))), (0, .int (jI i))]) rfl rfl (by decide) dJ22_numberOfLeadingZeros_54 rfl ?_
              refine sw_iload_n (n := 58) F 1 rfl rfl dJ22_numberOfLeadingZeros_57 rfl ?_
              refine sw_iconst (n := 59) F (4) (by decide) dJ22_numberOfLeadingZeros_58 rfl ?_
              refine sw_iushr (n := 60) F (jI (i / 16)) (by have h7s := jI_ushrPQ (z := i) (c := 4) (P := 16) (k := 4) (by omega) (by decide) (by decide); exact h7s) dJ22_numberOfLeadingZeros_59 rfl ?_
              have hb : (blen i.toNat : Int) = blen (i / 16).toNat + 4 := blen_d 4 (by omega)
              refine sw_istore_n (n := 61) F (L2 := [(0, .int (jI (i / 16))), (1, .int (jI (n + (-4))))]) rfl (by decide) rfl dJ22_numberOfLeadingZeros_60 rfl ?_
              have K61 : ∀ (i : Int) (n : Int), (1 ≤ i ∧ i < 16) → ((blen z.toNat : Int) + n = 31 + (blen i.toNat : Int)) → (3 ≤ n ∧ n ≤ 31) → SW x [] 0 0 61 [(0, .int (jI i)), (1, .int (jI n))] [] := by
                intro i n hi hn hn2
                refine sw_iload_n (n := 62) F 0 rfl rfl dJ22_numberOfLeadingZeros_61 rfl ?_
                refine sw_iconst (n := 63) F (4) (by decide) dJ22_numberOfLeadingZeros_62 rfl ?_
                refine sw_icmp_lt (n := 66) F (by omega) (by decide) (tgt := 73) dJ22_numberOfLeadingZeros_63 (by decide) rfl (fun c_63 => ?_) (fun c_63 => ?_)
                ·
                  have K73 : ∀ (i : Int) (n : Int), (1 ≤ i ∧ i < 4) → ((blen z.toNat : Int) + n = 31 + (blen i.toNat : Int)) → (1 ≤ n ∧ n ≤ 31) → SW x [] 0 0 73 [(0, .int (jI i)), (1, .int (jI n))] [] := by
                    intro i n hi hn hn2
                    refine sw_iload_n (n := 74) F 1 rfl rfl dJ22_numberOfLeadingZeros_73 rfl ?_
                    refine sw_iload_n (n := 75) F 0 rfl rfl dJ22_numberOfLeadingZeros_74 rfl ?_
                    refine sw_iconst (n := 76) F (1) (by decide) dJ22_numberOfLeadingZeros_75 rfl ?_
                    have hb := blen_3 (z := i) (by omega)
                    have hnl := nlz_p (z := z) (by omega)
                    refine sw_iushr (n := 77) F (jI (i / 2)) (by have h7s := jI_ushrPQ (z := i) (c := 1) (P := 2) (k := 1) (by omega) (by decide) (by decide); exact h7s) dJ22_numberOfLeadingZeros_76 rfl ?_
                    refine sw_isub (n := 78) F dJ22_numberOfLeadingZeros_77 rfl ?_
                    exact sw_iret F _ rfl (by first | rfl | exact jI_nz (by omega) | exact jI_nc (by omega)) dJ22_numberOfLeadingZeros_78 (by rw [hPo]; exact ⟨(by first | (congr 3; omega) | (congr 2; omega) | rfl), rfl⟩)
                  exact K73 i n (by first | omega | assumption) hn (by first | omega | assumption)
                ·
                  refine sw_iinc (n := 69) F 1 (L2 := [(1, .int (jI (n + (-2)))), (0, .int (jI i))]) rfl rfl (by decide) dJ22_numberOfLeadingZeros_66 rfl ?_
                  refine sw_iload_n (n := 70) F 1 rfl rfl dJ22_numberOfLeadingZeros_69 rfl ?_
                  refine sw_iconst (n := 71) F (2) (by decide) dJ22_numberOfLeadingZeros_70 rfl ?_
                  refine sw_iushr (n := 72) F (jI (i / 4)) (by have h7s := jI_ushrPQ (z := i) (c := 2) (P := 4) (k := 2) (by omega) (by decide) (by decide); exact h7s) dJ22_numberOfLeadingZeros_71 rfl ?_
                  have hb : (blen i.toNat : Int) = blen (i / 4).toNat + 2 := blen_d 2 (by omega)
                  refine sw_istore_n (n := 73) F (L2 := [(0, .int (jI (i / 4))), (1, .int (jI (n + (-2))))]) rfl (by decide) rfl dJ22_numberOfLeadingZeros_72 rfl ?_
                  have K73 : ∀ (i : Int) (n : Int), (1 ≤ i ∧ i < 4) → ((blen z.toNat : Int) + n = 31 + (blen i.toNat : Int)) → (1 ≤ n ∧ n ≤ 31) → SW x [] 0 0 73 [(0, .int (jI i)), (1, .int (jI n))] [] := by
                    intro i n hi hn hn2
                    refine sw_iload_n (n := 74) F 1 rfl rfl dJ22_numberOfLeadingZeros_73 rfl ?_
                    refine sw_iload_n (n := 75) F 0 rfl rfl dJ22_numberOfLeadingZeros_74 rfl ?_
                    refine sw_iconst (n := 76) F (1) (by decide) dJ22_numberOfLeadingZeros_75 rfl ?_
                    have hb := blen_3 (z := i) (by omega)
                    have hnl := nlz_p (z := z) (by omega)
                    refine sw_iushr (n := 77) F (jI (i / 2)) (by have h7s := jI_ushrPQ (z := i) (c := 1) (P := 2) (k := 1) (by omega) (by decide) (by decide); exact h7s) dJ22_numberOfLeadingZeros_76 rfl ?_
                    refine sw_isub (n := 78) F dJ22_numberOfLeadingZeros_77 rfl ?_
                    exact sw_iret F _ rfl (by first | rfl | exact jI_nz (by omega) | exact jI_nc (by omega)) dJ22_numberOfLeadingZeros_78 (by rw [hPo]; exact ⟨(by first | (congr 3; omega) | (congr 2; omega) | rfl), rfl⟩)
                  exact K73 (i / 4) (n + (-2)) (by first | omega | assumption) (by first | omega | assumption) (by first | omega | assumption)
              exact K61 (i / 16) (n + (-4)) (by first | omega | assumption) (by first | omega | assumption) (by first | omega | assumption)
          exact K48 (i / 256) (n + (-8)) (by first | omega | assumption) (by first | omega | assumption) (by first | omega | assumption)
      refine sw_loc [1, 0] (L2 := [(0, .int (jI z)), (1, .int (jI 31))]) rfl ?_
      exact K33 z 31 (by first | omega | assumption) (by first | omega | assumption) (by first | omega | assumption)
    ·
      refine sw_iinc (n := 28) F 0 (L2 := [(1, .int (jI (31 + (-16)))), (0, .int (jI z))]) rfl rfl (by decide) dJ22_numberOfLeadingZeros_25 rfl ?_
      refine sw_iload_n (n := 29) F 1 rfl rfl dJ22_numberOfLeadingZeros_28 rfl ?_
      refine sw_bipush (n := 31) F (16) (by decide) dJ22_numberOfLeadingZeros_29 rfl ?_
      refine sw_iushr (n := 32) F (jI (z / 65536)) (by have h7s := jI_ushrPQ (z := z) (c := 16) (P := 65536) (k := 16) (by omega) (by decide) (by decide); exact h7s) dJ22_numberOfLeadingZeros_31 rfl ?_
      have hb : (blen z.toNat : Int) = blen (z / 65536).toNat + 16 := blen_d 16 (by omega)
      refine sw_istore_n (n := 33) F (L2 := [(0, .int (jI (z / 65536))), (1, .int (jI (31 + (-16))))]) rfl (by decide) rfl dJ22_numberOfLeadingZeros_32 rfl ?_
      have K33 : ∀ (i : Int) (n : Int), (1 ≤ i ∧ i < 65536) → ((blen z.toNat : Int) + n = 31 + (blen i.toNat : Int)) → (15 ≤ n ∧ n ≤ 31) → SW x [] 0 0 33 [(0, .int (jI i)), (1, .int (jI n))] [] := by
        intro i n hi hn hn2
        refine sw_iload_n (n := 34) F 0 rfl rfl dJ22_numberOfLeadingZeros_33 rfl ?_
        refine sw_sipush (n := 37) F (256) (by decide) dJ22_numberOfLeadingZeros_34 rfl ?_
        refine sw_icmp_lt (n := 40) F (by omega) (by decide) (tgt := 48) dJ22_numberOfLeadingZeros_37 (by decide) rfl (fun c_37 => ?_) (fun c_37 => ?_)
        ·
          have K48 : ∀ (i : Int) (n : Int), (1 ≤ i ∧ i < 256) → ((blen z.toNat : Int) + n = 31 + (blen i.toNat : Int)) → (7 ≤ n ∧ n ≤ 31) → SW x [] 0 0 48 [(0, .int (jI i)), (1, .int (jI n))] [] := by
            intro i n hi hn hn2
            refine sw_iload_n (n := 49) F 0 rfl rfl dJ22_numberOfLeadingZeros_48 rfl ?_
            refine sw_bipush (n := 51) F (16) (by decide) dJ22_numberOfLeadingZeros_49 rfl ?_
            refine sw_icmp_lt (n := 54) F (by omega) (by decide) (tgt := 61) dJ22_numberOfLeadingZeros_51 (by decide) rfl (fun c_51 => ?_) (fun c_51 => ?_)
            ·
              have K61 : ∀ (i : Int) (n : Int), (1 ≤ i ∧ i < 16) → ((blen z.toNat : Int) + n = 31 + (blen i.toNat : Int)) → (3 ≤ n ∧ n ≤ 31) → SW x [] 0 0 61 [(0, .int (jI i)), (1, .int (jI n))] [] := by
                intro i n hi hn hn2
                refine sw_iload_n (n := 62) F 0 rfl rfl dJ22_numberOfLeadingZeros_61 rfl ?_
                refine sw_iconst (n := 63) F (4) (by decide) dJ22_numberOfLeadingZeros_62 rfl ?_
                refine sw_icmp_lt (n := 66) F (by omega) (by decide) (tgt := 73) dJ22_numberOfLeadingZeros_63 (by decide) rfl (fun c_63 => ?_) (fun c_63 => ?_)
                ·
                  have K73 : ∀ (i : Int) (n : Int), (1 ≤ i ∧ i < 4) → ((blen z.toNat : Int) + n = 31 + (blen i.toNat : Int)) → (1 ≤ n ∧ n ≤ 31) → SW x [] 0 0 73 [(0, .int (jI i)), (1, .int (jI n))] [] := by
                    intro i n hi hn hn2
                    refine sw_iload_n (n := 74) F 1 rfl rfl dJ22_numberOfLeadingZeros_73 rfl ?_
                    refine sw_iload_n (n := 75) F 0 rfl rfl dJ22_numberOfLeadingZeros_74 rfl ?_
                    refine sw_iconst (n := 76) F (1) (by decide) dJ22_numberOfLeadingZeros_75 rfl ?_
                    have hb := blen_3 (z := i) (by omega)
                    have hnl := nlz_p (z := z) (by omega)
                    refine sw_iushr (n := 77) F (jI (i / 2)) (by have h7s := jI_ushrPQ (z := i) (c := 1) (P := 2) (k := 1) (by omega) (by decide) (by decide); exact h7s) dJ22_numberOfLeadingZeros_76 rfl ?_
                    refine sw_isub (n := 78) F dJ22_numberOfLeadingZeros_77 rfl ?_
                    exact sw_iret F _ rfl (by first | rfl | exact jI_nz (by omega) | exact jI_nc (by omega)) dJ22_numberOfLeadingZeros_78 (by rw [hPo]; exact ⟨(by first | (congr 3; omega) | (congr 2; omega) | rfl), rfl⟩)
                  exact K73 i n (by first | omega | assumption) hn (by first | omega | assumption)
                ·
                  refine sw_iinc (n := 69) F 1 (L2 := [(1, .int (jI (n + (-2)))), (0, .int (jI i))]) rfl rfl (by decide) dJ22_numberOfLeadingZeros_66 rfl ?_
                  refine sw_iload_n (n := 70) F 1 rfl rfl dJ22_numberOfLeadingZeros_69 rfl ?_
                  refine sw_iconst (n := 71) F (2) (by decide) dJ22_numberOfLeadingZeros_70 rfl ?_
                  refine sw_iushr (n := 72) F (jI (i / 4)) (by have h7s := jI_ushrPQ (z := i) (c := 2) (P := 4) (k := 2) (by omega) (by decide) (by decide); exact h7s) dJ22_numberOfLeadingZeros_71 rfl ?_
                  have hb : (blen i.toNat : Int) = blen (i / 4).toNat + 2 := blen_d 2 (by omega)
                  refine sw_istore_n (n := 73) F (L2 := [(0, .int (jI (i / 4))), (1, .int (jI (n + (-2))))]) rfl (by decide) rfl dJ22_numberOfLeadingZeros_72 rfl ?_
                  have K73 : ∀ (i : Int) (n : Int), (1 ≤ i ∧ i < 4) → ((blen z.toNat : Int) + n = 31 + (blen i.toNat : Int)) → (1 ≤ n ∧ n ≤ 31) → SW x [] 0 0 73 [(0, .int (jI i)), (1, .int (jI n))] [] := by
                    intro i n hi hn hn2
                    refine sw_iload_n (n := 74) F 1 rfl rfl dJ22_numberOfLeadingZeros_73 rfl ?_
                    refine sw_iload_n (n := 75) F 0 rfl rfl dJ22_numberOfLeadingZeros_74 rfl ?_
                    refine sw_iconst (n := 76) F (1) (by decide) dJ22_numberOfLeadingZeros_75 rfl ?_
                    have hb := blen_3 (z := i) (by omega)
                    have hnl := nlz_p (z := z) (by omega)
                    refine sw_iushr (n := 77) F (jI (i / 2)) (by have h7s := jI_ushrPQ (z := i) (c := 1) (P := 2) (k := 1) (by omega) (by decide) (by decide); exact h7s) dJ22_numberOfLeadingZeros_76 rfl ?_
                    refine sw_isub (n := 78) F dJ22_numberOfLeadingZeros_77 rfl ?_
                    exact sw_iret F _ rfl (by first | rfl | exact jI_nz (by omega) | exact jI_nc (by omega)) dJ22_numberOfLeadingZeros_78 (by rw [hPo]; exact ⟨(by first | (congr 3; omega) | (congr 2; omega) | rfl), rfl⟩)
                  exact K73 (i / 4) (n + (-2)) (by first | omega | assumption) (by first | omega | assumption) (by first | omega | assumption)
              exact K61 i n (by first | omega | assumption) hn (by first | omega | assumption)
            ·
              refine sw_iinc (n := 57) F 1 (L2 := [(1, .int (jI (n + (-4)))), (0, .int (jI i))]) rfl rfl (by decide) dJ22_numberOfLeadingZeros_54 rfl ?_
              refine sw_iload_n (n := 58) F 1 rfl rfl dJ22_numberOfLeadingZeros_57 rfl ?_
              refine sw_iconst (n := 59) F (4) (by decide) dJ22_numberOfLeadingZeros_58 rfl ?_
              refine sw_iushr (n := 60) F (jI (i / 16)) (by have h7s := jI_ushrPQ (z := i) (c := 4) (P := 16) (k := 4) (by omega) (by decide) (by decide); exact h7s) dJ22_numberOfLeadingZeros_59 rfl ?_
              have hb : (blen i.toNat : Int) = blen (i / 16).toNat + 4 := blen_d 4 (by omega)
              refine sw_istore_n (n := 61) F (L2 := [(0, .int (jI (i / 16))), (1, .int (jI (n + (-4))))]) rfl (by decide) rfl dJ22_numberOfLeadingZeros_60 rfl ?_
              have K61 : ∀ (i : Int) (n : Int), (1 ≤ i ∧ i < 16) → ((blen z.toNat : Int) + n = 31 + (blen i.toNat : Int)) → (3 ≤ n ∧ n ≤ 31) → SW x [] 0 0 61 [(0, .int (jI i)), (1, .int (jI n))] [] := by
                intro i n hi hn hn2
                refine sw_iload_n (n := 62) F 0 rfl rfl dJ22_numberOfLeadingZeros_61 rfl ?_
                refine sw_iconst (n := 63) F (4) (by decide) dJ22_numberOfLeadingZeros_62 rfl ?_
                refine sw_icmp_lt (n := 66) F (by omega) (by decide) (tgt := 73) dJ22_numberOfLeadingZeros_63 (by decide) rfl (fun c_63 => ?_) (fun c_63 => ?_)
                ·
                  have K73 : ∀ (i : Int) (n : Int), (1 ≤ i ∧ i < 4) → ((blen z.toNat : Int) + n = 31 + (blen i.toNat : Int)) → (1 ≤ n ∧ n ≤ 31) → SW x [] 0 0 73 [(0, .int (jI i)), (1, .int (jI n))] [] := by
                    intro i n hi hn hn2
                    refine sw_iload_n (n := 74) F 1 rfl rfl dJ22_numberOfLeadingZeros_73 rfl ?_
                    refine sw_iload_n (n := 75) F 0 rfl rfl dJ22_numberOfLeadingZeros_74 rfl ?_
                    refine sw_iconst (n := 76) F (1) (by decide) dJ22_numberOfLeadingZeros_75 rfl ?_
                    have hb := blen_3 (z := i) (by omega)
                    have hnl := nlz_p (z := z) (by omega)
                    refine sw_iushr (n := 77) F (jI (i / 2)) (by have h7s := jI_ushrPQ (z := i) (c := 1) (P := 2) (k := 1) (by omega) (by decide) (by decide); exact h7s) dJ22_numberOfLeadingZeros_76 rfl ?_
                    refine sw_isub (n := 78) F dJ22_numberOfLeadingZeros_77 rfl ?_
                    exact sw_iret F _ rfl (by first | rfl | exact jI_nz (by omega) | exact jI_nc (by omega)) dJ22_numberOfLeadingZeros_78 (by rw [hPo]; exact ⟨(by first | (congr 3; omega) | (congr 2; omega) | rfl), rfl⟩)
                  exact K73 i n (by first | omega | assumption) hn (by first | omega | assumption)
                ·
                  refine sw_iinc (n := 69) F 1 (L2 := [(1, .int (jI (n + (-2)))), (0, .int (jI i))]) rfl rfl (by decide) dJ22_numberOfLeadingZeros_66 rfl ?_
                  refine sw_iload_n (n := 70) F 1 rfl rfl dJ22_numberOfLeadingZeros_69 rfl ?_
                  refine sw_iconst (n := 71) F (2) (by decide) dJ22_numberOfLeadingZeros_70 rfl ?_
                  refine sw_iushr (n := 72) F (jI (i / 4)) (by have h7s := jI_ushrPQ (z := i) (c := 2) (P := 4) (k := 2) (by omega) (by decide) (by decide); exact h7s) dJ22_numberOfLeadingZeros_71 rfl ?_
                  have hb : (blen i.toNat : Int) = blen (i / 4).toNat + 2 := blen_d 2 (by omega)
                  refine sw_istore_n (n := 73) F (L2 := [(0, .int (jI (i / 4))), (1, .int (jI (n + (-2))))]) rfl (by decide) rfl dJ22_numberOfLeadingZeros_72 rfl ?_
                  have K73 : ∀ (i : Int) (n : Int), (1 ≤ i ∧ i < 4) → ((blen z.toNat : Int) + n = 31 + (blen i.toNat : Int)) → (1 ≤ n ∧ n ≤ 31) → SW x [] 0 0 73 [(0, .int (jI i)), (1, .int (jI n))] [] := by
                    intro i n hi hn hn2
                    refine sw_iload_n (n := 74) F 1 rfl rfl dJ22_numberOfLeadingZeros_73 rfl ?_
                    refine sw_iload_n (n := 75) F 0 rfl rfl dJ22_numberOfLeadingZeros_74 rfl ?_
                    refine sw_iconst (n := 76) F (1) (by decide) dJ22_numberOfLeadingZeros_75 rfl ?_
                    have hb := blen_3 (z := i) (by omega)
                    have hnl := nlz_p (z := z) (by omega)
                    refine sw_iushr (n := 77) F (jI (i / 2)) (by have h7s := jI_ushrPQ (z := i) (c := 1) (P := 2) (k := 1) (by omega) (by decide) (by decide); exact h7s) dJ22_numberOfLeadingZeros_76 rfl ?_
                    refine sw_isub (n := 78) F dJ22_numberOfLeadingZeros_77 rfl ?_
                    exact sw_iret F _ rfl (by first | rfl | exact jI_nz (by omega) | exact jI_nc (by omega)) dJ22_numberOfLeadingZeros_78 (by rw [hPo]; exact ⟨(by first | (congr 3; omega) | (congr 2; omega) | rfl), rfl⟩)
                  exact K73 (i / 4) (n + (-2)) (by first | omega | assumption) (by first | omega | assumption) (by first | omega | assumption)
              exact K61 (i / 16) (n + (-4)) (by first | omega | assumption) (by first | omega | assumption) (by first | omega | assumption)
          exact K48 i n (by first | omega | assumption) hn (by first | omega | assumption)
        ·
          refine sw_iinc (n := 43) F 1 (L2 := [(1, .int (jI (n + (-8)))), (0, .int (jI i))]) rfl rfl (by decide) dJ22_numberOfLeadingZeros_40 rfl ?_
          refine sw_iload_n (n := 44) F 1 rfl rfl dJ22_numberOfLeadingZeros_43 rfl ?_
          refine sw_bipush (n := 46) F (8) (by decide) dJ22_numberOfLeadingZeros_44 rfl ?_
          refine sw_iushr (n := 47) F (jI (i / 256)) (by have h7s := jI_ushrPQ (z := i) (c := 8) (P := 256) (k := 8) (by omega) (by decide) (by decide); exact h7s) dJ22_numberOfLeadingZeros_46 rfl ?_
          have hb : (blen i.toNat : Int) = blen (i / 256).toNat + 8 := blen_d 8 (by omega)
          refine sw_istore_n (n := 48) F (L2 := [(0, .int (jI (i / 256))), (1, .int (jI (n + (-8))))]) rfl (by decide) rfl dJ22_numberOfLeadingZeros_47 rfl ?_
          have K48 : ∀ (i : Int) (n : Int), (1 ≤ i ∧ i < 256) → ((blen z.toNat : Int) + n = 31 + (blen i.toNat : Int)) → (7 ≤ n ∧ n ≤ 31) → SW x [] 0 0 48 [(0, .int (jI i)), (1, .int (jI n))] [] := by
            intro i n hi hn hn2
            refine sw_iload_n (n := 49) F 0 rfl rfl dJ22_numberOfLeadingZeros_48 rfl ?_
            refine sw_bipush (n := 51) F (16) (by decide) dJ22_numberOfLeadingZeros_49 rfl ?_
            refine sw_icmp_lt (n := 54) F (by omega) (by decide) (tgt := 61) dJ22_numberOfLeadingZeros_51 (by decide) rfl (fun c_51 => ?_) (fun c_51 => ?_)
            ·
              have K61 : ∀ (i : Int) (n : Int), (1 ≤ i ∧ i < 16) → ((blen z.toNat : Int) + n = 31 + (blen i.toNat : Int)) → (3 ≤ n ∧ n ≤ 31) → SW x [] 0 0 61 [(0, .int (jI i)), (1, .int (jI n))] [] := by
                intro i n hi hn hn2
                refine sw_iload_n (n := 62) F 0 rfl rfl dJ22_numberOfLeadingZeros_61 rfl ?_
                refine sw_iconst (n := 63) F (4) (by decide) dJ22_numberOfLeadingZeros_62 rfl ?_
                refine sw_icmp_lt (n := 66) F (by omega) (by decide) (tgt := 73) dJ22_numberOfLeadingZeros_63 (by decide) rfl (fun c_63 => ?_) (fun c_63 => ?_)
                ·
                  have K73 : ∀ (i : Int) (n : Int), (1 ≤ i ∧ i < 4) → ((blen z.toNat : Int) + n = 31 + (blen i.toNat : Int)) → (1 ≤ n ∧ n ≤ 31) → SW x [] 0 0 73 [(0, .int (jI i)), (1, .int (jI n))] [] := by
                    intro i n hi hn hn2
                    refine sw_iload_n (n := 74) F 1 rfl rfl dJ22_numberOfLeadingZeros_73 rfl ?_
                    refine sw_iload_n (n := 75) F 0 rfl rfl dJ22_numberOfLeadingZeros_74 rfl ?_
                    refine sw_iconst (n := 76) F (1) (by decide) dJ22_numberOfLeadingZeros_75 rfl ?_
                    have hb := blen_3 (z := i) (by omega)
                    have hnl := nlz_p (z := z) (by omega)
                    refine sw_iushr (n := 77) F (jI (i / 2)) (by have h7s := jI_ushrPQ (z := i) (c := 1) (P := 2) (k := 1) (by omega) (by decide) (by decide); exact h7s) dJ22_numberOfLeadingZeros_76 rfl ?_
                    refine sw_isub (n := 78) F dJ22_numberOfLeadingZeros_77 rfl ?_
                    exact sw_iret F _ rfl (by first | rfl | exact jI_nz (by omega) | exact jI_nc (by omega)) dJ22_numberOfLeadingZeros_78 (by rw [hPo]; exact ⟨(by first | (congr 3; omega) | (congr 2; omega) | rfl), rfl⟩)
                  exact K73 i n (by first | omega | assumption) hn (by first | omega | assumption)
                ·
                  refine sw_iinc (n := 69) F 1 (L2 := [(1, .int (jI (n + (-2)))), (0, .int (jI i))]) rfl rfl (by decide) dJ22_numberOfLeadingZeros_66 rfl ?_
                  refine sw_iload_n (n := 70) F 1 rfl rfl dJ22_numberOfLeadingZeros_69 rfl ?_
                  refine sw_iconst (n := 71) F (2) (by decide) dJ22_numberOfLeadingZeros_70 rfl ?_
                  refine sw_iushr (n := 72) F (jI (i / 4)) (by have h7s := jI_ushrPQ (z := i) (c := 2) (P := 4) (k := 2) (by omega) (by decide) (by decide); exact h7s) dJ22_numberOfLeadingZeros_71 rfl ?_
                  have hb : (blen i.toNat : Int) = blen (i / 4).toNat + 2 := blen_d 2 (by omega)
                  refine sw_istore_n (n := 73) F (L2 := [(0, .int (jI (i / 4))), (1, .int (jI (n + (-2))))]) rfl (by decide) rfl dJ22_numberOfLeadingZeros_72 rfl ?_
                  have K73 : ∀ (i : Int) (n : Int), (1 ≤ i ∧ i < 4) → ((blen z.toNat : Int) + n = 31 + (blen i.toNat : Int)) → (1 ≤ n ∧ n ≤ 31) → SW x [] 0 0 73 [(0, .int (jI i)), (1, .int (jI n))] [] := by
                    intro i n hi hn hn2
                    refine sw_iload_n (n := 74) F 1 rfl rfl dJ22_numberOfLeadingZeros_73 rfl ?_
                    refine sw_iload_n (n := 75) F 0 rfl rfl dJ22_numberOfLeadingZeros_74 rfl ?_
                    refine sw_iconst (n := 76) F (1) (by decide) dJ22_numberOfLeadingZeros_75 rfl ?_
                    have hb := blen_3 (z := i) (by omega)
                    have hnl := nlz_p (z := z) (by omega)
                    refine sw_iushr (n := 77) F (jI (i / 2)) (by have h7s := jI_ushrPQ (z := i) (c := 1) (P := 2) (k := 1) (by omega) (by decide) (by decide); exact h7s) dJ22_numberOfLeadingZeros_76 rfl ?_
                    refine sw_isub (n := 78) F dJ22_numberOfLeadingZeros_77 rfl ?_
                    exact sw_iret F _ rfl (by first | rfl | exact jI_nz (by omega) | exact jI_nc (by omega)) dJ22_numberOfLeadingZeros_78 (by rw [hPo]; exact ⟨(by first | (congr 3; omega) | (congr 2; omega) | rfl), rfl⟩)
                  exact K73 (i / 4) (n + (-2)) (by first | omega | assumption) (by first | omega | assumption) (by first | omega | assumption)
              exact K61 i n (by first | omega | assumption) hn (by first | omega | assumption)
            ·
              refine sw_iinc (n := 57) F 1 (L2 := [(1, .int (jI (n + (-4)))), (0, .int (jI i))]) rfl rfl (by decide) dJ22_numberOfLeadingZeros_54 rfl ?_
              refine sw_iload_n (n := 58) F 1 rfl rfl dJ22_numberOfLeadingZeros_57 rfl ?_
              refine sw_iconst (n := 59) F (4) (by decide) dJ22_numberOfLeadingZeros_58 rfl ?_
              refine sw_iushr (n := 60) F (jI (i / 16)) (by have h7s := jI_ushrPQ (z := i) (c := 4) (P := 16) (k := 4) (by omega) (by decide) (by decide); exact h7s) dJ22_numberOfLeadingZeros_59 rfl ?_
              have hb : (blen i.toNat : Int) = blen (i / 16).toNat + 4 := blen_d 4 (by omega)
              refine sw_istore_n (n := 61) F (L2 := [(0, .int (jI (i / 16))), (1, .int (jI (n + (-4))))]) rfl (by decide) rfl dJ22_numberOfLeadingZeros_60 rfl ?_
              have K61 : ∀ (i : Int) (n : Int), (1 ≤ i ∧ i < 16) → ((blen z.toNat : Int) + n = 31 + (blen i.toNat : Int)) → (3 ≤ n ∧ n ≤ 31) → SW x [] 0 0 61 [(0, .int (jI i)), (1, .int (jI n))] [] := by
                intro i n hi hn hn2
                refine sw_iload_n (n := 62) F 0 rfl rfl dJ22_numberOfLeadingZeros_61 rfl ?_
                refine sw_iconst (n := 63) F (4) (by decide) dJ22_numberOfLeadingZeros_62 rfl ?_
                refine sw_icmp_lt (n := 66) F (by omega) (by decide) (tgt := 73) dJ22_numberOfLeadingZeros_63 (by decide) rfl (fun c_63 => ?_) (fun c_63 => ?_)
                ·
                  have K73 : ∀ (i : Int) (n : Int), (1 ≤ i ∧ i < 4) → ((blen z.toNat : Int) + n = 31 + (blen i.toNat : Int)) → (1 ≤ n ∧ n ≤ 31) → SW x [] 0 0 73 [(0, .int (jI i)), (1, .int (jI n))] [] := by
                    intro i n hi hn hn2
                    refine sw_iload_n (n := 74) F 1 rfl rfl dJ22_numberOfLeadingZeros_73 rfl ?_
                    refine sw_iload_n (n := 75) F 0 rfl rfl dJ22_numberOfLeadingZeros_74 rfl ?_
                    refine sw_iconst (n := 76) F (1) (by decide) dJ22_numberOfLeadingZeros_75 rfl ?_
                    have hb := blen_3 (z := i) (by omega)
                    have hnl := nlz_p (z := z) (by omega)
                    refine sw_iushr (n := 77) F (jI (i / 2)) (by have h7s := jI_ushrPQ (z := i) (c := 1) (P := 2) (k := 1) (by omega) (by decide) (by decide); exact h7s) dJ22_numberOfLeadingZeros_76 rfl ?_
                    refine sw_isub (n := 78) F dJ22_numberOfLeadingZeros_77 rfl ?_
                    exact sw_iret F _ rfl (by first | rfl | exact jI_nz (by omega) | exact jI_nc (by omega)) dJ22_numberOfLeadingZeros_78 (by rw [hPo]; exact ⟨(by first | (congr 3; omega) | (congr 2; omega) | rfl), rfl⟩)
                  exact K73 i n (by first | omega | assumption) hn (by first | omega | assumption)
                ·
                  refine sw_iinc (n := 69) F 1 (L2 := [(1, .int (jI (n + (-2)))), (0, .int (jI i))]) rfl rfl (by decide) dJ22_numberOfLeadingZeros_66 rfl ?_
                  refine sw_iload_n (n := 70) F 1 rfl rfl dJ22_numberOfLeadingZeros_69 rfl ?_
                  refine sw_iconst (n := 71) F (2) (by decide) dJ22_numberOfLeadingZeros_70 rfl ?_
                  refine sw_iushr (n := 72) F (jI (i / 4)) (by have h7s := jI_ushrPQ (z := i) (c := 2) (P := 4) (k := 2) (by omega) (by decide) (by decide); exact h7s) dJ22_numberOfLeadingZeros_71 rfl ?_
                  have hb : (blen i.toNat : Int) = blen (i / 4).toNat + 2 := blen_d 2 (by omega)
                  refine sw_istore_n (n := 73) F (L2 := [(0, .int (jI (i / 4))), (1, .int (jI (n + (-2))))]) rfl (by decide) rfl dJ22_numberOfLeadingZeros_72 rfl ?_
                  have K73 : ∀ (i : Int) (n : Int), (1 ≤ i ∧ i < 4) → ((blen z.toNat : Int) + n = 31 + (blen i.toNat : Int)) → (1 ≤ n ∧ n ≤ 31) → SW x [] 0 0 73 [(0, .int (jI i)), (1, .int (jI n))] [] := by
                    intro i n hi hn hn2
                    refine sw_iload_n (n := 74) F 1 rfl rfl dJ22_numberOfLeadingZeros_73 rfl ?_
                    refine sw_iload_n (n := 75) F 0 rfl rfl dJ22_numberOfLeadingZeros_74 rfl ?_
                    refine sw_iconst (n := 76) F (1) (by decide) dJ22_numberOfLeadingZeros_75 rfl ?_
                    have hb := blen_3 (z := i) (by omega)
                    have hnl := nlz_p (z := z) (by omega)
                    refine sw_iushr (n := 77) F (jI (i / 2)) (by have h7s := jI_ushrPQ (z := i) (c := 1) (P := 2) (k := 1) (by omega) (by decide) (by decide); exact h7s) dJ22_numberOfLeadingZeros_76 rfl ?_
                    refine sw_isub (n := 78) F dJ22_numberOfLeadingZeros_77 rfl ?_
                    exact sw_iret F _ rfl (by first | rfl | exact jI_nz (by omega) | exact jI_nc (by omega)) dJ22_numberOfLeadingZeros_78 (by rw [hPo]; exact ⟨(by first | (congr 3; omega) | (congr 2; omega) | rfl), rfl⟩)
                  exact K73 (i / 4) (n + (-2)) (by first | omega | assumption) (by first | omega | assumption) (by first | omega | assumption)
              exact K61 (i / 16) (n + (-4)) (by first | omega | assumption) (by first | omega | assumption) (by first | omega | assumption)
          exact K48 (i / 256) (n + (-8)) (by first | omega | assumption) (by first | omega | assumption) (by first | omega | assumption)
      exact K33 (z / 65536) (31 + (-16)) (by first | omega | assumption) (by first | omega | assumption) (by first | omega | assumption)
  ·
    refine sw_iload_n (n := 5) F 0 rfl rfl dJ22_numberOfLeadingZeros_4 rfl ?_
    refine sw_if_ne (n := 8) F (by omega) (tgt := 13) dJ22_numberOfLeadingZeros_5 (by decide) rfl (fun c_5 => ?_) (fun c_5 => ?_)
    ·
      refine sw_iconst (n := 14) F (0) (by decide) dJ22_numberOfLeadingZeros_13 rfl ?_
      exact sw_iret F _ rfl (by first | rfl | exact jI_nz (by omega) | exact jI_nc (by omega)) dJ22_numberOfLeadingZeros_14 (by rw [hPo]; exact ⟨(by first | rw [nlz_n (by omega)] | rw [show z = 0 by omega, nlz_0]), rfl⟩)
    ·
      refine sw_bipush (n := 10) F (32) (by decide) dJ22_numberOfLeadingZeros_8 rfl ?_
      refine sw_goto F (n := 14) dJ22_numberOfLeadingZeros_10 (by decide) ?_
      exact sw_iret F _ rfl (by first | rfl | exact jI_nz (by omega) | exact jI_nc (by omega)) dJ22_numberOfLeadingZeros_14 (by rw [hPo]; exact ⟨(by first | rw [nlz_n (by omega)] | rw [show z = 0 by omega, nlz_0]), rfl⟩)
theorem wI_p (z : Int) : ((z + 2147483648) % 4294967296 - 2147483648) % 4294967296 = z % 4294967296 := by omega
/-- a word, read with its sign -/
def wI (z : Int) : Int := (z + 2147483648) % 4294967296 - 2147483648
theorem wI_s (z : Int) : -2147483648 ≤ wI z ∧ wI z ≤ 2147483647 ∧ wI z % 4294967296 = z % 4294967296 := by unfold wI; omega
theorem jI_w (z : Int) : jI z = jI (wI z) := jI_mod (wI_s z).2.2.symm
theorem nlz_w (z : Int) : nlz (wI z) = nlz z := by unfold nlz; rw [(wI_s z).2.2]
theorem nlz_lo {v : Int} (h : 0 ≤ v ∧ v < 4294967296) : 32 + nlz (wI v) = 64 - (blen v.toNat : Int) := by rw [nlz_w, nlz_p h]; omega
theorem nlz_hi {v : Int} (h : 4294967296 ≤ v ∧ v ≤ 9223372036854775807) : nlz (v / 4294967296) = 64 - (blen v.toNat : Int) := by
  rw [nlz_p (by omega)]
  have := blen_d (z := v) 32 (by rw [show (2 ^ 32 : Nat) = 4294967296 from by decide]; omega)
  rw [show ((2 ^ 32 : Nat) : Int) = 4294967296 from by decide] at this
  omega
theorem dgc_of {d : Nat} : ∀ {n : Nat}, (10 ^ d ≤ n ∨ d = 0) → n < 10 ^ (d + 1) → dgc n = d + 1 := by
  induction d with
  | zero => intro n _ h; rw [dgc, if_pos (by simpa using h)]
  | succ d ih =>
    intro n h h2
    have h1 : 10 ^ (d + 1) ≤ n := h.resolve_right (by omega)
    have e1 : 10 ^ (d + 1) = 10 ^ d * 10 := Nat.pow_succ ..
    have e2 : 10 ^ (d + 1 + 1) = 10 ^ (d + 1) * 10 := Nat.pow_succ ..
    have hp : 0 < 10 ^ d := Nat.pow_pos (by decide)
    have h3 : 10 ^ d ≤ n / 10 := by omega
    rw [dgc, if_neg (by omega), ih (Or.inl h3) (by omega)]
theorem dl_tab : ∀ b, b < 64 → 4 ≤ b → (1 ≤ (b + 1) * 1233 / 4096 ∧ (b + 1) * 1233 / 4096 ≤ 19 ∧ 10 ^ ((b + 1) * 1233 / 4096 - 1) ≤ 2 ^ (b - 1) ∧ 2 ^ b ≤ 10 ^ ((b + 1) * 1233 / 4096 + 1)) ∧ ((b + 1) * 1233 / 4096 = 19 → 2 ^ b ≤ 10 ^ ((b + 1) * 1233 / 4096)) := by decide +kernel
theorem dl_ex {m : Int} {b : Nat} (hb : b = blen m.toNat) (h : 10 ≤ m ∧ m ≤ 9223372036854775807) : ∃ r : Nat, (64 - (64 - (b : Int)) + 1) * 1233 / 4096 = (r : Int) ∧ 1 ≤ r ∧ r ≤ 19 ∧ (m < ((10 ^ r : Nat) : Int) → (dgc m.natAbs : Int) = r) ∧ (((10 ^ r : Nat) : Int) ≤ m → (dgc m.natAbs : Int) = r + 1) ∧ (r = 19 → m < ((10 ^ r : Nat) : Int)) := by
  subst hb
  have hm : m.natAbs = m.toNat := by omega
  have h1 := blen_lt m.toNat
  have h2 := blen_le (n := m.toNat) (by omega)
  have h3 : blen m.toNat ≤ 63 := blen_lm (by rw [show (2 : Nat) ^ 63 = 9223372036854775808 from by decide]; omega)
  have h4 : 4 ≤ blen m.toNat := by
    rcases Nat.lt_or_ge (blen m.toNat) 4 with c | c
    · have : 2 ^ blen m.toNat ≤ 2 ^ 3 := Nat.pow_le_pow_right (by decide) (by omega)
      omega
    · exact c
  obtain ⟨⟨k1, k2, k3, k4⟩, k5⟩ := dl_tab (blen m.toNat) (by omega) h4
  generalize blen m.toNat = b at *
  refine ⟨(b + 1) * 1233 / 4096, by omega, k1, k2, fun q => ?_, fun q => ?_, fun q => ?_⟩
  · have hd := dgc_of (d := (b + 1) * 1233 / 4096 - 1) (n := m.natAbs) (Or.inl (by rw [hm]; omega)) (by rw [Nat.sub_add_cancel k1]; omega)
    omega
  · have hd := dgc_of (d := (b + 1) * 1233 / 4096) (n := m.natAbs) (Or.inl (by omega)) (by rw [hm]; omega)
    omega
  · have := k5 q; omega
theorem dgc_lt (n : Nat) : n < 10 ^ dgc n := by
  induction n using Nat.strongRecOn with
  | _ n ih =>
    unfold dgc
    split
    · rw [Nat.pow_one]; omega
    · have := ih (n / 10) (by omega)
      rw [Nat.pow_succ]; omega
theorem dgc_ge (n : Nat) (h : n ≠ 0) : 10 ^ (dgc n - 1) ≤ n := by
  induction n using Nat.strongRecOn with
  | _ n ih =>
    unfold dgc
    split
    · simp; omega
    · have h1 := ih (n / 10) (by omega) (by omega)
      have h2 := dgc_pos (n / 10)
      rw [show dgc (n / 10) + 1 - 1 = dgc (n / 10) - 1 + 1 by omega, Nat.pow_succ]; omega
theorem dgc_63 {u : Int} (h : -9223372036854775808 < u ∧ u ≤ 9223372036854775807) : dgc u.natAbs ≤ 19 := by
  by_cases c : u = 0
  · subst c; rw [dgc_z]; decide
  · have h1 := dgc_ge u.natAbs (by omega)
    rcases Nat.lt_or_ge 19 (dgc u.natAbs) with k | k
    · have h2 : 10 ^ 19 ≤ 10 ^ (dgc u.natAbs - 1) := Nat.pow_le_pow_right (by decide) (by omega)
      have e : (10 : Nat) ^ 19 = 10000000000000000000 := by decide
      omega
    · exact k
theorem dgc_small {m : Int} (h : -10 < m ∧ m < 10) : (dgc m.natAbs : Int) = 1 := by rw [dgc, if_pos (by omega)]; rfl
theorem sg_or {v : Int} (h : -9223372036854775808 ≤ v ∧ v ≤ 9223372036854775807) : jL (v / 9223372036854775808) ||| jL (-v % 18446744073709551616 / 9223372036854775808) = jL (sgI v) := by
  rcases sgI_cases v with ⟨c, e⟩ | ⟨c, e⟩ | ⟨c, e⟩ <;> rw [e]
  · rw [show v / 9223372036854775808 = -1 by omega]
    have : -v % 18446744073709551616 / 9223372036854775808 = 0 ∨ -v % 18446744073709551616 / 9223372036854775808 = 1 := by omega
    rcases this with e | e <;> rw [e] <;> decide
  · subst c; decide
  · rw [show v / 9223372036854775808 = 0 by omega, show -v % 18446744073709551616 / 9223372036854775808 = 1 by omega]; decide
theorem cpt_cases (u : Int) : (fit u ∧ cpt u = u ∧ -9223372036854775807 ≤ u ∧ u ≤ 9223372036854775807) ∨ (¬ fit u ∧ cpt u = -9223372036854775808) := by
  by_cases h : fit u
  · left; refine ⟨h, cpt_1 h, ?_⟩; unfold fit at h; omega
  · exact Or.inr ⟨h, cpt_0 h⟩
theorem cpt_rng (u : Int) : -9223372036854775808 ≤ cpt u ∧ cpt u ≤ 9223372036854775807 := by rcases cpt_cases u with h | h <;> omega
theorem cpt_n {u : Int} (h : cpt u ≠ -9223372036854775808) : fit u := by rcases cpt_cases u with c | c; exact c.1; omega
theorem cpt_y {u : Int} (h : cpt u = -9223372036854775808) : ¬ fit u := by rcases cpt_cases u with c | c; omega; exact c.1
theorem cpt_neg {u : Int} (h : fit u) : fit (-u) := by unfold fit at *; omega
theorem sgI_neg (v : Int) : sgI (-v) = -sgI v := by unfold sgI; (repeat' split) <;> omega
theorem nd_J21_numberOfLeadingZeros : yJ21_numberOfLeadingZeros.cls ≠ "java/lang/invoke/MethodHandle" ∧ yJ21_numberOfLeadingZeros.cls ≠ "java/lang/invoke/VarHandle" ∧ (parseMethodDescriptor yJ21_numberOfLeadingZeros.desc).map (fun d => d.parameters.length) = some 1 := by decide +kernel
set_option maxRecDepth 100000 in
set_option maxHeartbeats 16000000 in
theorem ct_J21_numberOfLeadingZeros {g : GG} {l : Launch} (v : Int) (hv : 0 ≤ v ∧ v ≤ 9223372036854775807) : Ct g l yJ21_numberOfLeadingZeros (ws_ yJ21_numberOfLeadingZeros cJ21_numberOfLeadingZeros 3 (Option.some Jvm.ClassFile.FieldType.int)) 2 33 0 0 [.long (jL v)] [] (fun v9 Ws9 => v9 = some (.int (jI (64 - ↑(blen v.toNat)))) ∧ Ws9 = []) (nox) := by
  refine Ct.of (cc := cJ21_numberOfLeadingZeros) (nL := 3) (ret := (Option.some Jvm.ClassFile.FieldType.int)) (by decide) rfl (Nat.le_of_ble_eq_true rfl) ?_
  intro x hg hl hPo hPx hmc hms F
  subst hg; subst hl
  refine SW.cast (L' := [(0, .long (jL v))]) ?_ rfl rfl rfl
  refine sw_lload_n (n := 1) F 0 rfl rfl dJ21_numberOfLeadingZeros_0 rfl ?_
  refine sw_bipush (n := 3) F (32) (by decide) dJ21_numberOfLeadingZeros_1 rfl ?_
  refine sw_lushr (n := 4) F (jL (v / 4294967296)) (by have h7s := jL_ushrPQ (z := v) (c := 32) (P := 4294967296) (k := 32) (by omega) (by decide) (by decide) (by decide); exact h7s) dJ21_numberOfLeadingZeros_3 rfl ?_
  refine sw_l2i (n := 5) F dJ21_numberOfLeadingZeros_4 rfl ?_
  refine sw_istore_n (n := 6) F (L2 := [(2, .int (jI (v / 4294967296))), (0, .long (jL v))]) rfl (by decide) rfl dJ21_numberOfLeadingZeros_5 rfl ?_
  refine sw_iload_n (n := 7) F 0 rfl rfl dJ21_numberOfLeadingZeros_6 rfl ?_
  refine sw_if_ne (n := 10) F (by omega) (tgt := 21) dJ21_numberOfLeadingZeros_7 (by decide) rfl (fun c_7 => ?_) (fun c_7 => ?_)
  ·
    refine sw_iload_n (n := 22) F 0 rfl rfl dJ21_numberOfLeadingZeros_21 rfl ?_
    refine sw_callS (n := 25) F (ct_J22_numberOfLeadingZeros (g := xg x) (l := xl x) (v / 4294967296) (by first | omega | assumption)) q1533 q1225 q130 q1226 nd_J22_numberOfLeadingZeros rfl (by decide) [] rfl [] rfl 0 0 ⟨by omega, by omega⟩ [] rfl (Nat.le_of_ble_eq_true rfl) dJ21_numberOfLeadingZeros_22 rfl (fun _ _ h => h.elim) (fun v Ws h => ?_)
    obtain ⟨rfl, rfl⟩ := h
    show SW x [] _ _ _ _ [.int (jI (nlz (v / 4294967296)))]
    exact sw_iret F _ rfl (by first | rfl | exact jI_nz (by omega) | exact jI_nc (by omega)) dJ21_numberOfLeadingZeros_25 (by rw [hPo]; exact ⟨(by first | rw [nlz_lo (by omega)] | rw [nlz_hi (by omega)]), rfl⟩)
  ·
    refine sw_bipush (n := 12) F (32) (by decide) dJ21_numberOfLeadingZeros_10 rfl ?_
    refine sw_lload_n (n := 13) F 1 rfl rfl dJ21_numberOfLeadingZeros_12 rfl ?_
    refine sw_l2i (n := 14) F dJ21_numberOfLeadingZeros_13 rfl ?_
    rw [jI_w (v)]
    have hw_9 := wI_s (v)
    refine sw_callS (n := 17) F (ct_J22_numberOfLeadingZeros (g := xg x) (l := xl x) (wI v) (by first | omega | assumption)) q1533 q1225 q130 q1226 nd_J22_numberOfLeadingZeros rfl (by decide) [] rfl [] rfl 0 0 ⟨by omega, by omega⟩ [.int (jI 32)] rfl (Nat.le_of_ble_eq_true rfl) dJ21_numberOfLeadingZeros_14 rfl (fun _ _ h => h.elim) (fun v Ws h => ?_)
    obtain ⟨rfl, rfl⟩ := h
    show SW x [] _ _ _ _ [.int (jI (nlz (wI v))), .int (jI 32)]
    refine sw_iadd (n := 18) F dJ21_numberOfLeadingZeros_17 rfl ?_
    refine sw_goto F (n := 25) dJ21_numberOfLeadingZeros_18 (by decide) ?_
    exact sw_iret F _ rfl (by first | rfl | exact jI_nz (by omega) | exact jI_nc (by omega)) dJ21_numberOfLeadingZeros_25 (by rw [hPo]; exact ⟨(by first | rw [nlz_lo (by omega)] | rw [nlz_hi (by omega)]), rfl⟩)
theorem nd_J8_longDigitLength : yJ8_longDigitLength.cls ≠ "java/lang/invoke/MethodHandle" ∧ yJ8_longDigitLength.cls ≠ "java/lang/invoke/VarHandle" ∧ (parseMethodDescriptor yJ8_longDigitLength.desc).map (fun d => d.parameters.length) = some 1 := by decide +kernel
set_option maxRecDepth 100000 in
set_option maxHeartbeats 16000000 in
theorem ct_J8_longDigitLength {g : GG} {l : Launch} (v : Int) (hv : -9223372036854775807 ≤ v ∧ v ≤ 9223372036854775807) : Ct g l yJ8_longDigitLength (ws_ yJ8_longDigitLength cJ8_longDigitLength 4 (Option.some Jvm.ClassFile.FieldType.int)) 3 55 0 0 [.long (jL v)] [] (fun v9 Ws9 => v9 = some (.int (jI (↑(dgc v.natAbs)))) ∧ Ws9 = []) (nox) := by
  refine Ct.of (cc := cJ8_longDigitLength) (nL := 4) (ret := (Option.some Jvm.ClassFile.FieldType.int)) (by decide) rfl (Nat.le_of_ble_eq_true rfl) ?_
  intro x hg hl hPo hPx hmc hms F
  subst hg; subst hl
  refine SW.cast (L' := [(0, .long (jL v))]) ?_ rfl rfl rfl
  refine sw_gets (n := 3) F (kaBD F.gx.1).1 q1527 (Or.inl rfl) dJ8_longDigitLength_0 rfl ?_
  refine sw_if_ne (n := 6) F (by decide) (tgt := 22) dJ8_longDigitLength_3 (by decide) rfl (fun c_3 => ?_) (fun c_3 => ?_)
  ·
    have K31 : ∀ (m : Int), (0 ≤ m ∧ m ≤ 9223372036854775807 ∧ m.natAbs = v.natAbs) → SW x [] 0 0 31 [(0, .long (jL m))] [] := by
      intro m hm
      refine sw_lload_n (n := 32) F 0 rfl rfl dJ8_longDigitLength_31 rfl ?_
      refine sw_ldc2 (n := 35) F (10) q1529 (by decide) dJ8_longDigitLength_32 rfl ?_
      refine sw_lcmp (n := 36) F (by omega) (by decide) dJ8_longDigitLength_35 rfl ?_
      refine sw_if_ge (n := 39) F (by omega) (tgt := 41) dJ8_longDigitLength_36 (by decide) rfl (fun c_36 => ?_) (fun c_36 => ?_)
      ·
        have c_36 : m ≥ 10 := by revert c_36; (repeat' split) <;> omega
        have hb9 := blen_lm (n := m.toNat) (k := 63) (by rw [show (2 : Nat) ^ 63 = 9223372036854775808 from by decide]; omega)
        refine sw_bipush (n := 43) F (64) (by decide) dJ8_longDigitLength_41 rfl ?_
        refine sw_lload_n (n := 44) F 0 rfl rfl dJ8_longDigitLength_43 rfl ?_
        refine sw_callS (n := 47) F (ct_J21_numberOfLeadingZeros (g := xg x) (l := xl x) m (by first | omega | assumption)) q1530 q1531 q129 q1532 nd_J21_numberOfLeadingZeros rfl (by decide) [] rfl [] rfl 0 0 ⟨by omega, by omega⟩ [.int (jI 64)] rfl (Nat.le_of_ble_eq_true rfl) dJ8_longDigitLength_44 rfl (fun _ _ h => h.elim) (fun v Ws h => ?_)
        obtain ⟨rfl, rfl⟩ := h
        show SW x [] _ _ _ _ [.int (jI (64 - ↑(blen m.toNat))), .int (jI 64)]
        obtain ⟨b9, hb9e⟩ : ∃ b : Nat, b = blen m.toNat := ⟨_, rfl⟩
        rw [← hb9e] at hb9
        refine sw_top (topI (show (64 - ↑(blen m.toNat) : Int) = 64 - ↑b9 by rw [hb9e])) ?_
        refine sw_isub (n := 48) F dJ8_longDigitLength_47 rfl ?_
        refine sw_iconst (n := 49) F (1) (by decide) dJ8_longDigitLength_48 rfl ?_
        refine sw_iadd (n := 50) F dJ8_longDigitLength_49 rfl ?_
        refine sw_sipush (n := 53) F (1233) (by decide) dJ8_longDigitLength_50 rfl ?_
        refine sw_imul (n := 54) F dJ8_longDigitLength_53 rfl ?_
        refine sw_bipush (n := 56) F (12) (by decide) dJ8_longDigitLength_54 rfl ?_
        refine sw_iushr (n := 57) F (jI ((((64 - (64 - ↑b9)) + 1) * 1233) / 4096)) (by have h7s := jI_ushrPQ (z := ((64 - (64 - ↑b9)) + 1) * 1233) (c := 12) (P := 4096) (k := 12) (by omega) (by decide) (by decide); exact h7s) dJ8_longDigitLength_56 rfl ?_
        obtain ⟨r9, hr9, h1_9, h2_9, h3_9, h4_9, h5_9⟩ := dl_ex hb9e (by omega)
        rw [hr9]
        refine sw_istore_n (n := 58) F (L2 := [(2, .int (jI (↑r9))), (0, .long (jL m))]) rfl (by decide) rfl dJ8_longDigitLength_57 rfl ?_
        refine sw_gets (n := 61) F (kLTP F.gx.1).1 q1299 (Or.inl rfl) dJ8_longDigitLength_58 rfl ?_
        refine sw_astore_n (n := 62) F (some (tR (xg x) sLTP)) (L2 := [(3, .ref (tR (xg x) sLTP)), (2, .int (jI (↑r9))), (0, .long (jL m))]) rfl rfl (by decide) rfl dJ8_longDigitLength_61 rfl ?_
        refine sw_iload_n (n := 63) F 1 rfl rfl dJ8_longDigitLength_62 rfl ?_
        refine sw_aload_n (n := 64) F 0 (some (tR (xg x) sLTP)) rfl rfl rfl dJ8_longDigitLength_63 rfl ?_
        refine sw_alenK (n := 65) F ((kLTP F.gx.1).2.A F) dJ8_longDigitLength_64 rfl ?_
        show SW x _ _ _ _ _ [.int (jI 19), .int (jI (↑r9))]
        refine sw_icmp_ge (n := 68) F (by omega) (by decide) (tgt := 76) dJ8_longDigitLength_65 (by decide) rfl (fun c_65 => ?_) (fun c_65 => ?_)
        ·
          refine sw_iload_n (n := 77) F 1 rfl rfl dJ8_longDigitLength_76 rfl ?_
          refine sw_goto F (n := 83) dJ8_longDigitLength_77 (by decide) ?_
          exact sw_iret F _ rfl (by first | rfl | exact jI_nz (by omega) | exact jI_nc (by omega)) dJ8_longDigitLength_83 (by rw [hPo]; exact ⟨(by first | (rw [← hm.2.2, h3_9 (by omega)]) | (rw [← hm.2.2, h4_9 (by omega)]) | (rw [← hm.2.2, h3_9 (h5_9 (by omega))])), rfl⟩)
        ·
          have hp9 : 0 < 10 ^ r9 := Nat.pow_pos (by decide)
          have ht9 : 10 ^ r9 ≤ 10 ^ 18 := Nat.pow_le_pow_right (by decide) (by omega)
          refine sw_lload_n (n := 69) F 2 rfl rfl dJ8_longDigitLength_68 rfl ?_
          refine sw_aload_n (n := 70) F 0 (some (tR (xg x) sLTP)) rfl rfl rfl dJ8_longDigitLength_69 rfl ?_
          refine sw_iload_n (n := 71) F 1 rfl rfl dJ8_longDigitLength_70 rfl ?_
          refine sw_laloadK (n := 72) F ((kLTP F.gx.1).2.A F) r9 rfl (by omega) dJ8_longDigitLength_71 rfl ?_
          show SW x _ _ _ _ _ [.long (jL ((10 ^ r9 : Nat) : Int)), .long (jL m)]
          refine sw_lcmp (n := 73) F (by omega) (by omega) dJ8_longDigitLength_72 rfl ?_
          refine sw_if_ge (n := 76) F (by omega) (tgt := 80) dJ8_longDigitLength_73 (by decide) rfl (fun c_73 => ?_) (fun c_73 => ?_)
          ·
            have c_73 : m ≥ ((10 ^ r9 : Nat) : Int) := by revert c_73; (repeat' split) <;> omega
            refine sw_iload_n (n := 81) F 1 rfl rfl dJ8_longDigitLength_80 rfl ?_
            refine sw_iconst (n := 82) F (1) (by decide) dJ8_longDigitLength_81 rfl ?_
            refine sw_iadd (n := 83) F dJ8_longDigitLength_82 rfl ?_
            exact sw_iret F _ rfl (by first | rfl | exact jI_nz (by omega) | exact jI_nc (by omega)) dJ8_longDigitLength_83 (by rw [hPo]; exact ⟨(by first | (rw [← hm.2.2, h3_9 (by omega)]) | (rw [← hm.2.2, h4_9 (by omega)]) | (rw [← hm.2.2, h3_9 (h5_9 (by omega))])), rfl⟩)
          ·
            have c_73 : m < ((10 ^ r9 : Nat) : Int) := by revert c_73; (repeat' split) <;> omega
            refine sw_iload_n (n := 77) F 1 rfl rfl dJ8_longDigitLength_76 rfl ?_
            refine sw_goto F (n := 83) dJ8_longDigitLength_77 (by decide) ?_
            exact sw_iret F _ rfl (by first | rfl | exact jI_nz (by omega) | exact jI_nc (by omega)) dJ8_longDigitLength_83 (by rw [hPo]; exact ⟨(by first | (rw [← hm.2.2, h3_9 (by omega)]) | (rw [← hm.2.2, h4_9 (by omega)]) | (rw [← hm.2.2, h3_9 (h5_9 (by omega))])), rfl⟩)
      ·
        have c_36 : m < 10 := by revert c_36; (repeat' split) <;> omega
        refine sw_iconst (n := 40) F (1) (by decide) dJ8_longDigitLength_39 rfl ?_
        exact sw_iret F _ rfl (by first | rfl | exact jI_nz (by omega) | exact jI_nc (by omega)) dJ8_longDigitLength_40 (by rw [hPo]; exact ⟨(by rw [← hm.2.2, dgc_small (by omega)]), rfl⟩)
    refine sw_lload_n (n := 23) F 0 rfl rfl dJ8_longDigitLength_22 rfl ?_
    refine sw_lconst (n := 24) F 0 (by decide) dJ8_longDigitLength_23 rfl ?_
    refine sw_lcmp (n := 25) F (by omega) (by decide) dJ8_longDigitLength_24 rfl ?_
    refine sw_if_ge (n := 28) F (by omega) (tgt := 31) dJ8_longDigitLength_25 (by decide) rfl (fun c_25 => ?_) (fun c_25 => ?_)
    ·
      have c_25 : v ≥ 0 := by revert c_25; (repeat' split) <;> omega
      exact K31 v (by first | omega | assumption)
    ·
      have c_25 : v < 0 := by revert c_25; (repeat' split) <;> omega
      refine sw_lload_n (n := 29) F 0 rfl rfl dJ8_longDigitLength_28 rfl ?_
      refine sw_lneg (n := 30) F dJ8_longDigitLength_29 rfl ?_
      refine sw_lstore_n (n := 31) F (L2 := [(0, .long (jL (-v)))]) rfl (by decide) rfl dJ8_longDigitLength_30 rfl ?_
      exact K31 (-v) (by first | omega | assumption)
  · exfalso; exact absurd c_3 (by decide)
theorem nd_J8_precision : yJ8_precision.cls ≠ "java/lang/invoke/MethodHandle" ∧ yJ8_precision.cls ≠ "java/lang/invoke/VarHandle" ∧ (parseMethodDescriptor yJ8_precision.desc).map (fun d => d.parameters.length) = some 0 := by decide +kernel
set_option maxRecDepth 100000 in
set_option maxHeartbeats 16000000 in
theorem ct_J8_precision {g : GG} {l : Launch} (M : Nat → Option PV) (q : Nat) (u : Int) (s : Int) (o : Option Nat) (hx : at_ g M q (vD u s o)) (hf : fit u) : Ct g l yJ8_precision (ws_ yJ8_precision cJ8_precision 4 (Option.some Jvm.ClassFile.FieldType.int)) 4 78 0 0 [.ref q] [pl g M] (fun v9 Ws9 => v9 = some (.int (jI (↑(dgc u.natAbs)))) ∧ Ws9 = [pl g M]) (nox) := by
  refine Ct.of (cc := cJ8_precision) (nL := 4) (ret := (Option.some Jvm.ClassFile.FieldType.int)) (by decide) rfl (Nat.le_of_ble_eq_true rfl) ?_
  intro x hg hl hPo hPx hmc hms F
  subst hg; subst hl
  refine SW.cast (L' := [(0, .ref q)]) ?_ rfl rfl rfl
  refine sw_factD 0 rfl hx (fun hfo hfb => ?_)
  have hr9 := hf
  unfold fit at hr9
  have hd9 := dgc_pos u.natAbs
  have hd8 := dgc_63 hr9
  refine sw_aload_n (n := 1) F 0 (some q) rfl rfl rfl dJ8_precision_0 rfl ?_
  refine sw_getDp (n := 4) F 0 rfl hx ⟨(RJ8, TJ8, 5), rfl, by decide, q262, in_J8, Or.inl rfl⟩ dJ8_precision_1 rfl (fun p_1 hp_2 => ?_)
  refine sw_istore_n (n := 5) F (L2 := [(1, .int (jI p_1)), (0, .ref q)]) rfl (by decide) rfl dJ8_precision_4 rfl ?_
  refine sw_iload_n (n := 6) F 0 rfl rfl dJ8_precision_5 rfl ?_
  refine sw_if_ne (n := 9) F (by omega) (tgt := 43) dJ8_precision_6 (by decide) rfl (fun c_6 => ?_) (fun c_6 => ?_)
  ·
    refine sw_iload_n (n := 44) F 0 rfl rfl dJ8_precision_43 rfl ?_
    exact sw_iret F _ rfl (by first | rfl | exact jI_nz (by omega) | exact jI_nc (by omega)) dJ8_precision_44 (by rw [hPo]; exact ⟨(by first | (congr 3; omega) | (congr 2; omega) | rfl), rfl⟩)
  ·
    refine sw_aload_n (n := 10) F 1 (some q) rfl rfl rfl dJ8_precision_9 rfl ?_
    refine sw_getD (n := 13) F 0 rfl hx (k := 4) ⟨(RJ8, TJ8, 5), rfl, by decide, q264, in_J8, Or.inl rfl⟩ (.long (jL (cpt u))) (fun _ => rfl) dJ8_precision_10 rfl ?_
    refine sw_lstore_n (n := 14) F (L2 := [(2, .long (jL (cpt u))), (1, .int (jI p_1)), (0, .ref q)]) rfl (by decide) rfl dJ8_precision_13 rfl ?_
    rw [cpt_1 hf]
    refine sw_lload_n (n := 15) F 0 rfl rfl dJ8_precision_14 rfl ?_
    refine sw_ldc2 (n := 18) F (-9223372036854775808) q250 (by decide) dJ8_precision_15 rfl ?_
    refine sw_lcmp (n := 19) F (by omega) (by decide) dJ8_precision_18 rfl ?_
    refine sw_if_eq (n := 22) F (by omega) (tgt := 30) dJ8_precision_19 (by decide) rfl (fun c_19 => ?_) (fun c_19 => ?_)
    · exfalso; omega
    ·
      have c_19 : u ≠ -9223372036854775808 := by revert c_19; (repeat' split) <;> omega
      refine sw_lload_n (n := 23) F 0 rfl rfl dJ8_precision_22 rfl ?_
      refine sw_callS (n := 26) F (ct_J8_longDigitLength (g := xg x) (l := xl x) u (by first | omega | assumption)) q1524 q1525 q112 q1526 nd_J8_longDigitLength rfl (by decide) [0] rfl [pl (xg x) M] rfl 0 0 ⟨by omega, by omega⟩ [] rfl (Nat.le_of_ble_eq_true rfl) dJ8_precision_23 rfl (fun _ _ h => h.elim) (fun v Ws h => ?_)
      obtain ⟨rfl, rfl⟩ := h
      show SW x [pl (xg x) M] _ _ _ _ [.int (jI (↑(dgc u.natAbs)))]
      refine sw_istore_n (n := 27) F (L2 := [(1, .int (jI (↑(dgc u.natAbs)))), (2, .long (jL u)), (0, .ref q)]) rfl (by decide) rfl dJ8_precision_26 rfl ?_
      refine sw_goto F (n := 38) dJ8_precision_27 (by decide) ?_
      refine sw_takeD (by omega) hx (fun pp_3 => ?_)
      show SW x [ob (xg x) q 13 [va_rf o, .int (jI s), .int (jI pp_3), .null, .long (jL (cpt u))], plH (xg x) M q] _ _ _ _ []
      refine sw_aload_n (n := 39) F 2 (some q) rfl rfl rfl dJ8_precision_38 rfl ?_
      refine sw_iload_n (n := 40) F 0 rfl rfl dJ8_precision_39 rfl ?_
      refine sw_put (n := 43) F 0 rfl (k := 2) ⟨(RJ8, TJ8, 5), rfl, by decide, q262, in_J8, Or.inl rfl⟩ .int ⟨(RJ8, TJ8, 5), rfl, rfl, tyJ8_ok 2 (by decide), nmJ8, tyJ8, tyJ8_ok⟩ rfl rfl (Nat.le_of_ble_eq_true rfl) rfl [ob (xg x) q 13 [va_rf o, .int (jI s), .int (jI (↑(dgc u.natAbs))), .null, .long (jL (cpt u))], plH (xg x) M q] rfl dJ8_precision_40 rfl ?_
      refine SW.cast (Ps' := ob (xg x) q 13 (flD u s o (↑(dgc u.natAbs))) :: [plH (xg x) M q]) ?_ (by rfl) rfl rfl
      refine sw_backD (by omega) hx (Or.inl rfl) hfo hfb ?_
      show SW x [pl (xg x) M] _ _ _ _ []
      refine sw_iload_n (n := 44) F 0 rfl rfl dJ8_precision_43 rfl ?_
      exact sw_iret F _ rfl (by first | rfl | exact jI_nz (by omega) | exact jI_nc (by omega)) dJ8_precision_44 (by rw [hPo]; exact ⟨rfl, rfl⟩)
theorem nd_J21_signum : yJ21_signum.cls ≠ "java/lang/invoke/MethodHandle" ∧ yJ21_signum.cls ≠ "java/lang/invoke/VarHandle" ∧ (parseMethodDescriptor yJ21_signum.desc).map (fun d => d.parameters.length) = some 1 := by decide +kernel
set_option maxRecDepth 100000 in
set_option maxHeartbeats 16000000 in
theorem ct_J21_signum {g : GG} {l : Launch} (v : Int) (hv : -9223372036854775808 ≤ v ∧ v ≤ 9223372036854775807) : Ct g l yJ21_signum (ws_ yJ21_signum cJ21_signum 2 (Option.some Jvm.ClassFile.FieldType.int)) 1 12 0 0 [.long (jL v)] [] (fun v9 Ws9 => v9 = some (.int (jI (sgI v))) ∧ Ws9 = []) (nox) := by
  refine Ct.of (cc := cJ21_signum) (nL := 2) (ret := (Option.some Jvm.ClassFile.FieldType.int)) (by decide) rfl (Nat.le_of_ble_eq_true rfl) ?_
  intro x hg hl hPo hPx hmc hms F
  subst hg; subst hl
  refine SW.cast (L' := [(0, .long (jL v))]) ?_ rfl rfl rfl
  refine sw_lload_n (n := 1) F 0 rfl rfl dJ21_signum_0 rfl ?_
  refine sw_bipush (n := 3) F (63) (by decide) dJ21_signum_1 rfl ?_
  refine sw_lshr (n := 4) F (jL (v / 9223372036854775808)) (by have h7s := jL_shrQ (z := v) (c := 63) (P := 9223372036854775808) (k := 63) (by omega) (by decide) (by decide) (by decide); exact h7s) dJ21_signum_3 rfl ?_
  refine sw_lload_n (n := 5) F 0 rfl rfl dJ21_signum_4 rfl ?_
  refine sw_lneg (n := 6) F dJ21_signum_5 rfl ?_
  refine sw_bipush (n := 8) F (63) (by decide) dJ21_signum_6 rfl ?_
  refine sw_lushr (n := 9) F (jL ((-v) % 18446744073709551616 / 9223372036854775808)) (by have h7s := jL_ushrcQ (-v) (c := 63) (P := 9223372036854775808) (k := 63) (by decide) (by decide) (by decide); exact h7s) dJ21_signum_8 rfl ?_
  refine sw_lor (n := 10) F (jL (sgI v)) (sg_or hv) dJ21_signum_9 rfl ?_
  refine sw_l2i (n := 11) F dJ21_signum_10 rfl ?_
  exact sw_iret F _ rfl (by first | rfl | exact jI_nz (by omega) | exact jI_nc (by omega)) dJ21_signum_11 (by rw [hPo]; exact ⟨rfl, rfl⟩)
theorem nd_J8_signum : yJ8_signum.cls ≠ "java/lang/invoke/MethodHandle" ∧ yJ8_signum.cls ≠ "java/lang/invoke/VarHandle" ∧ (parseMethodDescriptor yJ8_signum.desc).map (fun d => d.parameters.length) = some 0 := by decide +kernel
set_option maxRecDepth 100000 in
set_option maxHeartbeats 16000000 in
theorem ct_J8_signum {g : GG} {l : Launch} (M : Nat → Option PV) (q : Nat) (u : Int) (s : Int) (o : Option Nat) (hx : at_ g M q (vD u s o)) : Ct g l yJ8_signum (ws_ yJ8_signum cJ8_signum 1 (Option.some Jvm.ClassFile.FieldType.int)) 2 33 0 0 [.ref q] [pl g M] (fun v9 Ws9 => v9 = some (.int (jI (sgI u))) ∧ Ws9 = [pl g M]) (nox) := by
  refine Ct.of (cc := cJ8_signum) (nL := 1) (ret := (Option.some Jvm.ClassFile.FieldType.int)) (by decide) rfl (Nat.le_of_ble_eq_true rfl) ?_
  intro x hg hl hPo hPx hmc hms F
  subst hg; subst hl
  refine SW.cast (L' := [(0, .ref q)]) ?_ rfl rfl rfl
  refine sw_factD 0 rfl hx (fun hfo hfb => ?_)
  have hcr := cpt_rng u
  refine sw_aload_n (n := 1) F 0 (some q) rfl rfl rfl dJ8_signum_0 rfl ?_
  refine sw_getD (n := 4) F 0 rfl hx (k := 4) ⟨(RJ8, TJ8, 5), rfl, by decide, q264, in_J8, Or.inl rfl⟩ (.long (jL (cpt u))) (fun _ => rfl) dJ8_signum_1 rfl ?_
  refine sw_ldc2 (n := 7) F (-9223372036854775808) q250 (by decide) dJ8_signum_4 rfl ?_
  refine sw_lcmp (n := 8) F (by omega) (by decide) dJ8_signum_7 rfl ?_
  refine sw_if_eq (n := 11) F (by omega) (tgt := 21) dJ8_signum_8 (by decide) rfl (fun c_8 => ?_) (fun c_8 => ?_)
  ·
    have c_8 : cpt u = -9223372036854775808 := by revert c_8; (repeat' split) <;> omega
    obtain ⟨b9, hb9⟩ : ∃ b, o = some b := by cases o with | none => exact absurd (hfo rfl) (cpt_y c_8) | some b => exact ⟨b, rfl⟩
    obtain ⟨a9, ha9⟩ := hfb b9 hb9
    subst hb9
    refine sw_aload_n (n := 22) F 0 (some q) rfl rfl rfl dJ8_signum_21 rfl ?_
    refine sw_getD (n := 25) F 0 rfl hx (k := 0) ⟨(RJ8, TJ8, 5), rfl, by decide, q260, in_J8, Or.inl rfl⟩ (.ref b9) (fun _ => rfl) dJ8_signum_22 rfl ?_
    refine sw_callV (n := 28) F (ct_J19_signum (g := xg x) (l := xl x) M b9 u a9 ha9) (rcvI F 0 rfl ha9) q1496 q1497 q1498 q127 q1499 nd_J19_signum rfl (by decide) [0] rfl [] rfl 0 0 ⟨by omega, by omega⟩ [] rfl (Nat.le_of_ble_eq_true rfl) dJ8_signum_25 rfl (fun _ _ h => h.elim) (fun v Ws h => ?_)
    obtain ⟨rfl, rfl⟩ := h
    show SW x [pl (xg x) M] _ _ _ _ [.int (jI (sgI u))]
    exact sw_iret F _ rfl (by first | rfl | exact jI_nz (by omega) | exact jI_nc (by omega)) dJ8_signum_28 (by rw [hPo]; exact ⟨rfl, rfl⟩)
  ·
    have c_8 : cpt u ≠ -9223372036854775808 := by revert c_8; (repeat' split) <;> omega
    have hfit : fit u := cpt_n c_8; have hr9 := hfit; unfold fit at hr9
    refine sw_aload_n (n := 12) F 0 (some q) rfl rfl rfl dJ8_signum_11 rfl ?_
    refine sw_getD (n := 15) F 0 rfl hx (k := 4) ⟨(RJ8, TJ8, 5), rfl, by decide, q264, in_J8, Or.inl rfl⟩ (.long (jL (cpt u))) (fun _ => rfl) dJ8_signum_12 rfl ?_
    rw [cpt_1 hfit]
    refine sw_callS (n := 18) F (ct_J21_signum (g := xg x) (l := xl x) u (by first | omega | assumption)) q1491 q1098 q129 q1099 nd_J21_signum rfl (by decide) [0] rfl [pl (xg x) M] rfl 0 0 ⟨by omega, by omega⟩ [] rfl (Nat.le_of_ble_eq_true rfl) dJ8_signum_15 rfl (fun _ _ h => h.elim) (fun v Ws h => ?_)
    obtain ⟨rfl, rfl⟩ := h
    show SW x [pl (xg x) M] _ _ _ _ [.int (jI (sgI u))]
    refine sw_goto F (n := 28) dJ8_signum_18 (by decide) ?_
    exact sw_iret F _ rfl (by first | rfl | exact jI_nz (by omega) | exact jI_nc (by omega)) dJ8_signum_28 (by rw [hPo]; exact ⟨rfl, rfl⟩)
theorem nd_J19_init_2 : yJ19_init_2.cls ≠ "java/lang/invoke/MethodHandle" ∧ yJ19_init_2.cls ≠ "java/lang/invoke/VarHandle" ∧ (parseMethodDescriptor yJ19_init_2.desc).map (fun d => d.parameters.length) = some 2 := by decide +kernel
set_option maxRecDepth 100000 in
set_option maxHeartbeats 16000000 in
theorem ct_J19_init_2 {g : GG} {l : Launch} (M : Nat → Option PV) (q : Nat) (a : Nat) (n : Nat) (f : Nat → Nat) (sg : Int) (hx : at_ g M a (vA n f)) (hn : 0 < n ∧ n ≤ 64) : Ct g l yJ19_init_2 (ws_ yJ19_init_2 cJ19_init_2 3 (Option.none : Option Jvm.ClassFile.FieldType)) 2 32 0 0 [.ref q, .ref a, .int (jI sg)] [ob g q 16 [.int (jI 0), .null, .int (jI 0), .int (jI 0), .int (jI 0), .int (jI 0)], pl g M] (fun v9 Ws9 => v9 = none ∧ Ws9 = [ob g q 16 [.int (jI sg), .ref a, .int (jI 0), .int (jI 0), .int (jI 0), .int (jI 0)], pl g M]) (nox) := by
  refine Ct.of (cc := cJ19_init_2) (nL := 3) (ret := (Option.none : Option Jvm.ClassFile.FieldType)) (by decide) rfl (Nat.le_of_ble_eq_true rfl) ?_
  intro x hg hl hPo hPx hmc hms F
  subst hg; subst hl
  refine SW.cast (L' := [(0, .ref q), (1, .ref a), (2, .int (jI sg))]) ?_ rfl rfl rfl
  refine sw_aload_n (n := 1) F 0 (some q) rfl rfl rfl dJ19_init_2_0 rfl ?_
  refine sw_callI (n := 4) F (ct_J7_init (g := xg x) (l := xl x) q ) q1069 q257 q111 q258 rfl nd_J7_init rfl (by decide) [0, 1] rfl [ob (xg x) q 16 [.int (jI 0), .null, .int (jI 0), .int (jI 0), .int (jI 0), .int (jI 0)], pl (xg x) M] rfl 0 0 ⟨by omega, by omega⟩ [] rfl (Nat.le_of_ble_eq_true rfl) dJ19_init_2_1 rfl (fun _ _ h => h.elim) (fun v Ws h => ?_)
  obtain ⟨rfl, rfl⟩ := h
  show SW x [ob (xg x) q 16 [.int (jI 0), .null, .int (jI 0), .int (jI 0), .int (jI 0), .int (jI 0)], pl (xg x) M] _ _ _ _ []
  refine sw_aload_n (n := 5) F 0 (some q) rfl rfl rfl dJ19_init_2_4 rfl ?_
  refine sw_aload_n (n := 6) F 1 (some a) rfl rfl rfl dJ19_init_2_5 rfl ?_
  refine sw_alenK (n := 7) F (plA F 1 rfl hx) dJ19_init_2_6 rfl ?_
  show SW x _ _ _ _ _ [.int (jI (↑n)), .ref q]
  refine sw_if_ne (n := 10) F (by omega) (tgt := 14) dJ19_init_2_7 (by decide) rfl (fun c_7 => ?_) (fun c_7 => ?_)
  ·
    refine sw_iload_n (n := 15) F 2 rfl rfl dJ19_init_2_14 rfl ?_
    refine sw_putF (n := 18) F rfl 0 rfl (k := 0) ⟨(RJ19, TJ19, 6), rfl, by decide, q1070, in_J19, Or.inl rfl⟩ .int ⟨(RJ19, TJ19, 6), rfl, rfl, rfl, tyJ19_ok 0 (by decide), nmJ19, tyJ19, tyJ19_ok⟩ rfl rfl (Nat.le_of_ble_eq_true rfl) rfl [ob (xg x) q 16 [.int (jI sg), .null, .int (jI 0), .int (jI 0), .int (jI 0), .int (jI 0)], pl (xg x) M] rfl dJ19_init_2_15 rfl ?_
    refine sw_aload_n (n := 19) F 0 (some q) rfl rfl rfl dJ19_init_2_18 rfl ?_
    refine sw_aload_n (n := 20) F 1 (some a) rfl rfl rfl dJ19_init_2_19 rfl ?_
    refine sw_putF (n := 23) F rfl 0 rfl (k := 1) ⟨(RJ19, TJ19, 6), rfl, by decide, q1072, in_J19, Or.inl rfl⟩ (tyJ19 1) ⟨(RJ19, TJ19, 6), rfl, rfl, rfl, tyJ19_ok 1 (by decide), nmJ19, tyJ19, tyJ19_ok⟩ rfl rfl (Nat.le_of_ble_eq_true rfl) rfl [ob (xg x) q 16 [.int (jI sg), .ref a, .int (jI 0), .int (jI 0), .int (jI 0), .int (jI 0)], pl (xg x) M] rfl dJ19_init_2_20 rfl ?_
    refine sw_aload_n (n := 24) F 0 (some q) rfl rfl rfl dJ19_init_2_23 rfl ?_
    refine sw_get (n := 27) F 0 rfl (k := 1) ⟨(RJ19, TJ19, 6), rfl, by decide, q1072, in_J19, Or.inl rfl⟩ rfl dJ19_init_2_24 rfl ?_
    refine sw_alenK (n := 28) F (plA F 1 rfl hx) dJ19_init_2_27 rfl ?_
    show SW x _ _ _ _ _ [.int (jI (↑n))]
    refine sw_ldc (n := 30) F (67108864) q1111 (by decide) dJ19_init_2_28 rfl ?_
    refine sw_icmp_lt (n := 33) F (by omega) (by decide) (tgt := 37) dJ19_init_2_30 (by decide) rfl (fun c_30 => ?_) (fun c_30 => ?_)
    ·
      exact sw_vret F rfl dJ19_init_2_37 (by rw [hPo]; exact ⟨rfl, rfl⟩)
    · exfalso; omega
  · exfalso; omega
