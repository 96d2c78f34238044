set_option maxRecDepth 100000
theorem dJ7_init_0 : decode cJ7_init 0 = .ok (.aload_n 0, 1) := by decide +kernel
theorem dJ7_init_1 : decode cJ7_init 1 = .ok (.invokespecial 1, 3) := by decide +kernel
theorem dJ7_init_4 : decode cJ7_init 4 = .ok (.return_, 1) := by decide +kernel
def dkwJ8_valueOf_2 : List UInt8 := [178, 0, 188, 30, 3, 3, 183, 0, 243, 176]
abbrev dktJ8_valueOf_2 : List UInt8 := dkwJ8_valueOf_2 ++ []
def dkwJ8_valueOf_1 : List UInt8 := [20, 0, 125, 148, 153, 0, 15, 187, 0, 3, 89, 1, 30, 3, 3, 183, 0, 243, 176, 187, 0, 3, 89]
abbrev dktJ8_valueOf_1 : List UInt8 := dkwJ8_valueOf_1 ++ dktJ8_valueOf_2
def dkwJ8_valueOf_0 : List UInt8 := [30, 9, 148, 155, 0, 20, 30, 178, 0, 246, 190, 133, 148, 156, 0, 10, 178, 0, 246, 30, 136, 50, 176, 30]
abbrev dktJ8_valueOf_0 : List UInt8 := dkwJ8_valueOf_0 ++ dktJ8_valueOf_1
theorem dksJ8_valueOf_0 : cJ8_valueOf.data.toList.drop 0 = dktJ8_valueOf_0 := by decide +kernel
theorem dksJ8_valueOf_1 : cJ8_valueOf.data.toList.drop 24 = dktJ8_valueOf_1 := dk_seg dksJ8_valueOf_0 24 rfl rfl
theorem dksJ8_valueOf_2 : cJ8_valueOf.data.toList.drop 47 = dktJ8_valueOf_2 := dk_seg dksJ8_valueOf_1 23 rfl rfl
theorem dJ8_valueOf_0 : decode cJ8_valueOf 0 = .ok (.lload_n 0, 1) := dk_30 (dk_at dksJ8_valueOf_0 0 rfl rfl)
theorem dJ8_valueOf_1 : decode cJ8_valueOf 1 = .ok (.lconst 0, 1) := dk_9 (dk_at dksJ8_valueOf_0 1 rfl rfl)
theorem dJ8_valueOf_2 : decode cJ8_valueOf 2 = .ok (.lcmp, 1) := dk_148 (dk_at dksJ8_valueOf_0 2 rfl rfl)
theorem dJ8_valueOf_3 : decode cJ8_valueOf 3 = .ok (.ifCond .lt 20, 3) := dk_155 0 20 (dk_at dksJ8_valueOf_0 3 rfl rfl)
theorem dJ8_valueOf_6 : decode cJ8_valueOf 6 = .ok (.lload_n 0, 1) := dk_30 (dk_at dksJ8_valueOf_0 6 rfl rfl)
theorem dJ8_valueOf_7 : decode cJ8_valueOf 7 = .ok (.getstatic 246, 3) := dk_178 0 246 (dk_at dksJ8_valueOf_0 7 rfl rfl)
theorem dJ8_valueOf_10 : decode cJ8_valueOf 10 = .ok (.arraylength, 1) := dk_190 (dk_at dksJ8_valueOf_0 10 rfl rfl)
theorem dJ8_valueOf_11 : decode cJ8_valueOf 11 = .ok (.i2l, 1) := dk_133 (dk_at dksJ8_valueOf_0 11 rfl rfl)
theorem dJ8_valueOf_12 : decode cJ8_valueOf 12 = .ok (.lcmp, 1) := dk_148 (dk_at dksJ8_valueOf_0 12 rfl rfl)
theorem dJ8_valueOf_13 : decode cJ8_valueOf 13 = .ok (.ifCond .ge 10, 3) := dk_156 0 10 (dk_at dksJ8_valueOf_0 13 rfl rfl)
theorem dJ8_valueOf_16 : decode cJ8_valueOf 16 = .ok (.getstatic 246, 3) := dk_178 0 246 (dk_at dksJ8_valueOf_0 16 rfl rfl)
theorem dJ8_valueOf_19 : decode cJ8_valueOf 19 = .ok (.lload_n 0, 1) := dk_30 (dk_at dksJ8_valueOf_0 19 rfl rfl)
theorem dJ8_valueOf_20 : decode cJ8_valueOf 20 = .ok (.l2i, 1) := dk_136 (dk_at dksJ8_valueOf_0 20 rfl rfl)
theorem dJ8_valueOf_21 : decode cJ8_valueOf 21 = .ok (.aaload, 1) := dk_50 (dk_at dksJ8_valueOf_0 21 rfl rfl)
theorem dJ8_valueOf_22 : decode cJ8_valueOf 22 = .ok (.areturn, 1) := dk_176 (dk_at dksJ8_valueOf_0 22 rfl rfl)
theorem dJ8_valueOf_23 : decode cJ8_valueOf 23 = .ok (.lload_n 0, 1) := dk_30 (dk_at dksJ8_valueOf_0 23 rfl rfl)
theorem dJ8_valueOf_24 : decode cJ8_valueOf 24 = .ok (.ldc2_w 125, 3) := dk_20 0 125 (dk_at dksJ8_valueOf_1 0 rfl rfl)
theorem dJ8_valueOf_27 : decode cJ8_valueOf 27 = .ok (.lcmp, 1) := dk_148 (dk_at dksJ8_valueOf_1 3 rfl rfl)
theorem dJ8_valueOf_28 : decode cJ8_valueOf 28 = .ok (.ifCond .eq 15, 3) := dk_153 0 15 (dk_at dksJ8_valueOf_1 4 rfl rfl)
theorem dJ8_valueOf_31 : decode cJ8_valueOf 31 = .ok (.new 3, 3) := dk_187 0 3 (dk_at dksJ8_valueOf_1 7 rfl rfl)
theorem dJ8_valueOf_34 : decode cJ8_valueOf 34 = .ok (.dup, 1) := dk_89 (dk_at dksJ8_valueOf_1 10 rfl rfl)
theorem dJ8_valueOf_35 : decode cJ8_valueOf 35 = .ok (.aconst_null, 1) := dk_1 (dk_at dksJ8_valueOf_1 11 rfl rfl)
theorem dJ8_valueOf_36 : decode cJ8_valueOf 36 = .ok (.lload_n 0, 1) := dk_30 (dk_at dksJ8_valueOf_1 12 rfl rfl)
theorem dJ8_valueOf_37 : decode cJ8_valueOf 37 = .ok (.iconst 0, 1) := dk_3 (dk_at dksJ8_valueOf_1 13 rfl rfl)
theorem dJ8_valueOf_38 : decode cJ8_valueOf 38 = .ok (.iconst 0, 1) := dk_3 (dk_at dksJ8_valueOf_1 14 rfl rfl)
theorem dJ8_valueOf_39 : decode cJ8_valueOf 39 = .ok (.invokespecial 243, 3) := dk_183 0 243 (dk_at dksJ8_valueOf_1 15 rfl rfl)
theorem dJ8_valueOf_42 : decode cJ8_valueOf 42 = .ok (.areturn, 1) := dk_176 (dk_at dksJ8_valueOf_1 18 rfl rfl)
theorem dJ8_valueOf_43 : decode cJ8_valueOf 43 = .ok (.new 3, 3) := dk_187 0 3 (dk_at dksJ8_valueOf_1 19 rfl rfl)
theorem dJ8_valueOf_46 : decode cJ8_valueOf 46 = .ok (.dup, 1) := dk_89 (dk_at dksJ8_valueOf_1 22 rfl rfl)
theorem dJ8_valueOf_47 : decode cJ8_valueOf 47 = .ok (.getstatic 188, 3) := dk_178 0 188 (dk_at dksJ8_valueOf_2 0 rfl rfl)
theorem dJ8_valueOf_50 : decode cJ8_valueOf 50 = .ok (.lload_n 0, 1) := dk_30 (dk_at dksJ8_valueOf_2 3 rfl rfl)
theorem dJ8_valueOf_51 : decode cJ8_valueOf 51 = .ok (.iconst 0, 1) := dk_3 (dk_at dksJ8_valueOf_2 4 rfl rfl)
theorem dJ8_valueOf_52 : decode cJ8_valueOf 52 = .ok (.iconst 0, 1) := dk_3 (dk_at dksJ8_valueOf_2 5 rfl rfl)
theorem dJ8_valueOf_53 : decode cJ8_valueOf 53 = .ok (.invokespecial 243, 3) := dk_183 0 243 (dk_at dksJ8_valueOf_2 6 rfl rfl)
theorem dJ8_valueOf_56 : decode cJ8_valueOf 56 = .ok (.areturn, 1) := dk_176 (dk_at dksJ8_valueOf_2 9 rfl rfl)
def dkwJ8_init_1 : List UInt8 := [181, 0, 28, 177]
abbrev dktJ8_init_1 : List UInt8 := dkwJ8_init_1 ++ []
def dkwJ8_init_0 : List UInt8 := [42, 183, 0, 11, 42, 21, 4, 181, 0, 17, 42, 21, 5, 181, 0, 21, 42, 32, 181, 0, 24, 42, 43]
abbrev dktJ8_init_0 : List UInt8 := dkwJ8_init_0 ++ dktJ8_init_1
theorem dksJ8_init_0 : cJ8_init.data.toList.drop 0 = dktJ8_init_0 := by decide +kernel
theorem dksJ8_init_1 : cJ8_init.data.toList.drop 23 = dktJ8_init_1 := dk_seg dksJ8_init_0 23 rfl rfl
theorem dJ8_init_0 : decode cJ8_init 0 = .ok (.aload_n 0, 1) := dk_42 (dk_at dksJ8_init_0 0 rfl rfl)
theorem dJ8_init_1 : decode cJ8_init 1 = .ok (.invokespecial 11, 3) := dk_183 0 11 (dk_at dksJ8_init_0 1 rfl rfl)
theorem dJ8_init_4 : decode cJ8_init 4 = .ok (.aload_n 0, 1) := dk_42 (dk_at dksJ8_init_0 4 rfl rfl)
theorem dJ8_init_5 : decode cJ8_init 5 = .ok (.iload 4, 2) := dk_21 4 (dk_at dksJ8_init_0 5 rfl rfl)
theorem dJ8_init_7 : decode cJ8_init 7 = .ok (.putfield 17, 3) := dk_181 0 17 (dk_at dksJ8_init_0 7 rfl rfl)
theorem dJ8_init_10 : decode cJ8_init 10 = .ok (.aload_n 0, 1) := dk_42 (dk_at dksJ8_init_0 10 rfl rfl)
theorem dJ8_init_11 : decode cJ8_init 11 = .ok (.iload 5, 2) := dk_21 5 (dk_at dksJ8_init_0 11 rfl rfl)
theorem dJ8_init_13 : decode cJ8_init 13 = .ok (.putfield 21, 3) := dk_181 0 21 (dk_at dksJ8_init_0 13 rfl rfl)
theorem dJ8_init_16 : decode cJ8_init 16 = .ok (.aload_n 0, 1) := dk_42 (dk_at dksJ8_init_0 16 rfl rfl)
theorem dJ8_init_17 : decode cJ8_init 17 = .ok (.lload_n 2, 1) := dk_32 (dk_at dksJ8_init_0 17 rfl rfl)
theorem dJ8_init_18 : decode cJ8_init 18 = .ok (.putfield 24, 3) := dk_181 0 24 (dk_at dksJ8_init_0 18 rfl rfl)
theorem dJ8_init_21 : decode cJ8_init 21 = .ok (.aload_n 0, 1) := dk_42 (dk_at dksJ8_init_0 21 rfl rfl)
theorem dJ8_init_22 : decode cJ8_init 22 = .ok (.aload_n 1, 1) := dk_43 (dk_at dksJ8_init_0 22 rfl rfl)
theorem dJ8_init_23 : decode cJ8_init 23 = .ok (.putfield 28, 3) := dk_181 0 28 (dk_at dksJ8_init_1 0 rfl rfl)
theorem dJ8_init_26 : decode cJ8_init 26 = .ok (.return_, 1) := dk_177 (dk_at dksJ8_init_1 3 rfl rfl)
def dkwJ8_valueOf_2_1 : List UInt8 := [30, 20, 0, 125, 148, 154, 0, 9, 178, 0, 188, 167, 0, 4, 1, 30, 28, 3, 183, 0, 243, 176]
abbrev dktJ8_valueOf_2_1 : List UInt8 := dkwJ8_valueOf_2_1 ++ []
def dkwJ8_valueOf_2_0 : List UInt8 := [28, 154, 0, 8, 30, 184, 0, 236, 176, 30, 9, 148, 154, 0, 8, 28, 184, 0, 239, 176, 187, 0, 3, 89]
abbrev dktJ8_valueOf_2_0 : List UInt8 := dkwJ8_valueOf_2_0 ++ dktJ8_valueOf_2_1
theorem dksJ8_valueOf_2_0 : cJ8_valueOf_2.data.toList.drop 0 = dktJ8_valueOf_2_0 := by decide +kernel
theorem dksJ8_valueOf_2_1 : cJ8_valueOf_2.data.toList.drop 24 = dktJ8_valueOf_2_1 := dk_seg dksJ8_valueOf_2_0 24 rfl rfl
theorem dJ8_valueOf_2_0 : decode cJ8_valueOf_2 0 = .ok (.iload_n 2, 1) := dk_28 (dk_at dksJ8_valueOf_2_0 0 rfl rfl)
theorem dJ8_valueOf_2_1 : decode cJ8_valueOf_2 1 = .ok (.ifCond .ne 8, 3) := dk_154 0 8 (dk_at dksJ8_valueOf_2_0 1 rfl rfl)
theorem dJ8_valueOf_2_4 : decode cJ8_valueOf_2 4 = .ok (.lload_n 0, 1) := dk_30 (dk_at dksJ8_valueOf_2_0 4 rfl rfl)
theorem dJ8_valueOf_2_5 : decode cJ8_valueOf_2 5 = .ok (.invokestatic 236, 3) := dk_184 0 236 (dk_at dksJ8_valueOf_2_0 5 rfl rfl)
theorem dJ8_valueOf_2_8 : decode cJ8_valueOf_2 8 = .ok (.areturn, 1) := dk_176 (dk_at dksJ8_valueOf_2_0 8 rfl rfl)
theorem dJ8_valueOf_2_9 : decode cJ8_valueOf_2 9 = .ok (.lload_n 0, 1) := dk_30 (dk_at dksJ8_valueOf_2_0 9 rfl rfl)
theorem dJ8_valueOf_2_10 : decode cJ8_valueOf_2 10 = .ok (.lconst 0, 1) := dk_9 (dk_at dksJ8_valueOf_2_0 10 rfl rfl)
theorem dJ8_valueOf_2_11 : decode cJ8_valueOf_2 11 = .ok (.lcmp, 1) := dk_148 (dk_at dksJ8_valueOf_2_0 11 rfl rfl)
theorem dJ8_valueOf_2_12 : decode cJ8_valueOf_2 12 = .ok (.ifCond .ne 8, 3) := dk_154 0 8 (dk_at dksJ8_valueOf_2_0 12 rfl rfl)
theorem dJ8_valueOf_2_15 : decode cJ8_valueOf_2 15 = .ok (.iload_n 2, 1) := dk_28 (dk_at dksJ8_valueOf_2_0 15 rfl rfl)
theorem dJ8_valueOf_2_16 : decode cJ8_valueOf_2 16 = .ok (.invokestatic 239, 3) := dk_184 0 239 (dk_at dksJ8_valueOf_2_0 16 rfl rfl)
theorem dJ8_valueOf_2_19 : decode cJ8_valueOf_2 19 = .ok (.areturn, 1) := dk_176 (dk_at dksJ8_valueOf_2_0 19 rfl rfl)
theorem dJ8_valueOf_2_20 : decode cJ8_valueOf_2 20 = .ok (.new 3, 3) := dk_187 0 3 (dk_at dksJ8_valueOf_2_0 20 rfl rfl)
theorem dJ8_valueOf_2_23 : decode cJ8_valueOf_2 23 = .ok (.dup, 1) := dk_89 (dk_at dksJ8_valueOf_2_0 23 rfl rfl)
theorem dJ8_valueOf_2_24 : decode cJ8_valueOf_2 24 = .ok (.lload_n 0, 1) := dk_30 (dk_at dksJ8_valueOf_2_1 0 rfl rfl)
theorem dJ8_valueOf_2_25 : decode cJ8_valueOf_2 25 = .ok (.ldc2_w 125, 3) := dk_20 0 125 (dk_at dksJ8_valueOf_2_1 1 rfl rfl)
theorem dJ8_valueOf_2_28 : decode cJ8_valueOf_2 28 = .ok (.lcmp, 1) := dk_148 (dk_at dksJ8_valueOf_2_1 4 rfl rfl)
theorem dJ8_valueOf_2_29 : decode cJ8_valueOf_2 29 = .ok (.ifCond .ne 9, 3) := dk_154 0 9 (dk_at dksJ8_valueOf_2_1 5 rfl rfl)
theorem dJ8_valueOf_2_32 : decode cJ8_valueOf_2 32 = .ok (.getstatic 188, 3) := dk_178 0 188 (dk_at dksJ8_valueOf_2_1 8 rfl rfl)
theorem dJ8_valueOf_2_35 : decode cJ8_valueOf_2 35 = .ok (.goto 4, 3) := dk_167 0 4 (dk_at dksJ8_valueOf_2_1 11 rfl rfl)
theorem dJ8_valueOf_2_38 : decode cJ8_valueOf_2 38 = .ok (.aconst_null, 1) := dk_1 (dk_at dksJ8_valueOf_2_1 14 rfl rfl)
theorem dJ8_valueOf_2_39 : decode cJ8_valueOf_2 39 = .ok (.lload_n 0, 1) := dk_30 (dk_at dksJ8_valueOf_2_1 15 rfl rfl)
theorem dJ8_valueOf_2_40 : decode cJ8_valueOf_2 40 = .ok (.iload_n 2, 1) := dk_28 (dk_at dksJ8_valueOf_2_1 16 rfl rfl)
theorem dJ8_valueOf_2_41 : decode cJ8_valueOf_2 41 = .ok (.iconst 0, 1) := dk_3 (dk_at dksJ8_valueOf_2_1 17 rfl rfl)
theorem dJ8_valueOf_2_42 : decode cJ8_valueOf_2 42 = .ok (.invokespecial 243, 3) := dk_183 0 243 (dk_at dksJ8_valueOf_2_1 18 rfl rfl)
theorem dJ8_valueOf_2_45 : decode cJ8_valueOf_2 45 = .ok (.areturn, 1) := dk_176 (dk_at dksJ8_valueOf_2_1 21 rfl rfl)
def dkwJ8_zeroValueOf_1 : List UInt8 := [178, 0, 185, 9, 26, 4, 183, 0, 243, 176]
abbrev dktJ8_zeroValueOf_1 : List UInt8 := dkwJ8_zeroValueOf_1 ++ []
def dkwJ8_zeroValueOf_0 : List UInt8 := [26, 155, 0, 17, 26, 178, 0, 250, 190, 162, 0, 9, 178, 0, 250, 26, 50, 176, 187, 0, 3, 89]
abbrev dktJ8_zeroValueOf_0 : List UInt8 := dkwJ8_zeroValueOf_0 ++ dktJ8_zeroValueOf_1
theorem dksJ8_zeroValueOf_0 : cJ8_zeroValueOf.data.toList.drop 0 = dktJ8_zeroValueOf_0 := by decide +kernel
theorem dksJ8_zeroValueOf_1 : cJ8_zeroValueOf.data.toList.drop 22 = dktJ8_zeroValueOf_1 := dk_seg dksJ8_zeroValueOf_0 22 rfl rfl
theorem dJ8_zeroValueOf_0 : decode cJ8_zeroValueOf 0 = .ok (.iload_n 0, 1) := dk_26 (dk_at dksJ8_zeroValueOf_0 0 rfl rfl)
theorem dJ8_zeroValueOf_1 : decode cJ8_zeroValueOf 1 = .ok (.ifCond .lt 17, 3) := dk_155 0 17 (dk_at dksJ8_zeroValueOf_0 1 rfl rfl)
theorem dJ8_zeroValueOf_4 : decode cJ8_zeroValueOf 4 = .ok (.iload_n 0, 1) := dk_26 (dk_at dksJ8_zeroValueOf_0 4 rfl rfl)
theorem dJ8_zeroValueOf_5 : decode cJ8_zeroValueOf 5 = .ok (.getstatic 250, 3) := dk_178 0 250 (dk_at dksJ8_zeroValueOf_0 5 rfl rfl)
theorem dJ8_zeroValueOf_8 : decode cJ8_zeroValueOf 8 = .ok (.arraylength, 1) := dk_190 (dk_at dksJ8_zeroValueOf_0 8 rfl rfl)
theorem dJ8_zeroValueOf_9 : decode cJ8_zeroValueOf 9 = .ok (.if_icmp .ge 9, 3) := dk_162 0 9 (dk_at dksJ8_zeroValueOf_0 9 rfl rfl)
theorem dJ8_zeroValueOf_12 : decode cJ8_zeroValueOf 12 = .ok (.getstatic 250, 3) := dk_178 0 250 (dk_at dksJ8_zeroValueOf_0 12 rfl rfl)
theorem dJ8_zeroValueOf_15 : decode cJ8_zeroValueOf 15 = .ok (.iload_n 0, 1) := dk_26 (dk_at dksJ8_zeroValueOf_0 15 rfl rfl)
theorem dJ8_zeroValueOf_16 : decode cJ8_zeroValueOf 16 = .ok (.aaload, 1) := dk_50 (dk_at dksJ8_zeroValueOf_0 16 rfl rfl)
theorem dJ8_zeroValueOf_17 : decode cJ8_zeroValueOf 17 = .ok (.areturn, 1) := dk_176 (dk_at dksJ8_zeroValueOf_0 17 rfl rfl)
theorem dJ8_zeroValueOf_18 : decode cJ8_zeroValueOf 18 = .ok (.new 3, 3) := dk_187 0 3 (dk_at dksJ8_zeroValueOf_0 18 rfl rfl)
theorem dJ8_zeroValueOf_21 : decode cJ8_zeroValueOf 21 = .ok (.dup, 1) := dk_89 (dk_at dksJ8_zeroValueOf_0 21 rfl rfl)
theorem dJ8_zeroValueOf_22 : decode cJ8_zeroValueOf 22 = .ok (.getstatic 185, 3) := dk_178 0 185 (dk_at dksJ8_zeroValueOf_1 0 rfl rfl)
theorem dJ8_zeroValueOf_25 : decode cJ8_zeroValueOf 25 = .ok (.lconst 0, 1) := dk_9 (dk_at dksJ8_zeroValueOf_1 3 rfl rfl)
theorem dJ8_zeroValueOf_26 : decode cJ8_zeroValueOf 26 = .ok (.iload_n 0, 1) := dk_26 (dk_at dksJ8_zeroValueOf_1 4 rfl rfl)
theorem dJ8_zeroValueOf_27 : decode cJ8_zeroValueOf 27 = .ok (.iconst 1, 1) := dk_4 (dk_at dksJ8_zeroValueOf_1 5 rfl rfl)
theorem dJ8_zeroValueOf_28 : decode cJ8_zeroValueOf 28 = .ok (.invokespecial 243, 3) := dk_183 0 243 (dk_at dksJ8_zeroValueOf_1 6 rfl rfl)
theorem dJ8_zeroValueOf_31 : decode cJ8_zeroValueOf 31 = .ok (.areturn, 1) := dk_176 (dk_at dksJ8_zeroValueOf_1 9 rfl rfl)
def dkwJ8_checkScale_2 : List UInt8 := [19, 3, 108, 167, 0, 6, 19, 2, 182, 183, 1, 132, 191, 21, 4, 172]
abbrev dktJ8_checkScale_2 : List UInt8 := dkwJ8_checkScale_2 ++ []
def dkwJ8_checkScale_1 : List UInt8 := [167, 0, 6, 19, 3, 107, 54, 4, 30, 9, 148, 153, 0, 25, 187, 1, 128, 89, 21, 4, 158, 0, 9]
abbrev dktJ8_checkScale_1 : List UInt8 := dkwJ8_checkScale_1 ++ dktJ8_checkScale_2
def dkwJ8_checkScale_0 : List UInt8 := [32, 136, 54, 4, 21, 4, 133, 32, 148, 153, 0, 50, 32, 20, 1, 148, 148, 158, 0, 9, 19, 3, 106]
abbrev dktJ8_checkScale_0 : List UInt8 := dkwJ8_checkScale_0 ++ dktJ8_checkScale_1
theorem dksJ8_checkScale_0 : cJ8_checkScale.data.toList.drop 0 = dktJ8_checkScale_0 := by decide +kernel
theorem dksJ8_checkScale_1 : cJ8_checkScale.data.toList.drop 23 = dktJ8_checkScale_1 := dk_seg dksJ8_checkScale_0 23 rfl rfl
theorem dksJ8_checkScale_2 : cJ8_checkScale.data.toList.drop 46 = dktJ8_checkScale_2 := dk_seg dksJ8_checkScale_1 23 rfl rfl
theorem dJ8_checkScale_0 : decode cJ8_checkScale 0 = .ok (.lload_n 2, 1) := dk_32 (dk_at dksJ8_checkScale_0 0 rfl rfl)
theorem dJ8_checkScale_1 : decode cJ8_checkScale 1 = .ok (.l2i, 1) := dk_136 (dk_at dksJ8_checkScale_0 1 rfl rfl)
theorem dJ8_checkScale_2 : decode cJ8_checkScale 2 = .ok (.istore 4, 2) := dk_54 4 (dk_at dksJ8_checkScale_0 2 rfl rfl)
theorem dJ8_checkScale_4 : decode cJ8_checkScale 4 = .ok (.iload 4, 2) := dk_21 4 (dk_at dksJ8_checkScale_0 4 rfl rfl)
theorem dJ8_checkScale_6 : decode cJ8_checkScale 6 = .ok (.i2l, 1) := dk_133 (dk_at dksJ8_checkScale_0 6 rfl rfl)
theorem dJ8_checkScale_7 : decode cJ8_checkScale 7 = .ok (.lload_n 2, 1) := dk_32 (dk_at dksJ8_checkScale_0 7 rfl rfl)
theorem dJ8_checkScale_8 : decode cJ8_checkScale 8 = .ok (.lcmp, 1) := dk_148 (dk_at dksJ8_checkScale_0 8 rfl rfl)
theorem dJ8_checkScale_9 : decode cJ8_checkScale 9 = .ok (.ifCond .eq 50, 3) := dk_153 0 50 (dk_at dksJ8_checkScale_0 9 rfl rfl)
theorem dJ8_checkScale_12 : decode cJ8_checkScale 12 = .ok (.lload_n 2, 1) := dk_32 (dk_at dksJ8_checkScale_0 12 rfl rfl)
theorem dJ8_checkScale_13 : decode cJ8_checkScale 13 = .ok (.ldc2_w 404, 3) := dk_20 1 148 (dk_at dksJ8_checkScale_0 13 rfl rfl)
theorem dJ8_checkScale_16 : decode cJ8_checkScale 16 = .ok (.lcmp, 1) := dk_148 (dk_at dksJ8_checkScale_0 16 rfl rfl)
theorem dJ8_checkScale_17 : decode cJ8_checkScale 17 = .ok (.ifCond .le 9, 3) := dk_158 0 9 (dk_at dksJ8_checkScale_0 17 rfl rfl)
theorem dJ8_checkScale_20 : decode cJ8_checkScale 20 = .ok (.ldc_w 874, 3) := dk_19 3 106 (dk_at dksJ8_checkScale_0 20 rfl rfl)
theorem dJ8_checkScale_23 : decode cJ8_checkScale 23 = .ok (.goto 6, 3) := dk_167 0 6 (dk_at dksJ8_checkScale_1 0 rfl rfl)
theorem dJ8_checkScale_26 : decode cJ8_checkScale 26 = .ok (.ldc_w 875, 3) := dk_19 3 107 (dk_at dksJ8_checkScale_1 3 rfl rfl)
theorem dJ8_checkScale_29 : decode cJ8_checkScale 29 = .ok (.istore 4, 2) := dk_54 4 (dk_at dksJ8_checkScale_1 6 rfl rfl)
theorem dJ8_checkScale_31 : decode cJ8_checkScale 31 = .ok (.lload_n 0, 1) := dk_30 (dk_at dksJ8_checkScale_1 8 rfl rfl)
theorem dJ8_checkScale_32 : decode cJ8_checkScale 32 = .ok (.lconst 0, 1) := dk_9 (dk_at dksJ8_checkScale_1 9 rfl rfl)
theorem dJ8_checkScale_33 : decode cJ8_checkScale 33 = .ok (.lcmp, 1) := dk_148 (dk_at dksJ8_checkScale_1 10 rfl rfl)
theorem dJ8_checkScale_34 : decode cJ8_checkScale 34 = .ok (.ifCond .eq 25, 3) := dk_153 0 25 (dk_at dksJ8_checkScale_1 11 rfl rfl)
theorem dJ8_checkScale_37 : decode cJ8_checkScale 37 = .ok (.new 384, 3) := dk_187 1 128 (dk_at dksJ8_checkScale_1 14 rfl rfl)
theorem dJ8_checkScale_40 : decode cJ8_checkScale 40 = .ok (.dup, 1) := dk_89 (dk_at dksJ8_checkScale_1 17 rfl rfl)
theorem dJ8_checkScale_41 : decode cJ8_checkScale 41 = .ok (.iload 4, 2) := dk_21 4 (dk_at dksJ8_checkScale_1 18 rfl rfl)
theorem dJ8_checkScale_43 : decode cJ8_checkScale 43 = .ok (.ifCond .le 9, 3) := dk_158 0 9 (dk_at dksJ8_checkScale_1 20 rfl rfl)
theorem dJ8_checkScale_46 : decode cJ8_checkScale 46 = .ok (.ldc_w 876, 3) := dk_19 3 108 (dk_at dksJ8_checkScale_2 0 rfl rfl)
theorem dJ8_checkScale_49 : decode cJ8_checkScale 49 = .ok (.goto 6, 3) := dk_167 0 6 (dk_at dksJ8_checkScale_2 3 rfl rfl)
theorem dJ8_checkScale_52 : decode cJ8_checkScale 52 = .ok (.ldc_w 694, 3) := dk_19 2 182 (dk_at dksJ8_checkScale_2 6 rfl rfl)
theorem dJ8_checkScale_55 : decode cJ8_checkScale 55 = .ok (.invokespecial 388, 3) := dk_183 1 132 (dk_at dksJ8_checkScale_2 9 rfl rfl)
theorem dJ8_checkScale_58 : decode cJ8_checkScale 58 = .ok (.athrow, 1) := dk_191 (dk_at dksJ8_checkScale_2 12 rfl rfl)
theorem dJ8_checkScale_59 : decode cJ8_checkScale 59 = .ok (.iload 4, 2) := dk_21 4 (dk_at dksJ8_checkScale_2 13 rfl rfl)
theorem dJ8_checkScale_61 : decode cJ8_checkScale 61 = .ok (.ireturn, 1) := dk_172 (dk_at dksJ8_checkScale_2 15 rfl rfl)
def dkwJ8_longMultiplyPowerTen_2 : List UInt8 := [30, 184, 1, 184, 25, 4, 28, 47, 148, 157, 0, 8, 30, 22, 5, 105, 173, 20, 0, 125, 173]
abbrev dktJ8_longMultiplyPowerTen_2 : List UInt8 := dkwJ8_longMultiplyPowerTen_2 ++ []
def dkwJ8_longMultiplyPowerTen_1 : List UInt8 := [162, 0, 41, 28, 25, 4, 190, 162, 0, 34, 45, 28, 47, 55, 5, 30, 10, 148, 154, 0, 6, 22, 5, 173]
abbrev dktJ8_longMultiplyPowerTen_1 : List UInt8 := dkwJ8_longMultiplyPowerTen_1 ++ dktJ8_longMultiplyPowerTen_2
def dkwJ8_longMultiplyPowerTen_0 : List UInt8 := [30, 9, 148, 153, 0, 7, 28, 157, 0, 5, 30, 173, 178, 0, 95, 78, 178, 3, 57, 58, 4, 28, 45, 190]
abbrev dktJ8_longMultiplyPowerTen_0 : List UInt8 := dkwJ8_longMultiplyPowerTen_0 ++ dktJ8_longMultiplyPowerTen_1
theorem dksJ8_longMultiplyPowerTen_0 : cJ8_longMultiplyPowerTen.data.toList.drop 0 = dktJ8_longMultiplyPowerTen_0 := by decide +kernel
theorem dksJ8_longMultiplyPowerTen_1 : cJ8_longMultiplyPowerTen.data.toList.drop 24 = dktJ8_longMultiplyPowerTen_1 := dk_seg dksJ8_longMultiplyPowerTen_0 24 rfl rfl
theorem dksJ8_longMultiplyPowerTen_2 : cJ8_longMultiplyPowerTen.data.toList.drop 48 = dktJ8_longMultiplyPowerTen_2 := dk_seg dksJ8_longMultiplyPowerTen_1 24 rfl rfl
theorem dJ8_longMultiplyPowerTen_0 : decode cJ8_longMultiplyPowerTen 0 = .ok (.lload_n 0, 1) := dk_30 (dk_at dksJ8_longMultiplyPowerTen_0 0 rfl rfl)
theorem dJ8_longMultiplyPowerTen_1 : decode cJ8_longMultiplyPowerTen 1 = .ok (.lconst 0, 1) := dk_9 (dk_at dksJ8_longMultiplyPowerTen_0 1 rfl rfl)
theorem dJ8_longMultiplyPowerTen_2 : decode cJ8_longMultiplyPowerTen 2 = .ok (.lcmp, 1) := dk_148 (dk_at dksJ8_longMultiplyPowerTen_0 2 rfl rfl)
theorem dJ8_longMultiplyPowerTen_3 : decode cJ8_longMultiplyPowerTen 3 = .ok (.ifCond .eq 7, 3) := dk_153 0 7 (dk_at dksJ8_longMultiplyPowerTen_0 3 rfl rfl)
theorem dJ8_longMultiplyPowerTen_6 : decode cJ8_longMultiplyPowerTen 6 = .ok (.iload_n 2, 1) := dk_28 (dk_at dksJ8_longMultiplyPowerTen_0 6 rfl rfl)
theorem dJ8_longMultiplyPowerTen_7 : decode cJ8_longMultiplyPowerTen 7 = .ok (.ifCond .gt 5, 3) := dk_157 0 5 (dk_at dksJ8_longMultiplyPowerTen_0 7 rfl rfl)
theorem dJ8_longMultiplyPowerTen_10 : decode cJ8_longMultiplyPowerTen 10 = .ok (.lload_n 0, 1) := dk_30 (dk_at dksJ8_longMultiplyPowerTen_0 10 rfl rfl)
theorem dJ8_longMultiplyPowerTen_11 : decode cJ8_longMultiplyPowerTen 11 = .ok (.lreturn, 1) := dk_173 (dk_at dksJ8_longMultiplyPowerTen_0 11 rfl rfl)
theorem dJ8_longMultiplyPowerTen_12 : decode cJ8_longMultiplyPowerTen 12 = .ok (.getstatic 95, 3) := dk_178 0 95 (dk_at dksJ8_longMultiplyPowerTen_0 12 rfl rfl)
theorem dJ8_longMultiplyPowerTen_15 : decode cJ8_longMultiplyPowerTen 15 = .ok (.astore_n 3, 1) := dk_78 (dk_at dksJ8_longMultiplyPowerTen_0 15 rfl rfl)
theorem dJ8_longMultiplyPowerTen_16 : decode cJ8_longMultiplyPowerTen 16 = .ok (.getstatic 825, 3) := dk_178 3 57 (dk_at dksJ8_longMultiplyPowerTen_0 16 rfl rfl)
theorem dJ8_longMultiplyPowerTen_19 : decode cJ8_longMultiplyPowerTen 19 = .ok (.astore 4, 2) := dk_58 4 (dk_at dksJ8_longMultiplyPowerTen_0 19 rfl rfl)
theorem dJ8_longMultiplyPowerTen_21 : decode cJ8_longMultiplyPowerTen 21 = .ok (.iload_n 2, 1) := dk_28 (dk_at dksJ8_longMultiplyPowerTen_0 21 rfl rfl)
theorem dJ8_longMultiplyPowerTen_22 : decode cJ8_longMultiplyPowerTen 22 = .ok (.aload_n 3, 1) := dk_45 (dk_at dksJ8_longMultiplyPowerTen_0 22 rfl rfl)
theorem dJ8_longMultiplyPowerTen_23 : decode cJ8_longMultiplyPowerTen 23 = .ok (.arraylength, 1) := dk_190 (dk_at dksJ8_longMultiplyPowerTen_0 23 rfl rfl)
theorem dJ8_longMultiplyPowerTen_24 : decode cJ8_longMultiplyPowerTen 24 = .ok (.if_icmp .ge 41, 3) := dk_162 0 41 (dk_at dksJ8_longMultiplyPowerTen_1 0 rfl rfl)
theorem dJ8_longMultiplyPowerTen_27 : decode cJ8_longMultiplyPowerTen 27 = .ok (.iload_n 2, 1) := dk_28 (dk_at dksJ8_longMultiplyPowerTen_1 3 rfl rfl)
theorem dJ8_longMultiplyPowerTen_28 : decode cJ8_longMultiplyPowerTen 28 = .ok (.aload 4, 2) := dk_25 4 (dk_at dksJ8_longMultiplyPowerTen_1 4 rfl rfl)
theorem dJ8_longMultiplyPowerTen_30 : decode cJ8_longMultiplyPowerTen 30 = .ok (.arraylength, 1) := dk_190 (dk_at dksJ8_longMultiplyPowerTen_1 6 rfl rfl)
theorem dJ8_longMultiplyPowerTen_31 : decode cJ8_longMultiplyPowerTen 31 = .ok (.if_icmp .ge 34, 3) := dk_162 0 34 (dk_at dksJ8_longMultiplyPowerTen_1 7 rfl rfl)
theorem dJ8_longMultiplyPowerTen_34 : decode cJ8_longMultiplyPowerTen 34 = .ok (.aload_n 3, 1) := dk_45 (dk_at dksJ8_longMultiplyPowerTen_1 10 rfl rfl)
theorem dJ8_longMultiplyPowerTen_35 : decode cJ8_longMultiplyPowerTen 35 = .ok (.iload_n 2, 1) := dk_28 (dk_at dksJ8_longMultiplyPowerTen_1 11 rfl rfl)
theorem dJ8_longMultiplyPowerTen_36 : decode cJ8_longMultiplyPowerTen 36 = .ok (.laload, 1) := dk_47 (dk_at dksJ8_longMultiplyPowerTen_1 12 rfl rfl)
theorem dJ8_longMultiplyPowerTen_37 : decode cJ8_longMultiplyPowerTen 37 = .ok (.lstore 5, 2) := dk_55 5 (dk_at dksJ8_longMultiplyPowerTen_1 13 rfl rfl)
theorem dJ8_longMultiplyPowerTen_39 : decode cJ8_longMultiplyPowerTen 39 = .ok (.lload_n 0, 1) := dk_30 (dk_at dksJ8_longMultiplyPowerTen_1 15 rfl rfl)
theorem dJ8_longMultiplyPowerTen_40 : decode cJ8_longMultiplyPowerTen 40 = .ok (.lconst 1, 1) := dk_10 (dk_at dksJ8_longMultiplyPowerTen_1 16 rfl rfl)
theorem dJ8_longMultiplyPowerTen_41 : decode cJ8_longMultiplyPowerTen 41 = .ok (.lcmp, 1) := dk_148 (dk_at dksJ8_longMultiplyPowerTen_1 17 rfl rfl)
theorem dJ8_longMultiplyPowerTen_42 : decode cJ8_longMultiplyPowerTen 42 = .ok (.ifCond .ne 6, 3) := dk_154 0 6 (dk_at dksJ8_longMultiplyPowerTen_1 18 rfl rfl)
theorem dJ8_longMultiplyPowerTen_45 : decode cJ8_longMultiplyPowerTen 45 = .ok (.lload 5, 2) := dk_22 5 (dk_at dksJ8_longMultiplyPowerTen_1 21 rfl rfl)
theorem dJ8_longMultiplyPowerTen_47 : decode cJ8_longMultiplyPowerTen 47 = .ok (.lreturn, 1) := dk_173 (dk_at dksJ8_longMultiplyPowerTen_1 23 rfl rfl)
theorem dJ8_longMultiplyPowerTen_48 : decode cJ8_longMultiplyPowerTen 48 = .ok (.lload_n 0, 1) := dk_30 (dk_at dksJ8_longMultiplyPowerTen_2 0 rfl rfl)
theorem dJ8_longMultiplyPowerTen_49 : decode cJ8_longMultiplyPowerTen 49 = .ok (.invokestatic 440, 3) := dk_184 1 184 (dk_at dksJ8_longMultiplyPowerTen_2 1 rfl rfl)
theorem dJ8_longMultiplyPowerTen_52 : decode cJ8_longMultiplyPowerTen 52 = .ok (.aload 4, 2) := dk_25 4 (dk_at dksJ8_longMultiplyPowerTen_2 4 rfl rfl)
theorem dJ8_longMultiplyPowerTen_54 : decode cJ8_longMultiplyPowerTen 54 = .ok (.iload_n 2, 1) := dk_28 (dk_at dksJ8_longMultiplyPowerTen_2 6 rfl rfl)
theorem dJ8_longMultiplyPowerTen_55 : decode cJ8_longMultiplyPowerTen 55 = .ok (.laload, 1) := dk_47 (dk_at dksJ8_longMultiplyPowerTen_2 7 rfl rfl)
theorem dJ8_longMultiplyPowerTen_56 : decode cJ8_longMultiplyPowerTen 56 = .ok (.lcmp, 1) := dk_148 (dk_at dksJ8_longMultiplyPowerTen_2 8 rfl rfl)
theorem dJ8_longMultiplyPowerTen_57 : decode cJ8_longMultiplyPowerTen 57 = .ok (.ifCond .gt 8, 3) := dk_157 0 8 (dk_at dksJ8_longMultiplyPowerTen_2 9 rfl rfl)
theorem dJ8_longMultiplyPowerTen_60 : decode cJ8_longMultiplyPowerTen 60 = .ok (.lload_n 0, 1) := dk_30 (dk_at dksJ8_longMultiplyPowerTen_2 12 rfl rfl)
theorem dJ8_longMultiplyPowerTen_61 : decode cJ8_longMultiplyPowerTen 61 = .ok (.lload 5, 2) := dk_22 5 (dk_at dksJ8_longMultiplyPowerTen_2 13 rfl rfl)
theorem dJ8_longMultiplyPowerTen_63 : decode cJ8_longMultiplyPowerTen 63 = .ok (.lmul, 1) := dk_105 (dk_at dksJ8_longMultiplyPowerTen_2 15 rfl rfl)
theorem dJ8_longMultiplyPowerTen_64 : decode cJ8_longMultiplyPowerTen 64 = .ok (.lreturn, 1) := dk_173 (dk_at dksJ8_longMultiplyPowerTen_2 16 rfl rfl)
theorem dJ8_longMultiplyPowerTen_65 : decode cJ8_longMultiplyPowerTen 65 = .ok (.ldc2_w 125, 3) := dk_20 0 125 (dk_at dksJ8_longMultiplyPowerTen_2 17 rfl rfl)
theorem dJ8_longMultiplyPowerTen_68 : decode cJ8_longMultiplyPowerTen 68 = .ok (.lreturn, 1) := dk_173 (dk_at dksJ8_longMultiplyPowerTen_2 20 rfl rfl)
theorem dJ8_scale_0 : decode cJ8_scale 0 = .ok (.aload_n 0, 1) := by decide +kernel
theorem dJ8_scale_1 : decode cJ8_scale 1 = .ok (.getfield 17, 3) := by decide +kernel
theorem dJ8_scale_4 : decode cJ8_scale 4 = .ok (.ireturn, 1) := by decide +kernel
def dkwJ19_valueOf_2 : List UInt8 := [30, 117, 136, 50, 176, 187, 0, 23, 89, 30, 183, 1, 100, 176]
abbrev dktJ19_valueOf_2 : List UInt8 := dkwJ19_valueOf_2 ++ []
def dkwJ19_valueOf_1 : List UInt8 := [178, 1, 91, 30, 136, 50, 176, 30, 9, 148, 156, 0, 19, 30, 20, 1, 95, 148, 155, 0, 11, 178, 1, 97]
abbrev dktJ19_valueOf_1 : List UInt8 := dkwJ19_valueOf_1 ++ dktJ19_valueOf_2
def dkwJ19_valueOf_0 : List UInt8 := [30, 9, 148, 154, 0, 7, 178, 0, 22, 176, 30, 9, 148, 158, 0, 18, 30, 20, 1, 89, 148, 157, 0, 10]
abbrev dktJ19_valueOf_0 : List UInt8 := dkwJ19_valueOf_0 ++ dktJ19_valueOf_1
theorem dksJ19_valueOf_0 : cJ19_valueOf.data.toList.drop 0 = dktJ19_valueOf_0 := by decide +kernel
theorem dksJ19_valueOf_1 : cJ19_valueOf.data.toList.drop 24 = dktJ19_valueOf_1 := dk_seg dksJ19_valueOf_0 24 rfl rfl
theorem dksJ19_valueOf_2 : cJ19_valueOf.data.toList.drop 48 = dktJ19_valueOf_2 := dk_seg dksJ19_valueOf_1 24 rfl rfl
theorem dJ19_valueOf_0 : decode cJ19_valueOf 0 = .ok (.lload_n 0, 1) := dk_30 (dk_at dksJ19_valueOf_0 0 rfl rfl)
theorem dJ19_valueOf_1 : decode cJ19_valueOf 1 = .ok (.lconst 0, 1) := dk_9 (dk_at dksJ19_valueOf_0 1 rfl rfl)
theorem dJ19_valueOf_2 : decode cJ19_valueOf 2 = .ok (.lcmp, 1) := dk_148 (dk_at dksJ19_valueOf_0 2 rfl rfl)
theorem dJ19_valueOf_3 : decode cJ19_valueOf 3 = .ok (.ifCond .ne 7, 3) := dk_154 0 7 (dk_at dksJ19_valueOf_0 3 rfl rfl)
theorem dJ19_valueOf_6 : decode cJ19_valueOf 6 = .ok (.getstatic 22, 3) := dk_178 0 22 (dk_at dksJ19_valueOf_0 6 rfl rfl)
theorem dJ19_valueOf_9 : decode cJ19_valueOf 9 = .ok (.areturn, 1) := dk_176 (dk_at dksJ19_valueOf_0 9 rfl rfl)
theorem dJ19_valueOf_10 : decode cJ19_valueOf 10 = .ok (.lload_n 0, 1) := dk_30 (dk_at dksJ19_valueOf_0 10 rfl rfl)
theorem dJ19_valueOf_11 : decode cJ19_valueOf 11 = .ok (.lconst 0, 1) := dk_9 (dk_at dksJ19_valueOf_0 11 rfl rfl)
theorem dJ19_valueOf_12 : decode cJ19_valueOf 12 = .ok (.lcmp, 1) := dk_148 (dk_at dksJ19_valueOf_0 12 rfl rfl)
theorem dJ19_valueOf_13 : decode cJ19_valueOf 13 = .ok (.ifCond .le 18, 3) := dk_158 0 18 (dk_at dksJ19_valueOf_0 13 rfl rfl)
theorem dJ19_valueOf_16 : decode cJ19_valueOf 16 = .ok (.lload_n 0, 1) := dk_30 (dk_at dksJ19_valueOf_0 16 rfl rfl)
theorem dJ19_valueOf_17 : decode cJ19_valueOf 17 = .ok (.ldc2_w 345, 3) := dk_20 1 89 (dk_at dksJ19_valueOf_0 17 rfl rfl)
theorem dJ19_valueOf_20 : decode cJ19_valueOf 20 = .ok (.lcmp, 1) := dk_148 (dk_at dksJ19_valueOf_0 20 rfl rfl)
theorem dJ19_valueOf_21 : decode cJ19_valueOf 21 = .ok (.ifCond .gt 10, 3) := dk_157 0 10 (dk_at dksJ19_valueOf_0 21 rfl rfl)
theorem dJ19_valueOf_24 : decode cJ19_valueOf 24 = .ok (.getstatic 347, 3) := dk_178 1 91 (dk_at dksJ19_valueOf_1 0 rfl rfl)
theorem dJ19_valueOf_27 : decode cJ19_valueOf 27 = .ok (.lload_n 0, 1) := dk_30 (dk_at dksJ19_valueOf_1 3 rfl rfl)
theorem dJ19_valueOf_28 : decode cJ19_valueOf 28 = .ok (.l2i, 1) := dk_136 (dk_at dksJ19_valueOf_1 4 rfl rfl)
theorem dJ19_valueOf_29 : decode cJ19_valueOf 29 = .ok (.aaload, 1) := dk_50 (dk_at dksJ19_valueOf_1 5 rfl rfl)
theorem dJ19_valueOf_30 : decode cJ19_valueOf 30 = .ok (.areturn, 1) := dk_176 (dk_at dksJ19_valueOf_1 6 rfl rfl)
theorem dJ19_valueOf_31 : decode cJ19_valueOf 31 = .ok (.lload_n 0, 1) := dk_30 (dk_at dksJ19_valueOf_1 7 rfl rfl)
theorem dJ19_valueOf_32 : decode cJ19_valueOf 32 = .ok (.lconst 0, 1) := dk_9 (dk_at dksJ19_valueOf_1 8 rfl rfl)
theorem dJ19_valueOf_33 : decode cJ19_valueOf 33 = .ok (.lcmp, 1) := dk_148 (dk_at dksJ19_valueOf_1 9 rfl rfl)
theorem dJ19_valueOf_34 : decode cJ19_valueOf 34 = .ok (.ifCond .ge 19, 3) := dk_156 0 19 (dk_at dksJ19_valueOf_1 10 rfl rfl)
theorem dJ19_valueOf_37 : decode cJ19_valueOf 37 = .ok (.lload_n 0, 1) := dk_30 (dk_at dksJ19_valueOf_1 13 rfl rfl)
theorem dJ19_valueOf_38 : decode cJ19_valueOf 38 = .ok (.ldc2_w 351, 3) := dk_20 1 95 (dk_at dksJ19_valueOf_1 14 rfl rfl)
theorem dJ19_valueOf_41 : decode cJ19_valueOf 41 = .ok (.lcmp, 1) := dk_148 (dk_at dksJ19_valueOf_1 17 rfl rfl)
theorem dJ19_valueOf_42 : decode cJ19_valueOf 42 = .ok (.ifCond .lt 11, 3) := dk_155 0 11 (dk_at dksJ19_valueOf_1 18 rfl rfl)
theorem dJ19_valueOf_45 : decode cJ19_valueOf 45 = .ok (.getstatic 353, 3) := dk_178 1 97 (dk_at dksJ19_valueOf_1 21 rfl rfl)
theorem dJ19_valueOf_48 : decode cJ19_valueOf 48 = .ok (.lload_n 0, 1) := dk_30 (dk_at dksJ19_valueOf_2 0 rfl rfl)
theorem dJ19_valueOf_49 : decode cJ19_valueOf 49 = .ok (.lneg, 1) := dk_117 (dk_at dksJ19_valueOf_2 1 rfl rfl)
theorem dJ19_valueOf_50 : decode cJ19_valueOf 50 = .ok (.l2i, 1) := dk_136 (dk_at dksJ19_valueOf_2 2 rfl rfl)
theorem dJ19_valueOf_51 : decode cJ19_valueOf 51 = .ok (.aaload, 1) := dk_50 (dk_at dksJ19_valueOf_2 3 rfl rfl)
theorem dJ19_valueOf_52 : decode cJ19_valueOf 52 = .ok (.areturn, 1) := dk_176 (dk_at dksJ19_valueOf_2 4 rfl rfl)
theorem dJ19_valueOf_53 : decode cJ19_valueOf 53 = .ok (.new 23, 3) := dk_187 0 23 (dk_at dksJ19_valueOf_2 5 rfl rfl)
theorem dJ19_valueOf_56 : decode cJ19_valueOf 56 = .ok (.dup, 1) := dk_89 (dk_at dksJ19_valueOf_2 8 rfl rfl)
theorem dJ19_valueOf_57 : decode cJ19_valueOf 57 = .ok (.lload_n 0, 1) := dk_30 (dk_at dksJ19_valueOf_2 9 rfl rfl)
theorem dJ19_valueOf_58 : decode cJ19_valueOf 58 = .ok (.invokespecial 356, 3) := dk_183 1 100 (dk_at dksJ19_valueOf_2 10 rfl rfl)
theorem dJ19_valueOf_61 : decode cJ19_valueOf 61 = .ok (.areturn, 1) := dk_176 (dk_at dksJ19_valueOf_2 13 rfl rfl)
def dkwJ19_init_3 : List UInt8 := [180, 0, 28, 4, 31, 136, 79, 177]
abbrev dktJ19_init_3 : List UInt8 := dkwJ19_init_3 ++ []
def dkwJ19_init_2 : List UInt8 := [3, 31, 136, 79, 167, 0, 25, 42, 5, 188, 10, 181, 0, 28, 42, 180, 0, 28, 3, 29, 79, 42]
abbrev dktJ19_init_2 : List UInt8 := dkwJ19_init_2 ++ dktJ19_init_3
def dkwJ19_init_1 : List UInt8 := [181, 0, 32, 31, 16, 32, 125, 136, 62, 29, 154, 0, 21, 42, 4, 188, 10, 181, 0, 28, 42, 180, 0, 28]
abbrev dktJ19_init_1 : List UInt8 := dkwJ19_init_1 ++ dktJ19_init_2
def dkwJ19_init_0 : List UInt8 := [42, 183, 0, 3, 31, 9, 148, 156, 0, 14, 31, 117, 64, 42, 2, 181, 0, 32, 167, 0, 8, 42, 4]
abbrev dktJ19_init_0 : List UInt8 := dkwJ19_init_0 ++ dktJ19_init_1
theorem dksJ19_init_0 : cJ19_init.data.toList.drop 0 = dktJ19_init_0 := by decide +kernel
theorem dksJ19_init_1 : cJ19_init.data.toList.drop 23 = dktJ19_init_1 := dk_seg dksJ19_init_0 23 rfl rfl
theorem dksJ19_init_2 : cJ19_init.data.toList.drop 47 = dktJ19_init_2 := dk_seg dksJ19_init_1 24 rfl rfl
theorem dksJ19_init_3 : cJ19_init.data.toList.drop 69 = dktJ19_init_3 := dk_seg dksJ19_init_2 22 rfl rfl
theorem dJ19_init_0 : decode cJ19_init 0 = .ok (.aload_n 0, 1) := dk_42 (dk_at dksJ19_init_0 0 rfl rfl)
theorem dJ19_init_1 : decode cJ19_init 1 = .ok (.invokespecial 3, 3) := dk_183 0 3 (dk_at dksJ19_init_0 1 rfl rfl)
theorem dJ19_init_4 : decode cJ19_init 4 = .ok (.lload_n 1, 1) := dk_31 (dk_at dksJ19_init_0 4 rfl rfl)
theorem dJ19_init_5 : decode cJ19_init 5 = .ok (.lconst 0, 1) := dk_9 (dk_at dksJ19_init_0 5 rfl rfl)
theorem dJ19_init_6 : decode cJ19_init 6 = .ok (.lcmp, 1) := dk_148 (dk_at dksJ19_init_0 6 rfl rfl)
theorem dJ19_init_7 : decode cJ19_init 7 = .ok (.ifCond .ge 14, 3) := dk_156 0 14 (dk_at dksJ19_init_0 7 rfl rfl)
theorem dJ19_init_10 : decode cJ19_init 10 = .ok (.lload_n 1, 1) := dk_31 (dk_at dksJ19_init_0 10 rfl rfl)
theorem dJ19_init_11 : decode cJ19_init 11 = .ok (.lneg, 1) := dk_117 (dk_at dksJ19_init_0 11 rfl rfl)
theorem dJ19_init_12 : decode cJ19_init 12 = .ok (.lstore_n 1, 1) := dk_64 (dk_at dksJ19_init_0 12 rfl rfl)
theorem dJ19_init_13 : decode cJ19_init 13 = .ok (.aload_n 0, 1) := dk_42 (dk_at dksJ19_init_0 13 rfl rfl)
theorem dJ19_init_14 : decode cJ19_init 14 = .ok (.iconst (-1), 1) := dk_2 (dk_at dksJ19_init_0 14 rfl rfl)
theorem dJ19_init_15 : decode cJ19_init 15 = .ok (.putfield 32, 3) := dk_181 0 32 (dk_at dksJ19_init_0 15 rfl rfl)
theorem dJ19_init_18 : decode cJ19_init 18 = .ok (.goto 8, 3) := dk_167 0 8 (dk_at dksJ19_init_0 18 rfl rfl)
theorem dJ19_init_21 : decode cJ19_init 21 = .ok (.aload_n 0, 1) := dk_42 (dk_at dksJ19_init_0 21 rfl rfl)
theorem dJ19_init_22 : decode cJ19_init 22 = .ok (.iconst 1, 1) := dk_4 (dk_at dksJ19_init_0 22 rfl rfl)
theorem dJ19_init_23 : decode cJ19_init 23 = .ok (.putfield 32, 3) := dk_181 0 32 (dk_at dksJ19_init_1 0 rfl rfl)
theorem dJ19_init_26 : decode cJ19_init 26 = .ok (.lload_n 1, 1) := dk_31 (dk_at dksJ19_init_1 3 rfl rfl)
theorem dJ19_init_27 : decode cJ19_init 27 = .ok (.bipush 32, 2) := dk_16 32 (dk_at dksJ19_init_1 4 rfl rfl)
theorem dJ19_init_29 : decode cJ19_init 29 = .ok (.lushr, 1) := dk_125 (dk_at dksJ19_init_1 6 rfl rfl)
theorem dJ19_init_30 : decode cJ19_init 30 = .ok (.l2i, 1) := dk_136 (dk_at dksJ19_init_1 7 rfl rfl)
theorem dJ19_init_31 : decode cJ19_init 31 = .ok (.istore_n 3, 1) := dk_62 (dk_at dksJ19_init_1 8 rfl rfl)
theorem dJ19_init_32 : decode cJ19_init 32 = .ok (.iload_n 3, 1) := dk_29 (dk_at dksJ19_init_1 9 rfl rfl)
theorem dJ19_init_33 : decode cJ19_init 33 = .ok (.ifCond .ne 21, 3) := dk_154 0 21 (dk_at dksJ19_init_1 10 rfl rfl)
theorem dJ19_init_36 : decode cJ19_init 36 = .ok (.aload_n 0, 1) := dk_42 (dk_at dksJ19_init_1 13 rfl rfl)
theorem dJ19_init_37 : decode cJ19_init 37 = .ok (.iconst 1, 1) := dk_4 (dk_at dksJ19_init_1 14 rfl rfl)
theorem dJ19_init_38 : decode cJ19_init 38 = .ok (.newarray .int, 2) := dk_188_10 (dk_at dksJ19_init_1 15 rfl rfl)
theorem dJ19_init_40 : decode cJ19_init 40 = .ok (.putfield 28, 3) := dk_181 0 28 (dk_at dksJ19_init_1 17 rfl rfl)
theorem dJ19_init_43 : decode cJ19_init 43 = .ok (.aload_n 0, 1) := dk_42 (dk_at dksJ19_init_1 20 rfl rfl)
theorem dJ19_init_44 : decode cJ19_init 44 = .ok (.getfield 28, 3) := dk_180 0 28 (dk_at dksJ19_init_1 21 rfl rfl)
theorem dJ19_init_47 : decode cJ19_init 47 = .ok (.iconst 0, 1) := dk_3 (dk_at dksJ19_init_2 0 rfl rfl)
theorem dJ19_init_48 : decode cJ19_init 48 = .ok (.lload_n 1, 1) := dk_31 (dk_at dksJ19_init_2 1 rfl rfl)
theorem dJ19_init_49 : decode cJ19_init 49 = .ok (.l2i, 1) := dk_136 (dk_at dksJ19_init_2 2 rfl rfl)
theorem dJ19_init_50 : decode cJ19_init 50 = .ok (.iastore, 1) := dk_79 (dk_at dksJ19_init_2 3 rfl rfl)
theorem dJ19_init_51 : decode cJ19_init 51 = .ok (.goto 25, 3) := dk_167 0 25 (dk_at dksJ19_init_2 4 rfl rfl)
theorem dJ19_init_54 : decode cJ19_init 54 = .ok (.aload_n 0, 1) := dk_42 (dk_at dksJ19_init_2 7 rfl rfl)
theorem dJ19_init_55 : decode cJ19_init 55 = .ok (.iconst 2, 1) := dk_5 (dk_at dksJ19_init_2 8 rfl rfl)
theorem dJ19_init_56 : decode cJ19_init 56 = .ok (.newarray .int, 2) := dk_188_10 (dk_at dksJ19_init_2 9 rfl rfl)
theorem dJ19_init_58 : decode cJ19_init 58 = .ok (.putfield 28, 3) := dk_181 0 28 (dk_at dksJ19_init_2 11 rfl rfl)
theorem dJ19_init_61 : decode cJ19_init 61 = .ok (.aload_n 0, 1) := dk_42 (dk_at dksJ19_init_2 14 rfl rfl)
theorem dJ19_init_62 : decode cJ19_init 62 = .ok (.getfield 28, 3) := dk_180 0 28 (dk_at dksJ19_init_2 15 rfl rfl)
theorem dJ19_init_65 : decode cJ19_init 65 = .ok (.iconst 0, 1) := dk_3 (dk_at dksJ19_init_2 18 rfl rfl)
theorem dJ19_init_66 : decode cJ19_init 66 = .ok (.iload_n 3, 1) := dk_29 (dk_at dksJ19_init_2 19 rfl rfl)
theorem dJ19_init_67 : decode cJ19_init 67 = .ok (.iastore, 1) := dk_79 (dk_at dksJ19_init_2 20 rfl rfl)
theorem dJ19_init_68 : decode cJ19_init 68 = .ok (.aload_n 0, 1) := dk_42 (dk_at dksJ19_init_2 21 rfl rfl)
theorem dJ19_init_69 : decode cJ19_init 69 = .ok (.getfield 28, 3) := dk_180 0 28 (dk_at dksJ19_init_3 0 rfl rfl)
theorem dJ19_init_72 : decode cJ19_init 72 = .ok (.iconst 1, 1) := dk_4 (dk_at dksJ19_init_3 3 rfl rfl)
theorem dJ19_init_73 : decode cJ19_init 73 = .ok (.lload_n 1, 1) := dk_31 (dk_at dksJ19_init_3 4 rfl rfl)
theorem dJ19_init_74 : decode cJ19_init 74 = .ok (.l2i, 1) := dk_136 (dk_at dksJ19_init_3 5 rfl rfl)
theorem dJ19_init_75 : decode cJ19_init 75 = .ok (.iastore, 1) := dk_79 (dk_at dksJ19_init_3 6 rfl rfl)
theorem dJ19_init_76 : decode cJ19_init 76 = .ok (.return_, 1) := dk_177 (dk_at dksJ19_init_3 7 rfl rfl)
theorem dgc_z : dgc (0 : Int).natAbs = 1 := by rw [show ((0 : Int).natAbs) = 0 from rfl, dgc, if_pos (by decide)]
theorem cpt_lm {v : Int} (h : v = -9223372036854775808) : cpt v = v := by subst h; rfl
theorem nd_J7_init : yJ7_init.cls ≠ "java/lang/invoke/MethodHandle" ∧ yJ7_init.cls ≠ "java/lang/invoke/VarHandle" ∧ (parseMethodDescriptor yJ7_init.desc).map (fun d => d.parameters.length) = some 0 := by decide +kernel
set_option maxRecDepth 100000 in
set_option maxHeartbeats 16000000 in
theorem ct_J7_init {g : GG} {l : Launch} (q : Nat)  : Ct g l yJ7_init (ws_ yJ7_init cJ7_init 1 (Option.none : Option Jvm.ClassFile.FieldType)) 1 12 0 0 [.ref q] [] (fun v9 Ws9 => v9 = none ∧ Ws9 = []) (nox) := by
  refine Ct.of (cc := cJ7_init) (nL := 1) (ret := (Option.none : Option Jvm.ClassFile.FieldType)) (by decide) rfl (Nat.le_of_ble_eq_true rfl) ?_
  intro x hg hl hPo hPx hmc hms F
  subst hg; subst hl
  refine SW.cast (L' := [(0, .ref q)]) ?_ rfl rfl rfl
  refine sw_aload_n (n := 1) F 0 (some q) rfl rfl rfl dJ7_init_0 rfl ?_
  refine sw_objInit (n := 4) F q259 q_oi q_oc (by decide) dJ7_init_1 rfl ?_
  exact sw_vret F rfl dJ7_init_4 (by rw [hPo]; exact ⟨rfl, rfl⟩)
theorem nd_J8_init : yJ8_init.cls ≠ "java/lang/invoke/MethodHandle" ∧ yJ8_init.cls ≠ "java/lang/invoke/VarHandle" ∧ (parseMethodDescriptor yJ8_init.desc).map (fun d => d.parameters.length) = some 4 := by decide +kernel
set_option maxRecDepth 100000 in
set_option maxHeartbeats 16000000 in
theorem ct_J8_init {g : GG} {l : Launch} (q : Nat) (o1 : Option Nat) (c : Int) (s : Int) (p : Int)  : Ct g l yJ8_init (ws_ yJ8_init cJ8_init 6 (Option.none : Option Jvm.ClassFile.FieldType)) 2 32 0 0 [.ref q, va_rf o1, .long (jL c), .int (jI s), .int (jI p)] [ob g q 13 [.null, .int (jI 0), .int (jI 0), .null, .long (jL 0)]] (fun v9 Ws9 => v9 = none ∧ Ws9 = [ob g q 13 [va_rf o1, .int (jI s), .int (jI p), .null, .long (jL c)]]) (nox) := by
  refine Ct.of (cc := cJ8_init) (nL := 6) (ret := (Option.none : Option Jvm.ClassFile.FieldType)) (by decide) rfl (by cases o1 <;> exact Nat.le_of_ble_eq_true rfl) ?_
  intro x hg hl hPo hPx hmc hms F
  subst hg; subst hl
  refine SW.cast (L' := [(0, .ref q), (1, va_rf o1), (2, .long (jL c)), (4, .int (jI s)), (5, .int (jI p))]) ?_ rfl (by cases o1 <;> rfl) rfl
  refine sw_aload_n (n := 1) F 0 (some q) rfl rfl rfl dJ8_init_0 rfl ?_
  refine sw_callI (n := 4) F (ct_J7_init (g := xg x) (l := xl x) q ) q256 q257 q111 q258 rfl nd_J7_init rfl (by decide) [0] rfl [ob (xg x) q 13 [.null, .int (jI 0), .int (jI 0), .null, .long (jL 0)]] rfl 0 0 ⟨by omega, by omega⟩ [] rfl (Nat.le_of_ble_eq_true rfl) dJ8_init_1 rfl (fun _ _ h => h.elim) (fun v Ws h => ?_)
  obtain ⟨rfl, rfl⟩ := h
  show SW x [ob (xg x) q 13 [.null, .int (jI 0), .int (jI 0), .null, .long (jL 0)]] _ _ _ _ []
  refine sw_aload_n (n := 5) F 0 (some q) rfl rfl rfl dJ8_init_4 rfl ?_
  refine sw_iload (n := 7) F 3 rfl dJ8_init_5 rfl ?_
  refine sw_putF (n := 10) F rfl 0 rfl (k := 1) ⟨(RJ8, TJ8, 5), rfl, by decide, q261, in_J8, Or.inl rfl⟩ .int ⟨(RJ8, TJ8, 5), rfl, rfl, rfl, tyJ8_ok 1 (by decide), nmJ8, tyJ8, tyJ8_ok⟩ rfl rfl (Nat.le_of_ble_eq_true rfl) rfl [ob (xg x) q 13 [.null, .int (jI s), .int (jI 0), .null, .long (jL 0)]] rfl dJ8_init_7 rfl ?_
  refine sw_aload_n (n := 11) F 0 (some q) rfl rfl rfl dJ8_init_10 rfl ?_
  refine sw_iload (n := 13) F 4 rfl dJ8_init_11 rfl ?_
  refine sw_put (n := 16) F 0 rfl (k := 2) ⟨(RJ8, TJ8, 5), rfl, by decide, q262, in_J8, Or.inl rfl⟩ .int ⟨(RJ8, TJ8, 5), rfl, rfl, tyJ8_ok 2 (by decide), nmJ8, tyJ8, tyJ8_ok⟩ rfl rfl (Nat.le_of_ble_eq_true rfl) rfl [ob (xg x) q 13 [.null, .int (jI s), .int (jI p), .null, .long (jL 0)]] rfl dJ8_init_13 rfl ?_
  refine sw_aload_n (n := 17) F 0 (some q) rfl rfl rfl dJ8_init_16 rfl ?_
  refine sw_lload_n (n := 18) F 2 rfl rfl dJ8_init_17 rfl ?_
  refine sw_putF (n := 21) F rfl 0 rfl (k := 4) ⟨(RJ8, TJ8, 5), rfl, by decide, q264, in_J8, Or.inl rfl⟩ .long ⟨(RJ8, TJ8, 5), rfl, rfl, rfl, tyJ8_ok 4 (by decide), nmJ8, tyJ8, tyJ8_ok⟩ rfl rfl (Nat.le_of_ble_eq_true rfl) rfl [ob (xg x) q 13 [.null, .int (jI s), .int (jI p), .null, .long (jL c)]] rfl dJ8_init_18 rfl ?_
  refine sw_aload_n (n := 22) F 0 (some q) rfl rfl rfl dJ8_init_21 rfl ?_
  refine sw_aload_n (n := 23) F 1 o1 rfl rfl rfl dJ8_init_22 rfl ?_
  refine sw_putF (n := 26) F rfl 0 rfl (k := 0) ⟨(RJ8, TJ8, 5), rfl, by decide, q260, in_J8, Or.inl rfl⟩ (tyJ8 0) ⟨(RJ8, TJ8, 5), rfl, rfl, rfl, tyJ8_ok 0 (by decide), nmJ8, tyJ8, tyJ8_ok⟩ (va_rf_nar _ (by decide)) (va_rf_fit _ (by decide)) (Nat.le_of_ble_eq_true rfl) rfl [ob (xg x) q 13 [va_rf o1, .int (jI s), .int (jI p), .null, .long (jL c)]] rfl dJ8_init_23 rfl ?_
  exact sw_vret F rfl dJ8_init_26 (by rw [hPo]; exact ⟨rfl, rfl⟩)
theorem nd_J8_zeroValueOf : yJ8_zeroValueOf.cls ≠ "java/lang/invoke/MethodHandle" ∧ yJ8_zeroValueOf.cls ≠ "java/lang/invoke/VarHandle" ∧ (parseMethodDescriptor yJ8_zeroValueOf.desc).map (fun d => d.parameters.length) = some 1 := by decide +kernel
set_option maxRecDepth 100000 in
set_option maxHeartbeats 16000000 in
theorem ct_J8_zeroValueOf {g : GG} {l : Launch} (M : Nat → Option PV) (s : Int) (hs : -2147483648 ≤ s ∧ s ≤ 2147483647) : Ct g l yJ8_zeroValueOf (ws_ yJ8_zeroValueOf cJ8_zeroValueOf 1 (Option.some (Jvm.ClassFile.FieldType.object "java/math/BigDecimal"))) 3 57 1 5 [.int (jI s)] [pl g M] (fun v9 Ws9 => ∃ M1 : Nat → Option PV, ∃ r1 : Nat, ∃ o1 : Option Nat, v9 = some (.ref r1) ∧ (le_ M M1) ∧ (at_ g M1 r1 (vD 0 s o1)) ∧ Ws9 = [pl g M1]) (nox) := by
  refine Ct.of (cc := cJ8_zeroValueOf) (nL := 1) (ret := (Option.some (Jvm.ClassFile.FieldType.object "java/math/BigDecimal"))) (by decide) rfl (Nat.le_of_ble_eq_true rfl) ?_
  intro x hg hl hPo hPx hmc hms F
  subst hg; subst hl
  refine SW.cast (L' := [(0, .int (jI s))]) ?_ rfl rfl rfl
  refine sw_iload_n (n := 1) F 0 rfl rfl dJ8_zeroValueOf_0 rfl ?_
  refine sw_if_lt (n := 4) F (by omega) (tgt := 18) dJ8_zeroValueOf_1 (by decide) rfl (fun c_1 => ?_) (fun c_1 => ?_)
  ·
    refine sw_new (n := 21) F (ci := 13) (N := 5) RJ8 TJ8 tyJ8 rfl q251 q252 q112 in_J8 tyJ8_ok (fs := [.null, .int (jI 0), .int (jI 0), .null, .long (jL 0)]) rfl 0 0 ⟨by omega, by omega⟩ dJ8_zeroValueOf_18 rfl (fun q_1 => ?_)
    refine sw_dup (n := 22) F rfl dJ8_zeroValueOf_21 rfl ?_
    refine sw_gets (n := 25) F (kBZ F.gx.1).1 q1052 (Or.inl rfl) dJ8_zeroValueOf_22 rfl ?_
    have hk_2 : at_ (xg x) M (tR (xg x) (Jvm.Term.static "java/math/BigInteger" "ZERO" "Ljava/math/BigInteger;")) (vI 0 (tR (xg x) (.field (Jvm.Term.static "java/math/BigInteger" "ZERO" "Ljava/math/BigInteger;") "java/math/BigInteger" "mag" "[I"))) := Or.inr (kBZ F.gx.1).2
    refine sw_lconst (n := 26) F 0 (by decide) dJ8_zeroValueOf_25 rfl ?_
    refine sw_iload_n (n := 27) F 0 rfl rfl dJ8_zeroValueOf_26 rfl ?_
    refine sw_iconst (n := 28) F (1) (by decide) dJ8_zeroValueOf_27 rfl ?_
    refine sw_callI (n := 31) F (ct_J8_init (g := xg x) (l := xl x) q_1 (some (tR (xg x) (Jvm.Term.static "java/math/BigInteger" "ZERO" "Ljava/math/BigInteger;"))) 0 s 1 ) q253 q254 q112 q255 rfl nd_J8_init rfl (by decide) [0, 1] rfl [pl (xg x) M] rfl 0 0 ⟨by omega, by omega⟩ [.ref q_1] rfl (Nat.le_of_ble_eq_true rfl) dJ8_zeroValueOf_28 rfl (fun _ _ h => h.elim) (fun v Ws h => ?_)
    obtain ⟨rfl, rfl⟩ := h
    show SW x [ob (xg x) q_1 13 [va_rf (some (tR (xg x) (Jvm.Term.static "java/math/BigInteger" "ZERO" "Ljava/math/BigInteger;"))), .int (jI s), .int (jI 1), .null, .long (jL 0)], pl (xg x) M] _ _ _ _ [.ref q_1]
    refine SW.cast (Ps' := ob (xg x) q_1 13 (flD 0 s (some (tR (xg x) (Jvm.Term.static "java/math/BigInteger" "ZERO" "Ljava/math/BigInteger;"))) 1) :: [pl (xg x) M]) ?_ (by first | rfl | (simp only [flD, cpt_1 (show fit 0 from ⟨by decide, by decide⟩)] <;> rfl)) rfl rfl
    refine sw_absD F (Or.inl (by rw [dgc_z] <;> rfl)) (fun _ => ⟨by decide, by decide⟩) (fun b h => by cases h; exact ⟨_, hk_2⟩) (fun M_3 hle_4 hat_5 => ?_)
    show SW x [pl (xg x) M_3] _ _ _ _ [.ref q_1]
    exact sw_aret F (some q_1) _ rfl rfl (by first | exact Or.inl ⟨_, rfl⟩ | exact Or.inr ⟨_, rfl⟩) dJ8_zeroValueOf_31 (by rw [hPo]; exact ⟨M_3, q_1, some (tR (xg x) (Jvm.Term.static "java/math/BigInteger" "ZERO" "Ljava/math/BigInteger;")), rfl, hle_4, hat_5, rfl⟩)
  ·
    refine sw_iload_n (n := 5) F 0 rfl rfl dJ8_zeroValueOf_4 rfl ?_
    refine sw_gets (n := 8) F (kZSB F.gx.1).1 q1050 (Or.inl rfl) dJ8_zeroValueOf_5 rfl ?_
    refine sw_alenK (n := 9) F ((kZSB F.gx.1).2.1.A F) dJ8_zeroValueOf_8 rfl ?_
    show SW x _ _ _ _ _ [.int (jI 16), .int (jI s)]
    refine sw_icmp_ge (n := 12) F (by omega) (by decide) (tgt := 18) dJ8_zeroValueOf_9 (by decide) rfl (fun c_9 => ?_) (fun c_9 => ?_)
    ·
      refine sw_new (n := 21) F (ci := 13) (N := 5) RJ8 TJ8 tyJ8 rfl q251 q252 q112 in_J8 tyJ8_ok (fs := [.null, .int (jI 0), .int (jI 0), .null, .long (jL 0)]) rfl 0 0 ⟨by omega, by omega⟩ dJ8_zeroValueOf_18 rfl (fun q_6 => ?_)
      refine sw_dup (n := 22) F rfl dJ8_zeroValueOf_21 rfl ?_
      refine sw_gets (n := 25) F (kBZ F.gx.1).1 q1052 (Or.inl rfl) dJ8_zeroValueOf_22 rfl ?_
      have hk_7 : at_ (xg x) M (tR (xg x) (Jvm.Term.static "java/math/BigInteger" "ZERO" "Ljava/math/BigInteger;")) (vI 0 (tR (xg x) (.field (Jvm.Term.static "java/math/BigInteger" "ZERO" "Ljava/math/BigInteger;") "java/math/BigInteger" "mag" "[I"))) := Or.inr (kBZ F.gx.1).2
      refine sw_lconst (n := 26) F 0 (by decide) dJ8_zeroValueOf_25 rfl ?_
      refine sw_iload_n (n := 27) F 0 rfl rfl dJ8_zeroValueOf_26 rfl ?_
      refine sw_iconst (n := 28) F (1) (by decide) dJ8_zeroValueOf_27 rfl ?_
      refine sw_callI (n := 31) F (ct_J8_init (g := xg x) (l := xl x) q_6 (some (tR (xg x) (Jvm.Term.static "java/math/BigInteger" "ZERO" "Ljava/math/BigInteger;"))) 0 s 1 ) q253 q254 q112 q255 rfl nd_J8_init rfl (by decide) [0, 1] rfl [pl (xg x) M] rfl 0 0 ⟨by omega, by omega⟩ [.ref q_6] rfl (Nat.le_of_ble_eq_true rfl) dJ8_zeroValueOf_28 rfl (fun _ _ h => h.elim) (fun v Ws h => ?_)
      obtain ⟨rfl, rfl⟩ := h
      show SW x [ob (xg x) q_6 13 [va_rf (some (tR (xg x) (Jvm.Term.static "java/math/BigInteger" "ZERO" "Ljava/math/BigInteger;"))), .int (jI s), .int (jI 1), .null, .long (jL 0)], pl (xg x) M] _ _ _ _ [.ref q_6]
      refine SW.cast (Ps' := ob (xg x) q_6 13 (flD 0 s (some (tR (xg x) (Jvm.Term.static "java/math/BigInteger" "ZERO" "Ljava/math/BigInteger;"))) 1) :: [pl (xg x) M]) ?_ (by first | rfl | (simp only [flD, cpt_1 (show fit 0 from ⟨by decide, by decide⟩)] <;> rfl)) rfl rfl
      refine sw_absD F (Or.inl (by rw [dgc_z] <;> rfl)) (fun _ => ⟨by decide, by decide⟩) (fun b h => by cases h; exact ⟨_, hk_7⟩) (fun M_8 hle_9 hat_10 => ?_)
      show SW x [pl (xg x) M_8] _ _ _ _ [.ref q_6]
      exact sw_aret F (some q_6) _ rfl rfl (by first | exact Or.inl ⟨_, rfl⟩ | exact Or.inr ⟨_, rfl⟩) dJ8_zeroValueOf_31 (by rw [hPo]; exact ⟨M_8, q_6, some (tR (xg x) (Jvm.Term.static "java/math/BigInteger" "ZERO" "Ljava/math/BigInteger;")), rfl, hle_9, hat_10, rfl⟩)
    ·
      refine sw_gets (n := 15) F (kZSB F.gx.1).1 q1050 (Or.inl rfl) dJ8_zeroValueOf_12 rfl ?_
      refine sw_iload_n (n := 16) F 0 rfl rfl dJ8_zeroValueOf_15 rfl ?_
      refine sw_aaloadK (n := 17) F rfl ((kZSB F.gx.1).2.1.A F) ((s : Int).toNat) (by omega) (by omega) dJ8_zeroValueOf_16 rfl ?_
      show SW x _ _ _ _ _ [.ref (tR (xg x) (eZSB ((s : Int).toNat)))]
      have hk_11 : at_ (xg x) M (tR (xg x) (eZSB ((s : Int).toNat))) (vD 0 s (some (tR (xg x) (.field (eZSB ((s : Int).toNat)) "java/math/BigDecimal" "intVal" "Ljava/math/BigInteger;")))) := by have h9 : at_ (xg x) M (tR (xg x) (eZSB ((s : Int).toNat))) (vD 0 (↑((s : Int).toNat)) (some (tR (xg x) (.field (eZSB ((s : Int).toNat)) "java/math/BigDecimal" "intVal" "Ljava/math/BigInteger;")))) := Or.inr ((kZSB F.gx.1).2.2 ((s : Int).toNat) (by omega)); rw [show (((s : Int).toNat : Nat) : Int) = s by omega] at h9; exact h9
      exact sw_aret F (some (tR (xg x) (eZSB ((s : Int).toNat)))) _ rfl rfl (by first | exact Or.inl ⟨_, rfl⟩ | exact Or.inr ⟨_, rfl⟩) dJ8_zeroValueOf_17 (by rw [hPo]; exact ⟨M, tR (xg x) (eZSB ((s : Int).toNat)), some (tR (xg x) (.field (eZSB ((s : Int).toNat)) "java/math/BigDecimal" "intVal" "Ljava/math/BigInteger;")), rfl, le_.rf, hk_11, rfl⟩)
theorem nd_J8_valueOf : yJ8_valueOf.cls ≠ "java/lang/invoke/MethodHandle" ∧ yJ8_valueOf.cls ≠ "java/lang/invoke/VarHandle" ∧ (parseMethodDescriptor yJ8_valueOf.desc).map (fun d => d.parameters.length) = some 1 := by decide +kernel
set_option maxRecDepth 100000 in
set_option maxHeartbeats 16000000 in
theorem ct_J8_valueOf {g : GG} {l : Launch} (M : Nat → Option PV) (v : Int) (hv : -9223372036854775808 ≤ v ∧ v ≤ 9223372036854775807) : Ct g l yJ8_valueOf (ws_ yJ8_valueOf cJ8_valueOf 2 (Option.some (Jvm.ClassFile.FieldType.object "java/math/BigDecimal"))) 3 57 1 5 [.long (jL v)] [pl g M] (fun v9 Ws9 => ∃ M1 : Nat → Option PV, ∃ r1 : Nat, ∃ o1 : Option Nat, v9 = some (.ref r1) ∧ (le_ M M1) ∧ (at_ g M1 r1 (vD v 0 o1)) ∧ Ws9 = [pl g M1]) (nox) := by
  refine Ct.of (cc := cJ8_valueOf) (nL := 2) (ret := (Option.some (Jvm.ClassFile.FieldType.object "java/math/BigDecimal"))) (by decide) rfl (Nat.le_of_ble_eq_true rfl) ?_
  intro x hg hl hPo hPx hmc hms F
  subst hg; subst hl
  refine SW.cast (L' := [(0, .long (jL v))]) ?_ rfl rfl rfl
  refine sw_lload_n (n := 1) F 0 rfl rfl dJ8_valueOf_0 rfl ?_
  refine sw_lconst (n := 2) F 0 (by decide) dJ8_valueOf_1 rfl ?_
  refine sw_lcmp (n := 3) F (by omega) (by decide) dJ8_valueOf_2 rfl ?_
  refine sw_if_lt (n := 6) F (by omega) (tgt := 23) dJ8_valueOf_3 (by decide) rfl (fun c_3 => ?_) (fun c_3 => ?_)
  ·
    have c_3 : v < 0 := by revert c_3; (repeat' split) <;> omega
    refine sw_lload_n (n := 24) F 0 rfl rfl dJ8_valueOf_23 rfl ?_
    refine sw_ldc2 (n := 27) F (-9223372036854775808) q250 (by decide) dJ8_valueOf_24 rfl ?_
    refine sw_lcmp (n := 28) F (by omega) (by decide) dJ8_valueOf_27 rfl ?_
    refine sw_if_eq (n := 31) F (by omega) (tgt := 43) dJ8_valueOf_28 (by decide) rfl (fun c_28 => ?_) (fun c_28 => ?_)
    ·
      have c_28 : v = -9223372036854775808 := by revert c_28; (repeat' split) <;> omega
      have hv9 : v = -9223372036854775808 := by omega
      refine sw_new (n := 46) F (ci := 13) (N := 5) RJ8 TJ8 tyJ8 rfl q251 q252 q112 in_J8 tyJ8_ok (fs := [.null, .int (jI 0), .int (jI 0), .null, .long (jL 0)]) rfl 0 0 ⟨by omega, by omega⟩ dJ8_valueOf_43 rfl (fun q_1 => ?_)
      refine sw_dup (n := 47) F rfl dJ8_valueOf_46 rfl ?_
      refine sw_gets (n := 50) F (kIFL F.gx.1).1 q276 (Or.inl rfl) dJ8_valueOf_47 rfl ?_
      have hk_2 : at_ (xg x) M (tR (xg x) (Jvm.Term.static "java/math/BigDecimal" "INFLATED_BIGINT" "Ljava/math/BigInteger;")) (vI (-9223372036854775808) (tR (xg x) (.field (Jvm.Term.static "java/math/BigDecimal" "INFLATED_BIGINT" "Ljava/math/BigInteger;") "java/math/BigInteger" "mag" "[I"))) := Or.inr (kIFL F.gx.1).2
      refine sw_lload_n (n := 51) F 0 rfl rfl dJ8_valueOf_50 rfl ?_
      refine sw_iconst (n := 52) F (0) (by decide) dJ8_valueOf_51 rfl ?_
      refine sw_iconst (n := 53) F (0) (by decide) dJ8_valueOf_52 rfl ?_
      refine sw_callI (n := 56) F (ct_J8_init (g := xg x) (l := xl x) q_1 (some (tR (xg x) (Jvm.Term.static "java/math/BigDecimal" "INFLATED_BIGINT" "Ljava/math/BigInteger;"))) v 0 0 ) q253 q254 q112 q255 rfl nd_J8_init rfl (by decide) [0, 1] rfl [pl (xg x) M] rfl 0 0 ⟨by omega, by omega⟩ [.ref q_1] rfl (Nat.le_of_ble_eq_true rfl) dJ8_valueOf_53 rfl (fun _ _ h => h.elim) (fun v Ws h => ?_)
      obtain ⟨rfl, rfl⟩ := h
      show SW x [ob (xg x) q_1 13 [va_rf (some (tR (xg x) (Jvm.Term.static "java/math/BigDecimal" "INFLATED_BIGINT" "Ljava/math/BigInteger;"))), .int (jI 0), .int (jI 0), .null, .long (jL v)], pl (xg x) M] _ _ _ _ [.ref q_1]
      refine SW.cast (Ps' := ob (xg x) q_1 13 (flD v 0 (some (tR (xg x) (Jvm.Term.static "java/math/BigDecimal" "INFLATED_BIGINT" "Ljava/math/BigInteger;"))) 0) :: [pl (xg x) M]) ?_ (by simp only [flD, cpt_lm hv9] <;> rfl) rfl rfl
      refine sw_absD F (Or.inr rfl) (fun h => by cases h) (fun b h => by cases h; exact ⟨_, by rw [hv9]; exact hk_2⟩) (fun M_3 hle_4 hat_5 => ?_)
      show SW x [pl (xg x) M_3] _ _ _ _ [.ref q_1]
      exact sw_aret F (some q_1) _ rfl rfl (by first | exact Or.inl ⟨_, rfl⟩ | exact Or.inr ⟨_, rfl⟩) dJ8_valueOf_56 (by rw [hPo]; exact ⟨M_3, q_1, some (tR (xg x) (Jvm.Term.static "java/math/BigDecimal" "INFLATED_BIGINT" "Ljava/math/BigInteger;")), rfl, hle_4, hat_5, rfl⟩)
    ·
      have c_28 : v ≠ -9223372036854775808 := by revert c_28; (repeat' split) <;> omega
      have hfit : fit v := ⟨by omega, by omega⟩
      refine sw_new (n := 34) F (ci := 13) (N := 5) RJ8 TJ8 tyJ8 rfl q251 q252 q112 in_J8 tyJ8_ok (fs := [.null, .int (jI 0), .int (jI 0), .null, .long (jL 0)]) rfl 0 0 ⟨by omega, by omega⟩ dJ8_valueOf_31 rfl (fun q_6 => ?_)
      refine sw_dup (n := 35) F rfl dJ8_valueOf_34 rfl ?_
      refine sw_null (n := 36) F dJ8_valueOf_35 rfl ?_
      refine sw_lload_n (n := 37) F 0 rfl rfl dJ8_valueOf_36 rfl ?_
      refine sw_iconst (n := 38) F (0) (by decide) dJ8_valueOf_37 rfl ?_
      refine sw_iconst (n := 39) F (0) (by decide) dJ8_valueOf_38 rfl ?_
      refine sw_callI (n := 42) F (ct_J8_init (g := xg x) (l := xl x) q_6 none v 0 0 ) q253 q254 q112 q255 rfl nd_J8_init rfl (by decide) [0, 1] rfl [pl (xg x) M] rfl 0 0 ⟨by omega, by omega⟩ [.ref q_6] rfl (Nat.le_of_ble_eq_true rfl) dJ8_valueOf_39 rfl (fun _ _ h => h.elim) (fun v Ws h => ?_)
      obtain ⟨rfl, rfl⟩ := h
      show SW x [ob (xg x) q_6 13 [va_rf none, .int (jI 0), .int (jI 0), .null, .long (jL v)], pl (xg x) M] _ _ _ _ [.ref q_6]
      refine SW.cast (Ps' := ob (xg x) q_6 13 (flD v 0 none 0) :: [pl (xg x) M]) ?_ (by first | rfl | (simp only [flD, cpt_1 hfit] <;> rfl)) rfl rfl
      refine sw_absD F (Or.inr rfl) (fun _ => hfit) (fun b h => by cases h) (fun M_7 hle_8 hat_9 => ?_)
      show SW x [pl (xg x) M_7] _ _ _ _ [.ref q_6]
      exact sw_aret F (some q_6) _ rfl rfl (by first | exact Or.inl ⟨_, rfl⟩ | exact Or.inr ⟨_, rfl⟩) dJ8_valueOf_42 (by rw [hPo]; exact ⟨M_7, q_6, none, rfl, hle_8, hat_9, rfl⟩)
  ·
    have c_3 : v ≥ 0 := by revert c_3; (repeat' split) <;> omega
    refine sw_lload_n (n := 7) F 0 rfl rfl dJ8_valueOf_6 rfl ?_
    refine sw_gets (n := 10) F (kZTT F.gx.1).1 q248 (Or.inl rfl) dJ8_valueOf_7 rfl ?_
    refine sw_alenK (n := 11) F ((kZTT F.gx.1).2.1.A F) dJ8_valueOf_10 rfl ?_
    show SW x _ _ _ _ _ [.int (jI 11), .long (jL v)]
    refine sw_i2l (n := 12) F (by decide) dJ8_valueOf_11 rfl ?_
    refine sw_lcmp (n := 13) F (by omega) (by decide) dJ8_valueOf_12 rfl ?_
    refine sw_if_ge (n := 16) F (by omega) (tgt := 23) dJ8_valueOf_13 (by decide) rfl (fun c_13 => ?_) (fun c_13 => ?_)
    ·
      have c_13 : v ≥ 11 := by revert c_13; (repeat' split) <;> omega
      refine sw_lload_n (n := 24) F 0 rfl rfl dJ8_valueOf_23 rfl ?_
      refine sw_ldc2 (n := 27) F (-9223372036854775808) q250 (by decide) dJ8_valueOf_24 rfl ?_
      refine sw_lcmp (n := 28) F (by omega) (by decide) dJ8_valueOf_27 rfl ?_
      refine sw_if_eq (n := 31) F (by omega) (tgt := 43) dJ8_valueOf_28 (by decide) rfl (fun c_28 => ?_) (fun c_28 => ?_)
      ·
        have c_28 : v = -9223372036854775808 := by revert c_28; (repeat' split) <;> omega
        have hv9 : v = -9223372036854775808 := by omega
        refine sw_new (n := 46) F (ci := 13) (N := 5) RJ8 TJ8 tyJ8 rfl q251 q252 q112 in_J8 tyJ8_ok (fs := [.null, .int (jI 0), .int (jI 0), .null, .long (jL 0)]) rfl 0 0 ⟨by omega, by omega⟩ dJ8_valueOf_43 rfl (fun q_10 => ?_)
        refine sw_dup (n := 47) F rfl dJ8_valueOf_46 rfl ?_
        refine sw_gets (n := 50) F (kIFL F.gx.1).1 q276 (Or.inl rfl) dJ8_valueOf_47 rfl ?_
        have hk_11 : at_ (xg x) M (tR (xg x) (Jvm.Term.static "java/math/BigDecimal" "INFLATED_BIGINT" "Ljava/math/BigInteger;")) (vI (-9223372036854775808) (tR (xg x) (.field (Jvm.Term.static "java/math/BigDecimal" "INFLATED_BIGINT" "Ljava/math/BigInteger;") "java/math/BigInteger" "mag" "[I"))) := Or.inr (kIFL F.gx.1).2
        refine sw_lload_n (n := 51) F 0 rfl rfl dJ8_valueOf_50 rfl ?_
        refine sw_iconst (n := 52) F (0) (by decide) dJ8_valueOf_51 rfl ?_
        refine sw_iconst (n := 53) F (0) (by decide) dJ8_valueOf_52 rfl ?_
        refine sw_callI (n := 56) F (ct_J8_init (g := xg x) (l := xl x) q_10 (some (tR (xg x) (Jvm.Term.static "java/math/BigDecimal" "INFLATED_BIGINT" "Ljava/math/BigInteger;"))) v 0 0 ) q253 q254 q112 q255 rfl nd_J8_init rfl (by decide) [0, 1] rfl [pl (xg x) M] rfl 0 0 ⟨by omega, by omega⟩ [.ref q_10] rfl (Nat.le_of_ble_eq_true rfl) dJ8_valueOf_53 rfl (fun _ _ h => h.elim) (fun v Ws h => ?_)
        obtain ⟨rfl, rfl⟩ := h
        show SW x [ob (xg x) q_10 13 [va_rf (some (tR (xg x) (Jvm.Term.static "java/math/BigDecimal" "INFLATED_BIGINT" "Ljava/math/BigInteger;"))), .int (jI 0), .int (jI 0), .null, .long (jL v)], pl (xg x) M] _ _ _ _ [.ref q_10]
        refine SW.cast (Ps' := ob (xg x) q_10 13 (flD v 0 (some (tR (xg x) (Jvm.Term.static "java/math/BigDecimal" "INFLATED_BIGINT" "Ljava/math/BigInteger;"))) 0) :: [pl (xg x) M]) ?_ (by simp only [flD, cpt_lm hv9] <;> rfl) rfl rfl
        refine sw_absD F (Or.inr rfl) (fun h => by cases h) (fun b h => by cases h; exact ⟨_, by rw [hv9]; exact hk_11⟩) (fun M_12 hle_13 hat_14 => ?_)
        show SW x [pl (xg x) M_12] _ _ _ _ [.ref q_10]
        exact sw_aret F (some q_10) _ rfl rfl (by first | exact Or.inl ⟨_, rfl⟩ | exact Or.inr ⟨_, rfl⟩) dJ8_valueOf_56 (by rw [hPo]; exact ⟨M_12, q_10, some (tR (xg x) (Jvm.Term.static "java/math/BigDecimal" "INFLATED_BIGINT" "Ljava/math/BigInteger;")), rfl, hle_13, hat_14, rfl⟩)
      ·
        have c_28 : v ≠ -9223372036854775808 := by revert c_28; (repeat' split) <;> omega
        have hfit : fit v := ⟨by omega, by omega⟩
        refine sw_new (n := 34) F (ci := 13) (N := 5) RJ8 TJ8 tyJ8 rfl q251 q252 q112 in_J8 tyJ8_ok (fs := [.null, .int (jI 0), .int (jI 0), .null, .long (jL 0)]) rfl 0 0 ⟨by omega, by omega⟩ dJ8_valueOf_31 rfl (fun q_15 => ?_)
        refine sw_dup (n := 35) F rfl dJ8_valueOf_34 rfl ?_
        refine sw_null (n := 36) F dJ8_valueOf_35 rfl ?_
        refine sw_lload_n (n := 37) F 0 rfl rfl dJ8_valueOf_36 rfl ?_
        refine sw_iconst (n := 38) F (0) (by decide) dJ8_valueOf_37 rfl ?_
        refine sw_iconst (n := 39) F (0) (by decide) dJ8_valueOf_38 rfl ?_
        refine sw_callI (n := 42) F (ct_J8_init (g := xg x) (l := xl x) q_15 none v 0 0 ) q253 q254 q112 q255 rfl nd_J8_init rfl (by decide) [0, 1] rfl [pl (xg x) M] rfl 0 0 ⟨by omega, by omega⟩ [.ref q_15] rfl (Nat.le_of_ble_eq_true rfl) dJ8_valueOf_39 rfl (fun _ _ h => h.elim) (fun v Ws h => ?_)
        obtain ⟨rfl, rfl⟩ := h
        show SW x [ob (xg x) q_15 13 [va_rf none, .int (jI 0), .int (jI 0), .null, .long (jL v)], pl (xg x) M] _ _ _ _ [.ref q_15]
        refine SW.cast (Ps' := ob (xg x) q_15 13 (flD v 0 none 0) :: [pl (xg x) M]) ?_ (by first | rfl | (simp only [flD, cpt_1 hfit] <;> rfl)) rfl rfl
        refine sw_absD F (Or.inr rfl) (fun _ => hfit) (fun b h => by cases h) (fun M_16 hle_17 hat_18 => ?_)
        show SW x [pl (xg x) M_16] _ _ _ _ [.ref q_15]
        exact sw_aret F (some q_15) _ rfl rfl (by first | exact Or.inl ⟨_, rfl⟩ | exact Or.inr ⟨_, rfl⟩) dJ8_valueOf_42 (by rw [hPo]; exact ⟨M_16, q_15, none, rfl, hle_17, hat_18, rfl⟩)
    ·
      have c_13 : v < 11 := by revert c_13; (repeat' split) <;> omega
      refine sw_gets (n := 19) F (kZTT F.gx.1).1 q248 (Or.inl rfl) dJ8_valueOf_16 rfl ?_
      refine sw_lload_n (n := 20) F 0 rfl rfl dJ8_valueOf_19 rfl ?_
      refine sw_l2i (n := 21) F dJ8_valueOf_20 rfl ?_
      refine sw_aaloadK (n := 22) F rfl ((kZTT F.gx.1).2.1.A F) ((v : Int).toNat) (by omega) (by omega) dJ8_valueOf_21 rfl ?_
      show SW x _ _ _ _ _ [.ref (tR (xg x) (eZTT ((v : Int).toNat)))]
      have hk_19 : at_ (xg x) M (tR (xg x) (eZTT ((v : Int).toNat))) (vD v 0 (some (tR (xg x) (.field (eZTT ((v : Int).toNat)) "java/math/BigDecimal" "intVal" "Ljava/math/BigInteger;")))) := by have h9 : at_ (xg x) M (tR (xg x) (eZTT ((v : Int).toNat))) (vD (↑((v : Int).toNat)) 0 (some (tR (xg x) (.field (eZTT ((v : Int).toNat)) "java/math/BigDecimal" "intVal" "Ljava/math/BigInteger;")))) := Or.inr ((kZTT F.gx.1).2.2 ((v : Int).toNat) (by omega)); rw [show (((v : Int).toNat : Nat) : Int) = v by omega] at h9; exact h9
      exact sw_aret F (some (tR (xg x) (eZTT ((v : Int).toNat)))) _ rfl rfl (by first | exact Or.inl ⟨_, rfl⟩ | exact Or.inr ⟨_, rfl⟩) dJ8_valueOf_22 (by rw [hPo]; exact ⟨M, tR (xg x) (eZTT ((v : Int).toNat)), some (tR (xg x) (.field (eZTT ((v : Int).toNat)) "java/math/BigDecimal" "intVal" "Ljava/math/BigInteger;")), rfl, le_.rf, hk_19, rfl⟩)
theorem nd_J8_valueOf_2 : yJ8_valueOf_2.cls ≠ "java/lang/invoke/MethodHandle" ∧ yJ8_valueOf_2.cls ≠ "java/lang/invoke/VarHandle" ∧ (parseMethodDescriptor yJ8_valueOf_2.desc).map (fun d => d.parameters.length) = some 2 := by decide +kernel
set_option maxRecDepth 100000 in
set_option maxHeartbeats 16000000 in
theorem ct_J8_valueOf_2 {g : GG} {l : Launch} (M : Nat → Option PV) (v : Int) (s : Int) (hv : -9223372036854775808 ≤ v ∧ v ≤ 9223372036854775807) (hs : -2147483648 ≤ s ∧ s ≤ 2147483647) : Ct g l yJ8_valueOf_2 (ws_ yJ8_valueOf_2 cJ8_valueOf_2 3 (Option.some (Jvm.ClassFile.FieldType.object "java/math/BigDecimal"))) 4 78 1 5 [.long (jL v), .int (jI s)] [pl g M] (fun v9 Ws9 => ∃ M1 : Nat → Option PV, ∃ r1 : Nat, ∃ o1 : Option Nat, v9 = some (.ref r1) ∧ (le_ M M1) ∧ (at_ g M1 r1 (vD v s o1)) ∧ Ws9 = [pl g M1]) (nox) := by
  refine Ct.of (cc := cJ8_valueOf_2) (nL := 3) (ret := (Option.some (Jvm.ClassFile.FieldType.object "java/math/BigDecimal"))) (by decide) rfl (Nat.le_of_ble_eq_true rfl) ?_
  intro x hg hl hPo hPx hmc hms F
  subst hg; subst hl
  refine SW.cast (L' := [(0, .long (jL v)), (2, .int (jI s))]) ?_ rfl rfl rfl
  refine sw_iload_n (n := 1) F 1 rfl rfl dJ8_valueOf_2_0 rfl ?_
  refine sw_if_ne (n := 4) F (by omega) (tgt := 9) dJ8_valueOf_2_1 (by decide) rfl (fun c_1 => ?_) (fun c_1 => ?_)
  ·
    refine sw_lload_n (n := 10) F 0 rfl rfl dJ8_valueOf_2_9 rfl ?_
    refine sw_lconst (n := 11) F 0 (by decide) dJ8_valueOf_2_10 rfl ?_
    refine sw_lcmp (n := 12) F (by omega) (by decide) dJ8_valueOf_2_11 rfl ?_
    refine sw_if_ne (n := 15) F (by omega) (tgt := 20) dJ8_valueOf_2_12 (by decide) rfl (fun c_12 => ?_) (fun c_12 => ?_)
    ·
      have c_12 : v ≠ 0 := by revert c_12; (repeat' split) <;> omega
      refine sw_new (n := 23) F (ci := 13) (N := 5) RJ8 TJ8 tyJ8 rfl q251 q252 q112 in_J8 tyJ8_ok (fs := [.null, .int (jI 0), .int (jI 0), .null, .long (jL 0)]) rfl 0 0 ⟨by omega, by omega⟩ dJ8_valueOf_2_20 rfl (fun q_1 => ?_)
      refine sw_dup (n := 24) F rfl dJ8_valueOf_2_23 rfl ?_
      refine sw_lload_n (n := 25) F 0 rfl rfl dJ8_valueOf_2_24 rfl ?_
      refine sw_ldc2 (n := 28) F (-9223372036854775808) q250 (by decide) dJ8_valueOf_2_25 rfl ?_
      refine sw_lcmp (n := 29) F (by omega) (by decide) dJ8_valueOf_2_28 rfl ?_
      refine sw_if_ne (n := 32) F (by omega) (tgt := 38) dJ8_valueOf_2_29 (by decide) rfl (fun c_29 => ?_) (fun c_29 => ?_)
      ·
        have c_29 : v ≠ -9223372036854775808 := by revert c_29; (repeat' split) <;> omega
        have hfit : fit v := ⟨by omega, by omega⟩
        refine sw_null (n := 39) F dJ8_valueOf_2_38 rfl ?_
        refine sw_lload_n (n := 40) F 0 rfl rfl dJ8_valueOf_2_39 rfl ?_
        refine sw_iload_n (n := 41) F 1 rfl rfl dJ8_valueOf_2_40 rfl ?_
        refine sw_iconst (n := 42) F (0) (by decide) dJ8_valueOf_2_41 rfl ?_
        refine sw_callI (n := 45) F (ct_J8_init (g := xg x) (l := xl x) q_1 none v s 0 ) q253 q254 q112 q255 rfl nd_J8_init rfl (by decide) [0, 1] rfl [pl (xg x) M] rfl 0 0 ⟨by omega, by omega⟩ [.ref q_1] rfl (Nat.le_of_ble_eq_true rfl) dJ8_valueOf_2_42 rfl (fun _ _ h => h.elim) (fun v Ws h => ?_)
        obtain ⟨rfl, rfl⟩ := h
        show SW x [ob (xg x) q_1 13 [va_rf none, .int (jI s), .int (jI 0), .null, .long (jL v)], pl (xg x) M] _ _ _ _ [.ref q_1]
        refine SW.cast (Ps' := ob (xg x) q_1 13 (flD v s none 0) :: [pl (xg x) M]) ?_ (by first | rfl | (simp only [flD, cpt_1 hfit] <;> rfl) | (simp only [flD, cpt_lm hv9] <;> rfl)) rfl rfl
        refine sw_absD F (Or.inr rfl) (fun _ => hfit) (fun b h => by cases h <;> exact ⟨_, by rw [hv9]; exact None⟩) (fun M_2 hle_3 hat_4 => ?_)
        show SW x [pl (xg x) M_2] _ _ _ _ [.ref q_1]
        exact sw_aret F (some q_1) _ rfl rfl (by first | exact Or.inl ⟨_, rfl⟩ | exact Or.inr ⟨_, rfl⟩) dJ8_valueOf_2_45 (by rw [hPo]; exact ⟨M_2, q_1, none, rfl, hle_3, hat_4, rfl⟩)
      ·
        have c_29 : v = -9223372036854775808 := by revert c_29; (repeat' split) <;> omega
        have hv9 : v = -9223372036854775808 := by omega
        refine sw_gets (n := 35) F (kIFL F.gx.1).1 q276 (Or.inl rfl) dJ8_valueOf_2_32 rfl ?_
        have hk_5 : at_ (xg x) M (tR (xg x) (Jvm.Term.static "java/math/BigDecimal" "INFLATED_BIGINT" "Ljava/math/BigInteger;")) (vI (-9223372036854775808) (tR (xg x) (.field (Jvm.Term.static "java/math/BigDecimal" "INFLATED_BIGINT" "Ljava/math/BigInteger;") "java/math/BigInteger" "mag" "[I"))) := Or.inr (kIFL F.gx.1).2
        refine sw_goto F (n := 39) dJ8_valueOf_2_35 (by decide) ?_
        refine sw_lload_n (n := 40) F 0 rfl rfl dJ8_valueOf_2_39 rfl ?_
        refine sw_iload_n (n := 41) F 1 rfl rfl dJ8_valueOf_2_40 rfl ?_
        refine sw_iconst (n := 42) F (0) (by decide) dJ8_valueOf_2_41 rfl ?_
        refine sw_callI (n := 45) F (ct_J8_init (g := xg x) (l := xl x) q_1 (some (tR (xg x) (Jvm.Term.static "java/math/BigDecimal" "INFLATED_BIGINT" "Ljava/math/BigInteger;"))) v s 0 ) q253 q254 q112 q255 rfl nd_J8_init rfl (by decide) [0, 1] rfl [pl (xg x) M] rfl 0 0 ⟨by omega, by omega⟩ [.ref q_1] rfl (Nat.le_of_ble_eq_true rfl) dJ8_valueOf_2_42 rfl (fun _ _ h => h.elim) (fun v Ws h => ?_)
        obtain ⟨rfl, rfl⟩ := h
        show SW x [ob (xg x) q_1 13 [va_rf (some (tR (xg x) (Jvm.Term.static "java/math/BigDecimal" "INFLATED_BIGINT" "Ljava/math/BigInteger;"))), .int (jI s), .int (jI 0), .null, .long (jL v)], pl (xg x) M] _ _ _ _ [.ref q_1]
        refine SW.cast (Ps' := ob (xg x) q_1 13 (flD v s (some (tR (xg x) (Jvm.Term.static "java/math/BigDecimal" "INFLATED_BIGINT" "Ljava/math/BigInteger;"))) 0) :: [pl (xg x) M]) ?_ (by first | rfl | (simp only [flD, cpt_1 hfit] <;> rfl) | (simp only [flD, cpt_lm hv9] <;> rfl)) rfl rfl
        refine sw_absD F (Or.inr rfl) (fun h => by cases h) (fun b h => by cases h <;> exact ⟨_, by rw [hv9]; exact hk_5⟩) (fun M_6 hle_7 hat_8 => ?_)
        show SW x [pl (xg x) M_6] _ _ _ _ [.ref q_1]
        exact sw_aret F (some q_1) _ rfl rfl (by first | exact Or.inl ⟨_, rfl⟩ | exact Or.inr ⟨_, rfl⟩) dJ8_valueOf_2_45 (by rw [hPo]; exact ⟨M_6, q_1, some (tR (xg x) (Jvm.Term.static "java/math/BigDecimal" "INFLATED_BIGINT" "Ljava/math/BigInteger;")), rfl, hle_7, hat_8, rfl⟩)
    ·
      have c_12 : v = 0 := by revert c_12; (repeat' split) <;> omega
      refine sw_iload_n (n := 16) F 1 rfl rfl dJ8_valueOf_2_15 rfl ?_
      refine sw_callS (n := 19) F (ct_J8_zeroValueOf (g := xg x) (l := xl x) M s hs) q1047 q1048 q112 q1049 nd_J8_zeroValueOf rfl (by decide) [0] rfl [] rfl 0 0 ⟨by omega, by omega⟩ [] rfl (Nat.le_of_ble_eq_true rfl) dJ8_valueOf_2_16 rfl (fun _ _ h => h.elim) (fun v Ws h => ?_)
      obtain ⟨M1_9, r1_10, o1_11, rfl, hle_12, hat_13, rfl⟩ := h
      show SW x [pl (xg x) M1_9] _ _ _ _ [.ref r1_10]
      exact sw_aret F (some r1_10) _ rfl rfl (by first | exact Or.inl ⟨_, rfl⟩ | exact Or.inr ⟨_, rfl⟩) dJ8_valueOf_2_19 (by rw [hPo]; exact ⟨M1_9, r1_10, o1_11, rfl, hle_12, (by rw [show v = 0 by omega]; assumption), rfl⟩)
  ·
    refine sw_lload_n (n := 5) F 0 rfl rfl dJ8_valueOf_2_4 rfl ?_
    refine sw_callS (n := 8) F (ct_J8_valueOf (g := xg x) (l := xl x) M v hv) q1046 q246 q112 q247 nd_J8_valueOf rfl (by decide) [0] rfl [] rfl 0 0 ⟨by omega, by omega⟩ [] rfl (Nat.le_of_ble_eq_true rfl) dJ8_valueOf_2_5 rfl (fun _ _ h => h.elim) (fun v Ws h => ?_)
    obtain ⟨M1_14, r1_15, o1_16, rfl, hle_17, hat_18, rfl⟩ := h
    show SW x [pl (xg x) M1_14] _ _ _ _ [.ref r1_15]
    exact sw_aret F (some r1_15) _ rfl rfl (by first | exact Or.inl ⟨_, rfl⟩ | exact Or.inr ⟨_, rfl⟩) dJ8_valueOf_2_8 (by rw [hPo]; exact ⟨M1_14, r1_15, o1_16, rfl, hle_17, (by rw [show s = 0 by omega]; assumption), rfl⟩)
theorem lmp_0 {v n : Int} (hv : -9223372036854775808 ≤ v ∧ v ≤ 9223372036854775807) (h : v = 0 ∨ n ≤ 0) : cpt (v * ((10 ^ n.toNat : Nat) : Int)) = v := by
  have h1 : ∀ w : Int, (-9223372036854775808 ≤ w ∧ w ≤ 9223372036854775807) → cpt w = w := fun w hw => by unfold cpt; split <;> omega
  rcases h with e | e
  · rw [e, Int.zero_mul]; exact h1 0 (by omega)
  · rw [show n.toNat = 0 by omega]; show cpt (v * ((1 : Nat) : Int)) = v; rw [Int.natCast_one, Int.mul_one]; exact h1 v hv
theorem lmp_a {v : Int} {m : Nat} : ((abI v).natAbs = v.natAbs) ∧ (v * (m : Int)).natAbs = v.natAbs * m := by
  refine ⟨?_, by rw [Int.natAbs_mul]; rfl⟩
  unfold abI; split <;> omega
theorem lmp_f {v : Int} {m : Nat} (h0 : 0 < m) (h : abI v ≤ ((9223372036854775807 / m : Nat) : Int)) : fit (v * (m : Int)) := by
  have h1 := (lmp_a (v := v) (m := m))
  have h2 : v.natAbs ≤ 9223372036854775807 / m := by have := abI_cases v; omega
  have h3 := (Nat.le_div_iff_mul_le h0).mp h2
  unfold fit; omega
theorem lmp_n {v : Int} {m : Nat} (h0 : 0 < m) (h : ((9223372036854775807 / m : Nat) : Int) < abI v) : ¬ fit (v * (m : Int)) := by
  have h1 := (lmp_a (v := v) (m := m))
  intro hf
  have h2 : v.natAbs * m ≤ 9223372036854775807 := by unfold fit at hf; omega
  have h3 := (Nat.le_div_iff_mul_le h0).mpr h2
  have := abI_cases v
  omega
theorem ten_18 {n : Int} (h : 0 ≤ n ∧ n ≤ 18) : 10 ^ n.toNat ≤ 10 ^ 18 ∧ 0 < 10 ^ n.toNat := ⟨Nat.pow_le_pow_right (by decide) (by omega), Nat.pow_pos (by decide)⟩
theorem nd_J8_longMultiplyPowerTen : yJ8_longMultiplyPowerTen.cls ≠ "java/lang/invoke/MethodHandle" ∧ yJ8_longMultiplyPowerTen.cls ≠ "java/lang/invoke/VarHandle" ∧ (parseMethodDescriptor yJ8_longMultiplyPowerTen.desc).map (fun d => d.parameters.length) = some 2 := by decide +kernel
set_option maxRecDepth 100000 in
set_option maxHeartbeats 16000000 in
theorem ct_J8_longMultiplyPowerTen {g : GG} {l : Launch} (v : Int) (n9 : Int) (hv : -9223372036854775807 ≤ v ∧ v ≤ 9223372036854775807) (hn : 0 ≤ n9 ∧ n9 ≤ 18) : Ct g l yJ8_longMultiplyPowerTen (ws_ yJ8_longMultiplyPowerTen cJ8_longMultiplyPowerTen 7 (Option.some Jvm.ClassFile.FieldType.long)) 1 13 0 0 [.long (jL v), .int (jI n9)] [] (fun v9 Ws9 => v9 = some (.long (jL (cpt (v * ((10 ^ n9.toNat : Nat) : Int))))) ∧ Ws9 = []) (nox) := by
  refine Ct.of (cc := cJ8_longMultiplyPowerTen) (nL := 7) (ret := (Option.some Jvm.ClassFile.FieldType.long)) (by decide) rfl (Nat.le_of_ble_eq_true rfl) ?_
  intro x hg hl hPo hPx hmc hms F
  subst hg; subst hl
  refine SW.cast (L' := [(0, .long (jL v)), (2, .int (jI n9))]) ?_ rfl rfl rfl
  refine sw_lload_n (n := 1) F 0 rfl rfl dJ8_longMultiplyPowerTen_0 rfl ?_
  refine sw_lconst (n := 2) F 0 (by decide) dJ8_longMultiplyPowerTen_1 rfl ?_
  refine sw_lcmp (n := 3) F (by omega) (by decide) dJ8_longMultiplyPowerTen_2 rfl ?_
  refine sw_if_eq (n := 6) F (by omega) (tgt := 10) dJ8_longMultiplyPowerTen_3 (by decide) rfl (fun c_3 => ?_) (fun c_3 => ?_)
  ·
    have c_3 : v = 0 := by revert c_3; (repeat' split) <;> omega
    refine sw_lload_n (n := 11) F 0 rfl rfl dJ8_longMultiplyPowerTen_10 rfl ?_
    exact sw_lret F rfl dJ8_longMultiplyPowerTen_11 (by rw [hPo]; exact ⟨(by rw [lmp_0 (by omega) (by omega)]), rfl⟩)
  ·
    have c_3 : v ≠ 0 := by revert c_3; (repeat' split) <;> omega
    refine sw_iload_n (n := 7) F 1 rfl rfl dJ8_longMultiplyPowerTen_6 rfl ?_
    refine sw_if_gt (n := 10) F (by omega) (tgt := 12) dJ8_longMultiplyPowerTen_7 (by decide) rfl (fun c_7 => ?_) (fun c_7 => ?_)
    ·
      have ht := ten_18 hn
      have hth : 9223372036854775807 / 10 ^ n9.toNat ≤ 9223372036854775807 := Nat.div_le_self _ _
      refine sw_gets (n := 15) F (kLTP F.gx.1).1 q1299 (Or.inl rfl) dJ8_longMultiplyPowerTen_12 rfl ?_
      refine sw_astore_n (n := 16) F (some (tR (xg x) sLTP)) (L2 := [(3, .ref (tR (xg x) sLTP)), (0, .long (jL v)), (2, .int (jI n9))]) rfl rfl (by decide) rfl dJ8_longMultiplyPowerTen_15 rfl ?_
      refine sw_gets (n := 19) F (kTHR F.gx.1).1 q1301 (Or.inl rfl) dJ8_longMultiplyPowerTen_16 rfl ?_
      refine sw_astore (n := 21) F (some (tR (xg x) sTHR)) (L2 := [(4, .ref (tR (xg x) sTHR)), (3, .ref (tR (xg x) sLTP)), (0, .long (jL v)), (2, .int (jI n9))]) rfl rfl (by decide) dJ8_longMultiplyPowerTen_19 rfl ?_
      refine sw_iload_n (n := 22) F 3 rfl rfl dJ8_longMultiplyPowerTen_21 rfl ?_
      refine sw_aload_n (n := 23) F 1 (some (tR (xg x) sLTP)) rfl rfl rfl dJ8_longMultiplyPowerTen_22 rfl ?_
      refine sw_alenK (n := 24) F ((kLTP F.gx.1).2.A F) dJ8_longMultiplyPowerTen_23 rfl ?_
      show SW x _ _ _ _ _ [.int (jI 19), .int (jI n9)]
      refine sw_icmp_ge (n := 27) F (by omega) (by decide) (tgt := 65) dJ8_longMultiplyPowerTen_24 (by decide) rfl (fun c_24 => ?_) (fun c_24 => ?_)
      · exfalso; omega
      ·
        refine sw_iload_n (n := 28) F 3 rfl rfl dJ8_longMultiplyPowerTen_27 rfl ?_
        refine sw_aload (n := 30) F 0 (some (tR (xg x) sTHR)) rfl rfl dJ8_longMultiplyPowerTen_28 rfl ?_
        refine sw_alenK (n := 31) F ((kTHR F.gx.1).2.A F) dJ8_longMultiplyPowerTen_30 rfl ?_
        show SW x _ _ _ _ _ [.int (jI 19), .int (jI n9)]
        refine sw_icmp_ge (n := 34) F (by omega) (by decide) (tgt := 65) dJ8_longMultiplyPowerTen_31 (by decide) rfl (fun c_31 => ?_) (fun c_31 => ?_)
        · exfalso; omega
        ·
          refine sw_aload_n (n := 35) F 1 (some (tR (xg x) sLTP)) rfl rfl rfl dJ8_longMultiplyPowerTen_34 rfl ?_
          refine sw_iload_n (n := 36) F 3 rfl rfl dJ8_longMultiplyPowerTen_35 rfl ?_
          refine sw_laloadK (n := 37) F ((kLTP F.gx.1).2.A F) ((n9 : Int).toNat) (by omega) (by omega) dJ8_longMultiplyPowerTen_36 rfl ?_
          show SW x _ _ _ _ _ [.long (jL ((10 ^ ((n9 : Int).toNat) : Nat) : Int))]
          refine sw_lstore (n := 39) F (L2 := [(5, .long (jL ((10 ^ ((n9 : Int).toNat) : Nat) : Int))), (4, .ref (tR (xg x) sTHR)), (3, .ref (tR (xg x) sLTP)), (0, .long (jL v)), (2, .int (jI n9))]) rfl (by decide) dJ8_longMultiplyPowerTen_37 rfl ?_
          refine sw_lload_n (n := 40) F 3 rfl rfl dJ8_longMultiplyPowerTen_39 rfl ?_
          refine sw_lconst (n := 41) F 1 (by decide) dJ8_longMultiplyPowerTen_40 rfl ?_
          refine sw_lcmp (n := 42) F (by omega) (by decide) dJ8_longMultiplyPowerTen_41 rfl ?_
          refine sw_if_ne (n := 45) F (by omega) (tgt := 48) dJ8_longMultiplyPowerTen_42 (by decide) rfl (fun c_42 => ?_) (fun c_42 => ?_)
          ·
            have c_42 : v ≠ 1 := by revert c_42; (repeat' split) <;> omega
            refine sw_lload_n (n := 49) F 3 rfl rfl dJ8_longMultiplyPowerTen_48 rfl ?_
            refine sw_mabsL (n := 52) F (by omega) q1303 q1101 q132 q1102 (by decide) dJ8_longMultiplyPowerTen_49 rfl ?_
            have hab_1 := abI_cases (v)
            refine sw_aload (n := 54) F 1 (some (tR (xg x) sTHR)) rfl rfl dJ8_longMultiplyPowerTen_52 rfl ?_
            refine sw_iload_n (n := 55) F 4 rfl rfl dJ8_longMultiplyPowerTen_54 rfl ?_
            refine sw_laloadK (n := 56) F ((kTHR F.gx.1).2.A F) ((n9 : Int).toNat) (by omega) (by omega) dJ8_longMultiplyPowerTen_55 rfl ?_
            show SW x _ _ _ _ _ [.long (jL ((9223372036854775807 / 10 ^ ((n9 : Int).toNat) : Nat) : Int)), .long (jL (abI v))]
            obtain ⟨T9, hT9⟩ : ∃ T9 : Int, T9 = ((9223372036854775807 / 10 ^ n9.toNat : Nat) : Int) := ⟨_, rfl⟩
            have hT : 0 ≤ T9 ∧ T9 ≤ 9223372036854775807 := by rw [hT9]; exact ⟨Int.natCast_nonneg _, Int.ofNat_le.mpr hth⟩
            refine SW.cast (st' := [.long (jL T9), .long (jL (abI v))]) ?_ rfl rfl (by rw [hT9])
            refine sw_lcmp (n := 57) F (by omega) (by omega) dJ8_longMultiplyPowerTen_56 rfl ?_
            refine sw_if_gt (n := 60) F (by omega) (tgt := 65) dJ8_longMultiplyPowerTen_57 (by decide) rfl (fun c_57 => ?_) (fun c_57 => ?_)
            ·
              have c_57 : abI v > T9 := by revert c_57; (repeat' split) <;> omega
              refine sw_ldc2 (n := 68) F (-9223372036854775808) q250 (by decide) dJ8_longMultiplyPowerTen_65 rfl ?_
              exact sw_lret F rfl dJ8_longMultiplyPowerTen_68 (by rw [hPo]; exact ⟨(by rw [cpt_0 (lmp_n ht.2 (by rw [← hT9]; omega))]), rfl⟩)
            ·
              have c_57 : abI v ≤ T9 := by revert c_57; (repeat' split) <;> omega
              refine sw_lload_n (n := 61) F 3 rfl rfl dJ8_longMultiplyPowerTen_60 rfl ?_
              refine sw_lload (n := 63) F 0 rfl dJ8_longMultiplyPowerTen_61 rfl ?_
              refine sw_lmul (n := 64) F dJ8_longMultiplyPowerTen_63 rfl ?_
              exact sw_lret F rfl dJ8_longMultiplyPowerTen_64 (by rw [hPo]; exact ⟨(by rw [cpt_1 (lmp_f ht.2 (by rw [← hT9]; omega))]), rfl⟩)
          ·
            have c_42 : v = 1 := by revert c_42; (repeat' split) <;> omega
            refine sw_lload (n := 47) F 0 rfl dJ8_longMultiplyPowerTen_45 rfl ?_
            exact sw_lret F rfl dJ8_longMultiplyPowerTen_47 (by rw [hPo]; exact ⟨(by rw [show v * ((10 ^ n9.toNat : Nat) : Int) = ((10 ^ n9.toNat : Nat) : Int) by rw [show v = 1 by omega, Int.one_mul], cpt_1 (show fit _ from ⟨by omega, by omega⟩)]), rfl⟩)
    ·
      refine sw_lload_n (n := 11) F 0 rfl rfl dJ8_longMultiplyPowerTen_10 rfl ?_
      exact sw_lret F rfl dJ8_longMultiplyPowerTen_11 (by rw [hPo]; exact ⟨(by rw [lmp_0 (by omega) (by omega)]), rfl⟩)
theorem nd_J8_checkScale : yJ8_checkScale.cls ≠ "java/lang/invoke/MethodHandle" ∧ yJ8_checkScale.cls ≠ "java/lang/invoke/VarHandle" ∧ (parseMethodDescriptor yJ8_checkScale.desc).map (fun d => d.parameters.length) = some 2 := by decide +kernel
set_option maxRecDepth 100000 in
set_option maxHeartbeats 16000000 in
theorem ct_J8_checkScale {g : GG} {l : Launch} (v : Int) (s : Int) (hv : -9223372036854775808 ≤ v ∧ v ≤ 9223372036854775807) (hs : -2147483648 ≤ s ∧ s ≤ 2147483647) : Ct g l yJ8_checkScale (ws_ yJ8_checkScale cJ8_checkScale 5 (Option.some Jvm.ClassFile.FieldType.int)) 1 12 0 0 [.long (jL v), .long (jL s)] [] (fun v9 Ws9 => v9 = some (.int (jI s)) ∧ Ws9 = []) (nox) := by
  refine Ct.of (cc := cJ8_checkScale) (nL := 5) (ret := (Option.some Jvm.ClassFile.FieldType.int)) (by decide) rfl (Nat.le_of_ble_eq_true rfl) ?_
  intro x hg hl hPo hPx hmc hms F
  subst hg; subst hl
  refine SW.cast (L' := [(0, .long (jL v)), (2, .long (jL s))]) ?_ rfl rfl rfl
  refine sw_lload_n (n := 1) F 1 rfl rfl dJ8_checkScale_0 rfl ?_
  refine sw_l2i (n := 2) F dJ8_checkScale_1 rfl ?_
  refine sw_istore (n := 4) F (L2 := [(4, .int (jI s)), (0, .long (jL v)), (2, .long (jL s))]) rfl (by decide) dJ8_checkScale_2 rfl ?_
  refine sw_iload (n := 6) F 0 rfl dJ8_checkScale_4 rfl ?_
  refine sw_i2l (n := 7) F (by omega) dJ8_checkScale_6 rfl ?_
  refine sw_lload_n (n := 8) F 2 rfl rfl dJ8_checkScale_7 rfl ?_
  refine sw_lcmp (n := 9) F (by omega) (by omega) dJ8_checkScale_8 rfl ?_
  refine sw_if_eq (n := 12) F (by omega) (tgt := 59) dJ8_checkScale_9 (by decide) rfl (fun c_9 => ?_) (fun c_9 => ?_)
  ·
    have c_9 : s = s := by revert c_9; (repeat' split) <;> omega
    refine sw_iload (n := 61) F 0 rfl dJ8_checkScale_59 rfl ?_
    exact sw_iret F _ rfl (by first | rfl | exact jI_nz (by omega) | exact jI_nc (by omega)) dJ8_checkScale_61 (by rw [hPo]; exact ⟨rfl, rfl⟩)
  · exfalso; revert c_9; (repeat' split) <;> omega
theorem nd_J8_scale : yJ8_scale.cls ≠ "java/lang/invoke/MethodHandle" ∧ yJ8_scale.cls ≠ "java/lang/invoke/VarHandle" ∧ (parseMethodDescriptor yJ8_scale.desc).map (fun d => d.parameters.length) = some 0 := by decide +kernel
set_option maxRecDepth 100000 in
set_option maxHeartbeats 16000000 in
theorem ct_J8_scale {g : GG} {l : Launch} (M : Nat → Option PV) (q : Nat) (u : Int) (s : Int) (o : Option Nat) (hx : at_ g M q (vD u s o)) : Ct g l yJ8_scale (ws_ yJ8_scale cJ8_scale 1 (Option.some Jvm.ClassFile.FieldType.int)) 1 12 0 0 [.ref q] [pl g M] (fun v9 Ws9 => v9 = some (.int (jI s)) ∧ Ws9 = [pl g M]) (nox) := by
  refine Ct.of (cc := cJ8_scale) (nL := 1) (ret := (Option.some Jvm.ClassFile.FieldType.int)) (by decide) rfl (Nat.le_of_ble_eq_true rfl) ?_
  intro x hg hl hPo hPx hmc hms F
  subst hg; subst hl
  refine SW.cast (L' := [(0, .ref q)]) ?_ rfl rfl rfl
  refine sw_aload_n (n := 1) F 0 (some q) rfl rfl rfl dJ8_scale_0 rfl ?_
  refine sw_getD (n := 4) F 0 rfl hx (k := 1) ⟨(RJ8, TJ8, 5), rfl, by decide, q261, in_J8, Or.inl rfl⟩ (.int (jI s)) (fun _ => rfl) dJ8_scale_1 rfl ?_
  exact sw_iret F _ rfl (by first | rfl | exact jI_nz (by omega) | exact jI_nc (by omega)) dJ8_scale_4 (by rw [hPo]; exact ⟨rfl, rfl⟩)
