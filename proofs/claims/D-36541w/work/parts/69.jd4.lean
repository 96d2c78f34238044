set_option maxRecDepth 100000
def dkwJ8_negate_2 : List UInt8 := [42, 180, 0, 21, 184, 2, 81, 176]
abbrev dktJ8_negate_2 : List UInt8 := dkwJ8_negate_2 ++ []
def dkwJ8_negate_1 : List UInt8 := [20, 0, 125, 42, 180, 0, 17, 42, 180, 0, 21, 183, 0, 243, 176, 42, 180, 0, 24, 117, 42, 180, 0, 17]
abbrev dktJ8_negate_1 : List UInt8 := dkwJ8_negate_1 ++ dktJ8_negate_2
def dkwJ8_negate_0 : List UInt8 := [42, 180, 0, 24, 20, 0, 125, 148, 154, 0, 29, 187, 0, 3, 89, 42, 180, 0, 28, 182, 1, 75]
abbrev dktJ8_negate_0 : List UInt8 := dkwJ8_negate_0 ++ dktJ8_negate_1
theorem dksJ8_negate_0 : cJ8_negate.data.toList.drop 0 = dktJ8_negate_0 := by decide +kernel
theorem dksJ8_negate_1 : cJ8_negate.data.toList.drop 22 = dktJ8_negate_1 := dk_seg dksJ8_negate_0 22 rfl rfl
theorem dksJ8_negate_2 : cJ8_negate.data.toList.drop 46 = dktJ8_negate_2 := dk_seg dksJ8_negate_1 24 rfl rfl
theorem dJ8_negate_0 : decode cJ8_negate 0 = .ok (.aload_n 0, 1) := dk_42 (dk_at dksJ8_negate_0 0 rfl rfl)
theorem dJ8_negate_1 : decode cJ8_negate 1 = .ok (.getfield 24, 3) := dk_180 0 24 (dk_at dksJ8_negate_0 1 rfl rfl)
theorem dJ8_negate_4 : decode cJ8_negate 4 = .ok (.ldc2_w 125, 3) := dk_20 0 125 (dk_at dksJ8_negate_0 4 rfl rfl)
theorem dJ8_negate_7 : decode cJ8_negate 7 = .ok (.lcmp, 1) := dk_148 (dk_at dksJ8_negate_0 7 rfl rfl)
theorem dJ8_negate_8 : decode cJ8_negate 8 = .ok (.ifCond .ne 29, 3) := dk_154 0 29 (dk_at dksJ8_negate_0 8 rfl rfl)
theorem dJ8_negate_11 : decode cJ8_negate 11 = .ok (.new 3, 3) := dk_187 0 3 (dk_at dksJ8_negate_0 11 rfl rfl)
theorem dJ8_negate_14 : decode cJ8_negate 14 = .ok (.dup, 1) := dk_89 (dk_at dksJ8_negate_0 14 rfl rfl)
theorem dJ8_negate_15 : decode cJ8_negate 15 = .ok (.aload_n 0, 1) := dk_42 (dk_at dksJ8_negate_0 15 rfl rfl)
theorem dJ8_negate_16 : decode cJ8_negate 16 = .ok (.getfield 28, 3) := dk_180 0 28 (dk_at dksJ8_negate_0 16 rfl rfl)
theorem dJ8_negate_19 : decode cJ8_negate 19 = .ok (.invokevirtual 331, 3) := dk_182 1 75 (dk_at dksJ8_negate_0 19 rfl rfl)
theorem dJ8_negate_22 : decode cJ8_negate 22 = .ok (.ldc2_w 125, 3) := dk_20 0 125 (dk_at dksJ8_negate_1 0 rfl rfl)
theorem dJ8_negate_25 : decode cJ8_negate 25 = .ok (.aload_n 0, 1) := dk_42 (dk_at dksJ8_negate_1 3 rfl rfl)
theorem dJ8_negate_26 : decode cJ8_negate 26 = .ok (.getfield 17, 3) := dk_180 0 17 (dk_at dksJ8_negate_1 4 rfl rfl)
theorem dJ8_negate_29 : decode cJ8_negate 29 = .ok (.aload_n 0, 1) := dk_42 (dk_at dksJ8_negate_1 7 rfl rfl)
theorem dJ8_negate_30 : decode cJ8_negate 30 = .ok (.getfield 21, 3) := dk_180 0 21 (dk_at dksJ8_negate_1 8 rfl rfl)
theorem dJ8_negate_33 : decode cJ8_negate 33 = .ok (.invokespecial 243, 3) := dk_183 0 243 (dk_at dksJ8_negate_1 11 rfl rfl)
theorem dJ8_negate_36 : decode cJ8_negate 36 = .ok (.areturn, 1) := dk_176 (dk_at dksJ8_negate_1 14 rfl rfl)
theorem dJ8_negate_37 : decode cJ8_negate 37 = .ok (.aload_n 0, 1) := dk_42 (dk_at dksJ8_negate_1 15 rfl rfl)
theorem dJ8_negate_38 : decode cJ8_negate 38 = .ok (.getfield 24, 3) := dk_180 0 24 (dk_at dksJ8_negate_1 16 rfl rfl)
theorem dJ8_negate_41 : decode cJ8_negate 41 = .ok (.lneg, 1) := dk_117 (dk_at dksJ8_negate_1 19 rfl rfl)
theorem dJ8_negate_42 : decode cJ8_negate 42 = .ok (.aload_n 0, 1) := dk_42 (dk_at dksJ8_negate_1 20 rfl rfl)
theorem dJ8_negate_43 : decode cJ8_negate 43 = .ok (.getfield 17, 3) := dk_180 0 17 (dk_at dksJ8_negate_1 21 rfl rfl)
theorem dJ8_negate_46 : decode cJ8_negate 46 = .ok (.aload_n 0, 1) := dk_42 (dk_at dksJ8_negate_2 0 rfl rfl)
theorem dJ8_negate_47 : decode cJ8_negate 47 = .ok (.getfield 21, 3) := dk_180 0 21 (dk_at dksJ8_negate_2 1 rfl rfl)
theorem dJ8_negate_50 : decode cJ8_negate 50 = .ok (.invokestatic 593, 3) := dk_184 2 81 (dk_at dksJ8_negate_2 4 rfl rfl)
theorem dJ8_negate_53 : decode cJ8_negate 53 = .ok (.areturn, 1) := dk_176 (dk_at dksJ8_negate_2 7 rfl rfl)
def dkwJ8_valueOf_4_2 : List UInt8 := [154, 0, 9, 178, 0, 188, 167, 0, 4, 1, 30, 28, 29, 183, 0, 243, 176]
abbrev dktJ8_valueOf_4_2 : List UInt8 := dkwJ8_valueOf_4_2 ++ []
def dkwJ8_valueOf_4_1 : List UInt8 := [136, 50, 176, 30, 9, 148, 154, 0, 8, 28, 184, 0, 239, 176, 187, 0, 3, 89, 30, 20, 0, 125, 148]
abbrev dktJ8_valueOf_4_1 : List UInt8 := dkwJ8_valueOf_4_1 ++ dktJ8_valueOf_4_2
def dkwJ8_valueOf_4_0 : List UInt8 := [28, 154, 0, 26, 30, 9, 148, 155, 0, 20, 30, 178, 0, 246, 190, 133, 148, 156, 0, 10, 178, 0, 246, 30]
abbrev dktJ8_valueOf_4_0 : List UInt8 := dkwJ8_valueOf_4_0 ++ dktJ8_valueOf_4_1
theorem dksJ8_valueOf_4_0 : cJ8_valueOf_4.data.toList.drop 0 = dktJ8_valueOf_4_0 := by decide +kernel
theorem dksJ8_valueOf_4_1 : cJ8_valueOf_4.data.toList.drop 24 = dktJ8_valueOf_4_1 := dk_seg dksJ8_valueOf_4_0 24 rfl rfl
theorem dksJ8_valueOf_4_2 : cJ8_valueOf_4.data.toList.drop 47 = dktJ8_valueOf_4_2 := dk_seg dksJ8_valueOf_4_1 23 rfl rfl
theorem dJ8_valueOf_4_0 : decode cJ8_valueOf_4 0 = .ok (.iload_n 2, 1) := dk_28 (dk_at dksJ8_valueOf_4_0 0 rfl rfl)
theorem dJ8_valueOf_4_1 : decode cJ8_valueOf_4 1 = .ok (.ifCond .ne 26, 3) := dk_154 0 26 (dk_at dksJ8_valueOf_4_0 1 rfl rfl)
theorem dJ8_valueOf_4_4 : decode cJ8_valueOf_4 4 = .ok (.lload_n 0, 1) := dk_30 (dk_at dksJ8_valueOf_4_0 4 rfl rfl)
theorem dJ8_valueOf_4_5 : decode cJ8_valueOf_4 5 = .ok (.lconst 0, 1) := dk_9 (dk_at dksJ8_valueOf_4_0 5 rfl rfl)
theorem dJ8_valueOf_4_6 : decode cJ8_valueOf_4 6 = .ok (.lcmp, 1) := dk_148 (dk_at dksJ8_valueOf_4_0 6 rfl rfl)
theorem dJ8_valueOf_4_7 : decode cJ8_valueOf_4 7 = .ok (.ifCond .lt 20, 3) := dk_155 0 20 (dk_at dksJ8_valueOf_4_0 7 rfl rfl)
theorem dJ8_valueOf_4_10 : decode cJ8_valueOf_4 10 = .ok (.lload_n 0, 1) := dk_30 (dk_at dksJ8_valueOf_4_0 10 rfl rfl)
theorem dJ8_valueOf_4_11 : decode cJ8_valueOf_4 11 = .ok (.getstatic 246, 3) := dk_178 0 246 (dk_at dksJ8_valueOf_4_0 11 rfl rfl)
theorem dJ8_valueOf_4_14 : decode cJ8_valueOf_4 14 = .ok (.arraylength, 1) := dk_190 (dk_at dksJ8_valueOf_4_0 14 rfl rfl)
theorem dJ8_valueOf_4_15 : decode cJ8_valueOf_4 15 = .ok (.i2l, 1) := dk_133 (dk_at dksJ8_valueOf_4_0 15 rfl rfl)
theorem dJ8_valueOf_4_16 : decode cJ8_valueOf_4 16 = .ok (.lcmp, 1) := dk_148 (dk_at dksJ8_valueOf_4_0 16 rfl rfl)
theorem dJ8_valueOf_4_17 : decode cJ8_valueOf_4 17 = .ok (.ifCond .ge 10, 3) := dk_156 0 10 (dk_at dksJ8_valueOf_4_0 17 rfl rfl)
theorem dJ8_valueOf_4_20 : decode cJ8_valueOf_4 20 = .ok (.getstatic 246, 3) := dk_178 0 246 (dk_at dksJ8_valueOf_4_0 20 rfl rfl)
theorem dJ8_valueOf_4_23 : decode cJ8_valueOf_4 23 = .ok (.lload_n 0, 1) := dk_30 (dk_at dksJ8_valueOf_4_0 23 rfl rfl)
theorem dJ8_valueOf_4_24 : decode cJ8_valueOf_4 24 = .ok (.l2i, 1) := dk_136 (dk_at dksJ8_valueOf_4_1 0 rfl rfl)
theorem dJ8_valueOf_4_25 : decode cJ8_valueOf_4 25 = .ok (.aaload, 1) := dk_50 (dk_at dksJ8_valueOf_4_1 1 rfl rfl)
theorem dJ8_valueOf_4_26 : decode cJ8_valueOf_4 26 = .ok (.areturn, 1) := dk_176 (dk_at dksJ8_valueOf_4_1 2 rfl rfl)
theorem dJ8_valueOf_4_27 : decode cJ8_valueOf_4 27 = .ok (.lload_n 0, 1) := dk_30 (dk_at dksJ8_valueOf_4_1 3 rfl rfl)
theorem dJ8_valueOf_4_28 : decode cJ8_valueOf_4 28 = .ok (.lconst 0, 1) := dk_9 (dk_at dksJ8_valueOf_4_1 4 rfl rfl)
theorem dJ8_valueOf_4_29 : decode cJ8_valueOf_4 29 = .ok (.lcmp, 1) := dk_148 (dk_at dksJ8_valueOf_4_1 5 rfl rfl)
theorem dJ8_valueOf_4_30 : decode cJ8_valueOf_4 30 = .ok (.ifCond .ne 8, 3) := dk_154 0 8 (dk_at dksJ8_valueOf_4_1 6 rfl rfl)
theorem dJ8_valueOf_4_33 : decode cJ8_valueOf_4 33 = .ok (.iload_n 2, 1) := dk_28 (dk_at dksJ8_valueOf_4_1 9 rfl rfl)
theorem dJ8_valueOf_4_34 : decode cJ8_valueOf_4 34 = .ok (.invokestatic 239, 3) := dk_184 0 239 (dk_at dksJ8_valueOf_4_1 10 rfl rfl)
theorem dJ8_valueOf_4_37 : decode cJ8_valueOf_4 37 = .ok (.areturn, 1) := dk_176 (dk_at dksJ8_valueOf_4_1 13 rfl rfl)
theorem dJ8_valueOf_4_38 : decode cJ8_valueOf_4 38 = .ok (.new 3, 3) := dk_187 0 3 (dk_at dksJ8_valueOf_4_1 14 rfl rfl)
theorem dJ8_valueOf_4_41 : decode cJ8_valueOf_4 41 = .ok (.dup, 1) := dk_89 (dk_at dksJ8_valueOf_4_1 17 rfl rfl)
theorem dJ8_valueOf_4_42 : decode cJ8_valueOf_4 42 = .ok (.lload_n 0, 1) := dk_30 (dk_at dksJ8_valueOf_4_1 18 rfl rfl)
theorem dJ8_valueOf_4_43 : decode cJ8_valueOf_4 43 = .ok (.ldc2_w 125, 3) := dk_20 0 125 (dk_at dksJ8_valueOf_4_1 19 rfl rfl)
theorem dJ8_valueOf_4_46 : decode cJ8_valueOf_4 46 = .ok (.lcmp, 1) := dk_148 (dk_at dksJ8_valueOf_4_1 22 rfl rfl)
theorem dJ8_valueOf_4_47 : decode cJ8_valueOf_4 47 = .ok (.ifCond .ne 9, 3) := dk_154 0 9 (dk_at dksJ8_valueOf_4_2 0 rfl rfl)
theorem dJ8_valueOf_4_50 : decode cJ8_valueOf_4 50 = .ok (.getstatic 188, 3) := dk_178 0 188 (dk_at dksJ8_valueOf_4_2 3 rfl rfl)
theorem dJ8_valueOf_4_53 : decode cJ8_valueOf_4 53 = .ok (.goto 4, 3) := dk_167 0 4 (dk_at dksJ8_valueOf_4_2 6 rfl rfl)
theorem dJ8_valueOf_4_56 : decode cJ8_valueOf_4 56 = .ok (.aconst_null, 1) := dk_1 (dk_at dksJ8_valueOf_4_2 9 rfl rfl)
theorem dJ8_valueOf_4_57 : decode cJ8_valueOf_4 57 = .ok (.lload_n 0, 1) := dk_30 (dk_at dksJ8_valueOf_4_2 10 rfl rfl)
theorem dJ8_valueOf_4_58 : decode cJ8_valueOf_4 58 = .ok (.iload_n 2, 1) := dk_28 (dk_at dksJ8_valueOf_4_2 11 rfl rfl)
theorem dJ8_valueOf_4_59 : decode cJ8_valueOf_4 59 = .ok (.iload_n 3, 1) := dk_29 (dk_at dksJ8_valueOf_4_2 12 rfl rfl)
theorem dJ8_valueOf_4_60 : decode cJ8_valueOf_4 60 = .ok (.invokespecial 243, 3) := dk_183 0 243 (dk_at dksJ8_valueOf_4_2 13 rfl rfl)
theorem dJ8_valueOf_4_63 : decode cJ8_valueOf_4 63 = .ok (.areturn, 1) := dk_176 (dk_at dksJ8_valueOf_4_2 16 rfl rfl)
def dkwJ8_abs_0 : List UInt8 := [42, 182, 1, 14, 156, 0, 10, 42, 182, 1, 81, 167, 0, 4, 42, 176]
abbrev dktJ8_abs_0 : List UInt8 := dkwJ8_abs_0 ++ []
theorem dksJ8_abs_0 : cJ8_abs.data.toList.drop 0 = dktJ8_abs_0 := by decide +kernel
theorem dJ8_abs_0 : decode cJ8_abs 0 = .ok (.aload_n 0, 1) := dk_42 (dk_at dksJ8_abs_0 0 rfl rfl)
theorem dJ8_abs_1 : decode cJ8_abs 1 = .ok (.invokevirtual 270, 3) := dk_182 1 14 (dk_at dksJ8_abs_0 1 rfl rfl)
theorem dJ8_abs_4 : decode cJ8_abs 4 = .ok (.ifCond .ge 10, 3) := dk_156 0 10 (dk_at dksJ8_abs_0 4 rfl rfl)
theorem dJ8_abs_7 : decode cJ8_abs 7 = .ok (.aload_n 0, 1) := dk_42 (dk_at dksJ8_abs_0 7 rfl rfl)
theorem dJ8_abs_8 : decode cJ8_abs 8 = .ok (.invokevirtual 337, 3) := dk_182 1 81 (dk_at dksJ8_abs_0 8 rfl rfl)
theorem dJ8_abs_11 : decode cJ8_abs 11 = .ok (.goto 4, 3) := dk_167 0 4 (dk_at dksJ8_abs_0 11 rfl rfl)
theorem dJ8_abs_14 : decode cJ8_abs 14 = .ok (.aload_n 0, 1) := dk_42 (dk_at dksJ8_abs_0 14 rfl rfl)
theorem dJ8_abs_15 : decode cJ8_abs 15 = .ok (.areturn, 1) := dk_176 (dk_at dksJ8_abs_0 15 rfl rfl)
def dkwJ19_trustedStripLeadingZeroInts_1 : List UInt8 := [154, 0, 7, 42, 167, 0, 9, 42, 28, 27, 184, 1, 177, 176]
abbrev dktJ19_trustedStripLeadingZeroInts_1 : List UInt8 := dkwJ19_trustedStripLeadingZeroInts_1 ++ []
def dkwJ19_trustedStripLeadingZeroInts_0 : List UInt8 := [42, 190, 60, 3, 61, 28, 27, 162, 0, 15, 42, 28, 46, 154, 0, 9, 132, 2, 1, 167, 255, 242, 28]
abbrev dktJ19_trustedStripLeadingZeroInts_0 : List UInt8 := dkwJ19_trustedStripLeadingZeroInts_0 ++ dktJ19_trustedStripLeadingZeroInts_1
theorem dksJ19_trustedStripLeadingZeroInts_0 : cJ19_trustedStripLeadingZeroInts.data.toList.drop 0 = dktJ19_trustedStripLeadingZeroInts_0 := by decide +kernel
theorem dksJ19_trustedStripLeadingZeroInts_1 : cJ19_trustedStripLeadingZeroInts.data.toList.drop 23 = dktJ19_trustedStripLeadingZeroInts_1 := dk_seg dksJ19_trustedStripLeadingZeroInts_0 23 rfl rfl
theorem dJ19_trustedStripLeadingZeroInts_0 : decode cJ19_trustedStripLeadingZeroInts 0 = .ok (.aload_n 0, 1) := dk_42 (dk_at dksJ19_trustedStripLeadingZeroInts_0 0 rfl rfl)
theorem dJ19_trustedStripLeadingZeroInts_1 : decode cJ19_trustedStripLeadingZeroInts 1 = .ok (.arraylength, 1) := dk_190 (dk_at dksJ19_trustedStripLeadingZeroInts_0 1 rfl rfl)
theorem dJ19_trustedStripLeadingZeroInts_2 : decode cJ19_trustedStripLeadingZeroInts 2 = .ok (.istore_n 1, 1) := dk_60 (dk_at dksJ19_trustedStripLeadingZeroInts_0 2 rfl rfl)
theorem dJ19_trustedStripLeadingZeroInts_3 : decode cJ19_trustedStripLeadingZeroInts 3 = .ok (.iconst 0, 1) := dk_3 (dk_at dksJ19_trustedStripLeadingZeroInts_0 3 rfl rfl)
theorem dJ19_trustedStripLeadingZeroInts_4 : decode cJ19_trustedStripLeadingZeroInts 4 = .ok (.istore_n 2, 1) := dk_61 (dk_at dksJ19_trustedStripLeadingZeroInts_0 4 rfl rfl)
theorem dJ19_trustedStripLeadingZeroInts_5 : decode cJ19_trustedStripLeadingZeroInts 5 = .ok (.iload_n 2, 1) := dk_28 (dk_at dksJ19_trustedStripLeadingZeroInts_0 5 rfl rfl)
theorem dJ19_trustedStripLeadingZeroInts_6 : decode cJ19_trustedStripLeadingZeroInts 6 = .ok (.iload_n 1, 1) := dk_27 (dk_at dksJ19_trustedStripLeadingZeroInts_0 6 rfl rfl)
theorem dJ19_trustedStripLeadingZeroInts_7 : decode cJ19_trustedStripLeadingZeroInts 7 = .ok (.if_icmp .ge 15, 3) := dk_162 0 15 (dk_at dksJ19_trustedStripLeadingZeroInts_0 7 rfl rfl)
theorem dJ19_trustedStripLeadingZeroInts_10 : decode cJ19_trustedStripLeadingZeroInts 10 = .ok (.aload_n 0, 1) := dk_42 (dk_at dksJ19_trustedStripLeadingZeroInts_0 10 rfl rfl)
theorem dJ19_trustedStripLeadingZeroInts_11 : decode cJ19_trustedStripLeadingZeroInts 11 = .ok (.iload_n 2, 1) := dk_28 (dk_at dksJ19_trustedStripLeadingZeroInts_0 11 rfl rfl)
theorem dJ19_trustedStripLeadingZeroInts_12 : decode cJ19_trustedStripLeadingZeroInts 12 = .ok (.iaload, 1) := dk_46 (dk_at dksJ19_trustedStripLeadingZeroInts_0 12 rfl rfl)
theorem dJ19_trustedStripLeadingZeroInts_13 : decode cJ19_trustedStripLeadingZeroInts 13 = .ok (.ifCond .ne 9, 3) := dk_154 0 9 (dk_at dksJ19_trustedStripLeadingZeroInts_0 13 rfl rfl)
theorem dJ19_trustedStripLeadingZeroInts_16 : decode cJ19_trustedStripLeadingZeroInts 16 = .ok (.iinc 2 1, 3) := dk_132 2 1 (dk_at dksJ19_trustedStripLeadingZeroInts_0 16 rfl rfl)
theorem dJ19_trustedStripLeadingZeroInts_19 : decode cJ19_trustedStripLeadingZeroInts 19 = .ok (.goto (-14), 3) := dk_167 255 242 (dk_at dksJ19_trustedStripLeadingZeroInts_0 19 rfl rfl)
theorem dJ19_trustedStripLeadingZeroInts_22 : decode cJ19_trustedStripLeadingZeroInts 22 = .ok (.iload_n 2, 1) := dk_28 (dk_at dksJ19_trustedStripLeadingZeroInts_0 22 rfl rfl)
theorem dJ19_trustedStripLeadingZeroInts_23 : decode cJ19_trustedStripLeadingZeroInts 23 = .ok (.ifCond .ne 7, 3) := dk_154 0 7 (dk_at dksJ19_trustedStripLeadingZeroInts_1 0 rfl rfl)
theorem dJ19_trustedStripLeadingZeroInts_26 : decode cJ19_trustedStripLeadingZeroInts 26 = .ok (.aload_n 0, 1) := dk_42 (dk_at dksJ19_trustedStripLeadingZeroInts_1 3 rfl rfl)
theorem dJ19_trustedStripLeadingZeroInts_27 : decode cJ19_trustedStripLeadingZeroInts 27 = .ok (.goto 9, 3) := dk_167 0 9 (dk_at dksJ19_trustedStripLeadingZeroInts_1 4 rfl rfl)
theorem dJ19_trustedStripLeadingZeroInts_30 : decode cJ19_trustedStripLeadingZeroInts 30 = .ok (.aload_n 0, 1) := dk_42 (dk_at dksJ19_trustedStripLeadingZeroInts_1 7 rfl rfl)
theorem dJ19_trustedStripLeadingZeroInts_31 : decode cJ19_trustedStripLeadingZeroInts 31 = .ok (.iload_n 2, 1) := dk_28 (dk_at dksJ19_trustedStripLeadingZeroInts_1 8 rfl rfl)
theorem dJ19_trustedStripLeadingZeroInts_32 : decode cJ19_trustedStripLeadingZeroInts 32 = .ok (.iload_n 1, 1) := dk_27 (dk_at dksJ19_trustedStripLeadingZeroInts_1 9 rfl rfl)
theorem dJ19_trustedStripLeadingZeroInts_33 : decode cJ19_trustedStripLeadingZeroInts 33 = .ok (.invokestatic 433, 3) := dk_184 1 177 (dk_at dksJ19_trustedStripLeadingZeroInts_1 10 rfl rfl)
theorem dJ19_trustedStripLeadingZeroInts_36 : decode cJ19_trustedStripLeadingZeroInts 36 = .ok (.areturn, 1) := dk_176 (dk_at dksJ19_trustedStripLeadingZeroInts_1 13 rfl rfl)
def dkwJ19_getInt_2 : List UInt8 := [182, 3, 95, 163, 0, 8, 28, 116, 167, 0, 6, 28, 2, 130, 172]
abbrev dktJ19_getInt_2 : List UInt8 := dkwJ19_getInt_2 ++ []
def dkwJ19_getInt_1 : List UInt8 := [42, 180, 0, 28, 190, 27, 100, 4, 100, 46, 61, 42, 180, 0, 32, 155, 0, 7, 28, 167, 0, 19, 27, 42]
abbrev dktJ19_getInt_1 : List UInt8 := dkwJ19_getInt_1 ++ dktJ19_getInt_2
def dkwJ19_getInt_0 : List UInt8 := [27, 156, 0, 5, 3, 172, 27, 42, 180, 0, 28, 190, 161, 0, 8, 42, 182, 3, 92, 172, 42, 180, 0, 28]
abbrev dktJ19_getInt_0 : List UInt8 := dkwJ19_getInt_0 ++ dktJ19_getInt_1
theorem dksJ19_getInt_0 : cJ19_getInt.data.toList.drop 0 = dktJ19_getInt_0 := by decide +kernel
theorem dksJ19_getInt_1 : cJ19_getInt.data.toList.drop 24 = dktJ19_getInt_1 := dk_seg dksJ19_getInt_0 24 rfl rfl
theorem dksJ19_getInt_2 : cJ19_getInt.data.toList.drop 48 = dktJ19_getInt_2 := dk_seg dksJ19_getInt_1 24 rfl rfl
theorem dJ19_getInt_0 : decode cJ19_getInt 0 = .ok (.iload_n 1, 1) := dk_27 (dk_at dksJ19_getInt_0 0 rfl rfl)
theorem dJ19_getInt_1 : decode cJ19_getInt 1 = .ok (.ifCond .ge 5, 3) := dk_156 0 5 (dk_at dksJ19_getInt_0 1 rfl rfl)
theorem dJ19_getInt_4 : decode cJ19_getInt 4 = .ok (.iconst 0, 1) := dk_3 (dk_at dksJ19_getInt_0 4 rfl rfl)
theorem dJ19_getInt_5 : decode cJ19_getInt 5 = .ok (.ireturn, 1) := dk_172 (dk_at dksJ19_getInt_0 5 rfl rfl)
theorem dJ19_getInt_6 : decode cJ19_getInt 6 = .ok (.iload_n 1, 1) := dk_27 (dk_at dksJ19_getInt_0 6 rfl rfl)
theorem dJ19_getInt_7 : decode cJ19_getInt 7 = .ok (.aload_n 0, 1) := dk_42 (dk_at dksJ19_getInt_0 7 rfl rfl)
theorem dJ19_getInt_8 : decode cJ19_getInt 8 = .ok (.getfield 28, 3) := dk_180 0 28 (dk_at dksJ19_getInt_0 8 rfl rfl)
theorem dJ19_getInt_11 : decode cJ19_getInt 11 = .ok (.arraylength, 1) := dk_190 (dk_at dksJ19_getInt_0 11 rfl rfl)
theorem dJ19_getInt_12 : decode cJ19_getInt 12 = .ok (.if_icmp .lt 8, 3) := dk_161 0 8 (dk_at dksJ19_getInt_0 12 rfl rfl)
theorem dJ19_getInt_15 : decode cJ19_getInt 15 = .ok (.aload_n 0, 1) := dk_42 (dk_at dksJ19_getInt_0 15 rfl rfl)
theorem dJ19_getInt_16 : decode cJ19_getInt 16 = .ok (.invokevirtual 860, 3) := dk_182 3 92 (dk_at dksJ19_getInt_0 16 rfl rfl)
theorem dJ19_getInt_19 : decode cJ19_getInt 19 = .ok (.ireturn, 1) := dk_172 (dk_at dksJ19_getInt_0 19 rfl rfl)
theorem dJ19_getInt_20 : decode cJ19_getInt 20 = .ok (.aload_n 0, 1) := dk_42 (dk_at dksJ19_getInt_0 20 rfl rfl)
theorem dJ19_getInt_21 : decode cJ19_getInt 21 = .ok (.getfield 28, 3) := dk_180 0 28 (dk_at dksJ19_getInt_0 21 rfl rfl)
theorem dJ19_getInt_24 : decode cJ19_getInt 24 = .ok (.aload_n 0, 1) := dk_42 (dk_at dksJ19_getInt_1 0 rfl rfl)
theorem dJ19_getInt_25 : decode cJ19_getInt 25 = .ok (.getfield 28, 3) := dk_180 0 28 (dk_at dksJ19_getInt_1 1 rfl rfl)
theorem dJ19_getInt_28 : decode cJ19_getInt 28 = .ok (.arraylength, 1) := dk_190 (dk_at dksJ19_getInt_1 4 rfl rfl)
theorem dJ19_getInt_29 : decode cJ19_getInt 29 = .ok (.iload_n 1, 1) := dk_27 (dk_at dksJ19_getInt_1 5 rfl rfl)
theorem dJ19_getInt_30 : decode cJ19_getInt 30 = .ok (.isub, 1) := dk_100 (dk_at dksJ19_getInt_1 6 rfl rfl)
theorem dJ19_getInt_31 : decode cJ19_getInt 31 = .ok (.iconst 1, 1) := dk_4 (dk_at dksJ19_getInt_1 7 rfl rfl)
theorem dJ19_getInt_32 : decode cJ19_getInt 32 = .ok (.isub, 1) := dk_100 (dk_at dksJ19_getInt_1 8 rfl rfl)
theorem dJ19_getInt_33 : decode cJ19_getInt 33 = .ok (.iaload, 1) := dk_46 (dk_at dksJ19_getInt_1 9 rfl rfl)
theorem dJ19_getInt_34 : decode cJ19_getInt 34 = .ok (.istore_n 2, 1) := dk_61 (dk_at dksJ19_getInt_1 10 rfl rfl)
theorem dJ19_getInt_35 : decode cJ19_getInt 35 = .ok (.aload_n 0, 1) := dk_42 (dk_at dksJ19_getInt_1 11 rfl rfl)
theorem dJ19_getInt_36 : decode cJ19_getInt 36 = .ok (.getfield 32, 3) := dk_180 0 32 (dk_at dksJ19_getInt_1 12 rfl rfl)
theorem dJ19_getInt_39 : decode cJ19_getInt 39 = .ok (.ifCond .lt 7, 3) := dk_155 0 7 (dk_at dksJ19_getInt_1 15 rfl rfl)
theorem dJ19_getInt_42 : decode cJ19_getInt 42 = .ok (.iload_n 2, 1) := dk_28 (dk_at dksJ19_getInt_1 18 rfl rfl)
theorem dJ19_getInt_43 : decode cJ19_getInt 43 = .ok (.goto 19, 3) := dk_167 0 19 (dk_at dksJ19_getInt_1 19 rfl rfl)
theorem dJ19_getInt_46 : decode cJ19_getInt 46 = .ok (.iload_n 1, 1) := dk_27 (dk_at dksJ19_getInt_1 22 rfl rfl)
theorem dJ19_getInt_47 : decode cJ19_getInt 47 = .ok (.aload_n 0, 1) := dk_42 (dk_at dksJ19_getInt_1 23 rfl rfl)
theorem dJ19_getInt_48 : decode cJ19_getInt 48 = .ok (.invokevirtual 863, 3) := dk_182 3 95 (dk_at dksJ19_getInt_2 0 rfl rfl)
theorem dJ19_getInt_51 : decode cJ19_getInt 51 = .ok (.if_icmp .gt 8, 3) := dk_163 0 8 (dk_at dksJ19_getInt_2 3 rfl rfl)
theorem dJ19_getInt_54 : decode cJ19_getInt 54 = .ok (.iload_n 2, 1) := dk_28 (dk_at dksJ19_getInt_2 6 rfl rfl)
theorem dJ19_getInt_55 : decode cJ19_getInt 55 = .ok (.ineg, 1) := dk_116 (dk_at dksJ19_getInt_2 7 rfl rfl)
theorem dJ19_getInt_56 : decode cJ19_getInt 56 = .ok (.goto 6, 3) := dk_167 0 6 (dk_at dksJ19_getInt_2 8 rfl rfl)
theorem dJ19_getInt_59 : decode cJ19_getInt 59 = .ok (.iload_n 2, 1) := dk_28 (dk_at dksJ19_getInt_2 11 rfl rfl)
theorem dJ19_getInt_60 : decode cJ19_getInt 60 = .ok (.iconst (-1), 1) := dk_2 (dk_at dksJ19_getInt_2 12 rfl rfl)
theorem dJ19_getInt_61 : decode cJ19_getInt 61 = .ok (.ixor, 1) := dk_130 (dk_at dksJ19_getInt_2 13 rfl rfl)
theorem dJ19_getInt_62 : decode cJ19_getInt 62 = .ok (.ireturn, 1) := dk_172 (dk_at dksJ19_getInt_2 14 rfl rfl)
def dkwJ19_signInt_0 : List UInt8 := [42, 180, 0, 32, 156, 0, 7, 2, 167, 0, 4, 3, 172]
abbrev dktJ19_signInt_0 : List UInt8 := dkwJ19_signInt_0 ++ []
theorem dksJ19_signInt_0 : cJ19_signInt.data.toList.drop 0 = dktJ19_signInt_0 := by decide +kernel
theorem dJ19_signInt_0 : decode cJ19_signInt 0 = .ok (.aload_n 0, 1) := dk_42 (dk_at dksJ19_signInt_0 0 rfl rfl)
theorem dJ19_signInt_1 : decode cJ19_signInt 1 = .ok (.getfield 32, 3) := dk_180 0 32 (dk_at dksJ19_signInt_0 1 rfl rfl)
theorem dJ19_signInt_4 : decode cJ19_signInt 4 = .ok (.ifCond .ge 7, 3) := dk_156 0 7 (dk_at dksJ19_signInt_0 4 rfl rfl)
theorem dJ19_signInt_7 : decode cJ19_signInt 7 = .ok (.iconst (-1), 1) := dk_2 (dk_at dksJ19_signInt_0 7 rfl rfl)
theorem dJ19_signInt_8 : decode cJ19_signInt 8 = .ok (.goto 4, 3) := dk_167 0 4 (dk_at dksJ19_signInt_0 8 rfl rfl)
theorem dJ19_signInt_11 : decode cJ19_signInt 11 = .ok (.iconst 0, 1) := dk_3 (dk_at dksJ19_signInt_0 11 rfl rfl)
theorem dJ19_signInt_12 : decode cJ19_signInt 12 = .ok (.ireturn, 1) := dk_172 (dk_at dksJ19_signInt_0 12 rfl rfl)
def dkwJ19_firstNonzeroIntNum_2 : List UInt8 := [42, 27, 5, 96, 181, 3, 98, 27, 172]
abbrev dktJ19_firstNonzeroIntNum_2 : List UInt8 := dkwJ19_firstNonzeroIntNum_2 ++ []
def dkwJ19_firstNonzeroIntNum_1 : List UInt8 := [155, 0, 18, 42, 180, 0, 28, 28, 46, 154, 0, 9, 132, 2, 255, 167, 255, 240, 29, 28, 100, 4, 100, 60]
abbrev dktJ19_firstNonzeroIntNum_1 : List UInt8 := dkwJ19_firstNonzeroIntNum_1 ++ dktJ19_firstNonzeroIntNum_2
def dkwJ19_firstNonzeroIntNum_0 : List UInt8 := [42, 180, 3, 98, 5, 100, 60, 27, 16, 254, 160, 0, 45, 42, 180, 0, 28, 190, 62, 29, 4, 100, 61, 28]
abbrev dktJ19_firstNonzeroIntNum_0 : List UInt8 := dkwJ19_firstNonzeroIntNum_0 ++ dktJ19_firstNonzeroIntNum_1
theorem dksJ19_firstNonzeroIntNum_0 : cJ19_firstNonzeroIntNum.data.toList.drop 0 = dktJ19_firstNonzeroIntNum_0 := by decide +kernel
theorem dksJ19_firstNonzeroIntNum_1 : cJ19_firstNonzeroIntNum.data.toList.drop 24 = dktJ19_firstNonzeroIntNum_1 := dk_seg dksJ19_firstNonzeroIntNum_0 24 rfl rfl
theorem dksJ19_firstNonzeroIntNum_2 : cJ19_firstNonzeroIntNum.data.toList.drop 48 = dktJ19_firstNonzeroIntNum_2 := dk_seg dksJ19_firstNonzeroIntNum_1 24 rfl rfl
theorem dJ19_firstNonzeroIntNum_0 : decode cJ19_firstNonzeroIntNum 0 = .ok (.aload_n 0, 1) := dk_42 (dk_at dksJ19_firstNonzeroIntNum_0 0 rfl rfl)
theorem dJ19_firstNonzeroIntNum_1 : decode cJ19_firstNonzeroIntNum 1 = .ok (.getfield 866, 3) := dk_180 3 98 (dk_at dksJ19_firstNonzeroIntNum_0 1 rfl rfl)
theorem dJ19_firstNonzeroIntNum_4 : decode cJ19_firstNonzeroIntNum 4 = .ok (.iconst 2, 1) := dk_5 (dk_at dksJ19_firstNonzeroIntNum_0 4 rfl rfl)
theorem dJ19_firstNonzeroIntNum_5 : decode cJ19_firstNonzeroIntNum 5 = .ok (.isub, 1) := dk_100 (dk_at dksJ19_firstNonzeroIntNum_0 5 rfl rfl)
theorem dJ19_firstNonzeroIntNum_6 : decode cJ19_firstNonzeroIntNum 6 = .ok (.istore_n 1, 1) := dk_60 (dk_at dksJ19_firstNonzeroIntNum_0 6 rfl rfl)
theorem dJ19_firstNonzeroIntNum_7 : decode cJ19_firstNonzeroIntNum 7 = .ok (.iload_n 1, 1) := dk_27 (dk_at dksJ19_firstNonzeroIntNum_0 7 rfl rfl)
theorem dJ19_firstNonzeroIntNum_8 : decode cJ19_firstNonzeroIntNum 8 = .ok (.bipush (-2), 2) := dk_16 254 (dk_at dksJ19_firstNonzeroIntNum_0 8 rfl rfl)
theorem dJ19_firstNonzeroIntNum_10 : decode cJ19_firstNonzeroIntNum 10 = .ok (.if_icmp .ne 45, 3) := dk_160 0 45 (dk_at dksJ19_firstNonzeroIntNum_0 10 rfl rfl)
theorem dJ19_firstNonzeroIntNum_13 : decode cJ19_firstNonzeroIntNum 13 = .ok (.aload_n 0, 1) := dk_42 (dk_at dksJ19_firstNonzeroIntNum_0 13 rfl rfl)
theorem dJ19_firstNonzeroIntNum_14 : decode cJ19_firstNonzeroIntNum 14 = .ok (.getfield 28, 3) := dk_180 0 28 (dk_at dksJ19_firstNonzeroIntNum_0 14 rfl rfl)
theorem dJ19_firstNonzeroIntNum_17 : decode cJ19_firstNonzeroIntNum 17 = .ok (.arraylength, 1) := dk_190 (dk_at dksJ19_firstNonzeroIntNum_0 17 rfl rfl)
theorem dJ19_firstNonzeroIntNum_18 : decode cJ19_firstNonzeroIntNum 18 = .ok (.istore_n 3, 1) := dk_62 (dk_at dksJ19_firstNonzeroIntNum_0 18 rfl rfl)
theorem dJ19_firstNonzeroIntNum_19 : decode cJ19_firstNonzeroIntNum 19 = .ok (.iload_n 3, 1) := dk_29 (dk_at dksJ19_firstNonzeroIntNum_0 19 rfl rfl)
theorem dJ19_firstNonzeroIntNum_20 : decode cJ19_firstNonzeroIntNum 20 = .ok (.iconst 1, 1) := dk_4 (dk_at dksJ19_firstNonzeroIntNum_0 20 rfl rfl)
theorem dJ19_firstNonzeroIntNum_21 : decode cJ19_firstNonzeroIntNum 21 = .ok (.isub, 1) := dk_100 (dk_at dksJ19_firstNonzeroIntNum_0 21 rfl rfl)
theorem dJ19_firstNonzeroIntNum_22 : decode cJ19_firstNonzeroIntNum 22 = .ok (.istore_n 2, 1) := dk_61 (dk_at dksJ19_firstNonzeroIntNum_0 22 rfl rfl)
theorem dJ19_firstNonzeroIntNum_23 : decode cJ19_firstNonzeroIntNum 23 = .ok (.iload_n 2, 1) := dk_28 (dk_at dksJ19_firstNonzeroIntNum_0 23 rfl rfl)
theorem dJ19_firstNonzeroIntNum_24 : decode cJ19_firstNonzeroIntNum 24 = .ok (.ifCond .lt 18, 3) := dk_155 0 18 (dk_at dksJ19_firstNonzeroIntNum_1 0 rfl rfl)
theorem dJ19_firstNonzeroIntNum_27 : decode cJ19_firstNonzeroIntNum 27 = .ok (.aload_n 0, 1) := dk_42 (dk_at dksJ19_firstNonzeroIntNum_1 3 rfl rfl)
theorem dJ19_firstNonzeroIntNum_28 : decode cJ19_firstNonzeroIntNum 28 = .ok (.getfield 28, 3) := dk_180 0 28 (dk_at dksJ19_firstNonzeroIntNum_1 4 rfl rfl)
theorem dJ19_firstNonzeroIntNum_31 : decode cJ19_firstNonzeroIntNum 31 = .ok (.iload_n 2, 1) := dk_28 (dk_at dksJ19_firstNonzeroIntNum_1 7 rfl rfl)
theorem dJ19_firstNonzeroIntNum_32 : decode cJ19_firstNonzeroIntNum 32 = .ok (.iaload, 1) := dk_46 (dk_at dksJ19_firstNonzeroIntNum_1 8 rfl rfl)
theorem dJ19_firstNonzeroIntNum_33 : decode cJ19_firstNonzeroIntNum 33 = .ok (.ifCond .ne 9, 3) := dk_154 0 9 (dk_at dksJ19_firstNonzeroIntNum_1 9 rfl rfl)
theorem dJ19_firstNonzeroIntNum_36 : decode cJ19_firstNonzeroIntNum 36 = .ok (.iinc 2 (-1), 3) := dk_132 2 255 (dk_at dksJ19_firstNonzeroIntNum_1 12 rfl rfl)
theorem dJ19_firstNonzeroIntNum_39 : decode cJ19_firstNonzeroIntNum 39 = .ok (.goto (-16), 3) := dk_167 255 240 (dk_at dksJ19_firstNonzeroIntNum_1 15 rfl rfl)
theorem dJ19_firstNonzeroIntNum_42 : decode cJ19_firstNonzeroIntNum 42 = .ok (.iload_n 3, 1) := dk_29 (dk_at dksJ19_firstNonzeroIntNum_1 18 rfl rfl)
theorem dJ19_firstNonzeroIntNum_43 : decode cJ19_firstNonzeroIntNum 43 = .ok (.iload_n 2, 1) := dk_28 (dk_at dksJ19_firstNonzeroIntNum_1 19 rfl rfl)
theorem dJ19_firstNonzeroIntNum_44 : decode cJ19_firstNonzeroIntNum 44 = .ok (.isub, 1) := dk_100 (dk_at dksJ19_firstNonzeroIntNum_1 20 rfl rfl)
theorem dJ19_firstNonzeroIntNum_45 : decode cJ19_firstNonzeroIntNum 45 = .ok (.iconst 1, 1) := dk_4 (dk_at dksJ19_firstNonzeroIntNum_1 21 rfl rfl)
theorem dJ19_firstNonzeroIntNum_46 : decode cJ19_firstNonzeroIntNum 46 = .ok (.isub, 1) := dk_100 (dk_at dksJ19_firstNonzeroIntNum_1 22 rfl rfl)
theorem dJ19_firstNonzeroIntNum_47 : decode cJ19_firstNonzeroIntNum 47 = .ok (.istore_n 1, 1) := dk_60 (dk_at dksJ19_firstNonzeroIntNum_1 23 rfl rfl)
theorem dJ19_firstNonzeroIntNum_48 : decode cJ19_firstNonzeroIntNum 48 = .ok (.aload_n 0, 1) := dk_42 (dk_at dksJ19_firstNonzeroIntNum_2 0 rfl rfl)
theorem dJ19_firstNonzeroIntNum_49 : decode cJ19_firstNonzeroIntNum 49 = .ok (.iload_n 1, 1) := dk_27 (dk_at dksJ19_firstNonzeroIntNum_2 1 rfl rfl)
theorem dJ19_firstNonzeroIntNum_50 : decode cJ19_firstNonzeroIntNum 50 = .ok (.iconst 2, 1) := dk_5 (dk_at dksJ19_firstNonzeroIntNum_2 2 rfl rfl)
theorem dJ19_firstNonzeroIntNum_51 : decode cJ19_firstNonzeroIntNum 51 = .ok (.iadd, 1) := dk_96 (dk_at dksJ19_firstNonzeroIntNum_2 3 rfl rfl)
theorem dJ19_firstNonzeroIntNum_52 : decode cJ19_firstNonzeroIntNum 52 = .ok (.putfield 866, 3) := dk_181 3 98 (dk_at dksJ19_firstNonzeroIntNum_2 4 rfl rfl)
theorem dJ19_firstNonzeroIntNum_55 : decode cJ19_firstNonzeroIntNum 55 = .ok (.iload_n 1, 1) := dk_27 (dk_at dksJ19_firstNonzeroIntNum_2 7 rfl rfl)
theorem dJ19_firstNonzeroIntNum_56 : decode cJ19_firstNonzeroIntNum 56 = .ok (.ireturn, 1) := dk_172 (dk_at dksJ19_firstNonzeroIntNum_2 8 rfl rfl)
def dkwJ19_abs_0 : List UInt8 := [42, 180, 0, 32, 155, 0, 7, 42, 167, 0, 7, 42, 182, 1, 138, 176]
abbrev dktJ19_abs_0 : List UInt8 := dkwJ19_abs_0 ++ []
theorem dksJ19_abs_0 : cJ19_abs.data.toList.drop 0 = dktJ19_abs_0 := by decide +kernel
theorem dJ19_abs_0 : decode cJ19_abs 0 = .ok (.aload_n 0, 1) := dk_42 (dk_at dksJ19_abs_0 0 rfl rfl)
theorem dJ19_abs_1 : decode cJ19_abs 1 = .ok (.getfield 32, 3) := dk_180 0 32 (dk_at dksJ19_abs_0 1 rfl rfl)
theorem dJ19_abs_4 : decode cJ19_abs 4 = .ok (.ifCond .lt 7, 3) := dk_155 0 7 (dk_at dksJ19_abs_0 4 rfl rfl)
theorem dJ19_abs_7 : decode cJ19_abs 7 = .ok (.aload_n 0, 1) := dk_42 (dk_at dksJ19_abs_0 7 rfl rfl)
theorem dJ19_abs_8 : decode cJ19_abs 8 = .ok (.goto 7, 3) := dk_167 0 7 (dk_at dksJ19_abs_0 8 rfl rfl)
theorem dJ19_abs_11 : decode cJ19_abs 11 = .ok (.aload_n 0, 1) := dk_42 (dk_at dksJ19_abs_0 11 rfl rfl)
theorem dJ19_abs_12 : decode cJ19_abs 12 = .ok (.invokevirtual 394, 3) := dk_182 1 138 (dk_at dksJ19_abs_0 12 rfl rfl)
theorem dJ19_abs_15 : decode cJ19_abs 15 = .ok (.areturn, 1) := dk_176 (dk_at dksJ19_abs_0 15 rfl rfl)
def dkwJ19_negate_0 : List UInt8 := [187, 0, 23, 89, 42, 180, 0, 28, 42, 180, 0, 32, 116, 183, 0, 175, 176]
abbrev dktJ19_negate_0 : List UInt8 := dkwJ19_negate_0 ++ []
theorem dksJ19_negate_0 : cJ19_negate.data.toList.drop 0 = dktJ19_negate_0 := by decide +kernel
theorem dJ19_negate_0 : decode cJ19_negate 0 = .ok (.new 23, 3) := dk_187 0 23 (dk_at dksJ19_negate_0 0 rfl rfl)
theorem dJ19_negate_3 : decode cJ19_negate 3 = .ok (.dup, 1) := dk_89 (dk_at dksJ19_negate_0 3 rfl rfl)
theorem dJ19_negate_4 : decode cJ19_negate 4 = .ok (.aload_n 0, 1) := dk_42 (dk_at dksJ19_negate_0 4 rfl rfl)
theorem dJ19_negate_5 : decode cJ19_negate 5 = .ok (.getfield 28, 3) := dk_180 0 28 (dk_at dksJ19_negate_0 5 rfl rfl)
theorem dJ19_negate_8 : decode cJ19_negate 8 = .ok (.aload_n 0, 1) := dk_42 (dk_at dksJ19_negate_0 8 rfl rfl)
theorem dJ19_negate_9 : decode cJ19_negate 9 = .ok (.getfield 32, 3) := dk_180 0 32 (dk_at dksJ19_negate_0 9 rfl rfl)
theorem dJ19_negate_12 : decode cJ19_negate 12 = .ok (.ineg, 1) := dk_116 (dk_at dksJ19_negate_0 12 rfl rfl)
theorem dJ19_negate_13 : decode cJ19_negate 13 = .ok (.invokespecial 175, 3) := dk_183 0 175 (dk_at dksJ19_negate_0 13 rfl rfl)
theorem dJ19_negate_16 : decode cJ19_negate 16 = .ok (.areturn, 1) := dk_176 (dk_at dksJ19_negate_0 16 rfl rfl)
def dkwJ19_compareMagnitude_2_4 : List UInt8 := [167, 255, 203, 3, 172]
abbrev dktJ19_compareMagnitude_2_4 : List UInt8 := dkwJ19_compareMagnitude_2_4 ++ []
def dkwJ19_compareMagnitude_2_3 : List UInt8 := [20, 0, 130, 127, 21, 8, 133, 20, 0, 130, 127, 148, 156, 0, 7, 2, 167, 0, 4, 4, 172, 132, 6, 1]
abbrev dktJ19_compareMagnitude_2_3 : List UInt8 := dkwJ19_compareMagnitude_2_3 ++ dktJ19_compareMagnitude_2_4
def dkwJ19_compareMagnitude_2_2 : List UInt8 := [21, 6, 46, 54, 7, 25, 4, 21, 6, 46, 54, 8, 21, 7, 21, 8, 159, 0, 27, 21, 7, 133]
abbrev dktJ19_compareMagnitude_2_2 : List UInt8 := dkwJ19_compareMagnitude_2_2 ++ dktJ19_compareMagnitude_2_3
def dkwJ19_compareMagnitude_2_1 : List UInt8 := [162, 0, 5, 2, 172, 29, 21, 5, 164, 0, 5, 4, 172, 3, 54, 6, 21, 6, 29, 162, 0, 53, 44]
abbrev dktJ19_compareMagnitude_2_1 : List UInt8 := dkwJ19_compareMagnitude_2_1 ++ dktJ19_compareMagnitude_2_2
def dkwJ19_compareMagnitude_2_0 : List UInt8 := [42, 180, 0, 28, 77, 44, 190, 62, 43, 180, 0, 28, 58, 4, 25, 4, 190, 54, 5, 29, 21, 5]
abbrev dktJ19_compareMagnitude_2_0 : List UInt8 := dkwJ19_compareMagnitude_2_0 ++ dktJ19_compareMagnitude_2_1
theorem dksJ19_compareMagnitude_2_0 : cJ19_compareMagnitude_2.data.toList.drop 0 = dktJ19_compareMagnitude_2_0 := by decide +kernel
theorem dksJ19_compareMagnitude_2_1 : cJ19_compareMagnitude_2.data.toList.drop 22 = dktJ19_compareMagnitude_2_1 := dk_seg dksJ19_compareMagnitude_2_0 22 rfl rfl
theorem dksJ19_compareMagnitude_2_2 : cJ19_compareMagnitude_2.data.toList.drop 45 = dktJ19_compareMagnitude_2_2 := dk_seg dksJ19_compareMagnitude_2_1 23 rfl rfl
theorem dksJ19_compareMagnitude_2_3 : cJ19_compareMagnitude_2.data.toList.drop 67 = dktJ19_compareMagnitude_2_3 := dk_seg dksJ19_compareMagnitude_2_2 22 rfl rfl
theorem dksJ19_compareMagnitude_2_4 : cJ19_compareMagnitude_2.data.toList.drop 91 = dktJ19_compareMagnitude_2_4 := dk_seg dksJ19_compareMagnitude_2_3 24 rfl rfl
theorem dJ19_compareMagnitude_2_0 : decode cJ19_compareMagnitude_2 0 = .ok (.aload_n 0, 1) := dk_42 (dk_at dksJ19_compareMagnitude_2_0 0 rfl rfl)
theorem dJ19_compareMagnitude_2_1 : decode cJ19_compareMagnitude_2 1 = .ok (.getfield 28, 3) := dk_180 0 28 (dk_at dksJ19_compareMagnitude_2_0 1 rfl rfl)
theorem dJ19_compareMagnitude_2_4 : decode cJ19_compareMagnitude_2 4 = .ok (.astore_n 2, 1) := dk_77 (dk_at dksJ19_compareMagnitude_2_0 4 rfl rfl)
theorem dJ19_compareMagnitude_2_5 : decode cJ19_compareMagnitude_2 5 = .ok (.aload_n 2, 1) := dk_44 (dk_at dksJ19_compareMagnitude_2_0 5 rfl rfl)
theorem dJ19_compareMagnitude_2_6 : decode cJ19_compareMagnitude_2 6 = .ok (.arraylength, 1) := dk_190 (dk_at dksJ19_compareMagnitude_2_0 6 rfl rfl)
theorem dJ19_compareMagnitude_2_7 : decode cJ19_compareMagnitude_2 7 = .ok (.istore_n 3, 1) := dk_62 (dk_at dksJ19_compareMagnitude_2_0 7 rfl rfl)
theorem dJ19_compareMagnitude_2_8 : decode cJ19_compareMagnitude_2 8 = .ok (.aload_n 1, 1) := dk_43 (dk_at dksJ19_compareMagnitude_2_0 8 rfl rfl)
theorem dJ19_compareMagnitude_2_9 : decode cJ19_compareMagnitude_2 9 = .ok (.getfield 28, 3) := dk_180 0 28 (dk_at dksJ19_compareMagnitude_2_0 9 rfl rfl)
theorem dJ19_compareMagnitude_2_12 : decode cJ19_compareMagnitude_2 12 = .ok (.astore 4, 2) := dk_58 4 (dk_at dksJ19_compareMagnitude_2_0 12 rfl rfl)
theorem dJ19_compareMagnitude_2_14 : decode cJ19_compareMagnitude_2 14 = .ok (.aload 4, 2) := dk_25 4 (dk_at dksJ19_compareMagnitude_2_0 14 rfl rfl)
theorem dJ19_compareMagnitude_2_16 : decode cJ19_compareMagnitude_2 16 = .ok (.arraylength, 1) := dk_190 (dk_at dksJ19_compareMagnitude_2_0 16 rfl rfl)
theorem dJ19_compareMagnitude_2_17 : decode cJ19_compareMagnitude_2 17 = .ok (.istore 5, 2) := dk_54 5 (dk_at dksJ19_compareMagnitude_2_0 17 rfl rfl)
theorem dJ19_compareMagnitude_2_19 : decode cJ19_compareMagnitude_2 19 = .ok (.iload_n 3, 1) := dk_29 (dk_at dksJ19_compareMagnitude_2_0 19 rfl rfl)
theorem dJ19_compareMagnitude_2_20 : decode cJ19_compareMagnitude_2 20 = .ok (.iload 5, 2) := dk_21 5 (dk_at dksJ19_compareMagnitude_2_0 20 rfl rfl)
theorem dJ19_compareMagnitude_2_22 : decode cJ19_compareMagnitude_2 22 = .ok (.if_icmp .ge 5, 3) := dk_162 0 5 (dk_at dksJ19_compareMagnitude_2_1 0 rfl rfl)
theorem dJ19_compareMagnitude_2_25 : decode cJ19_compareMagnitude_2 25 = .ok (.iconst (-1), 1) := dk_2 (dk_at dksJ19_compareMagnitude_2_1 3 rfl rfl)
theorem dJ19_compareMagnitude_2_26 : decode cJ19_compareMagnitude_2 26 = .ok (.ireturn, 1) := dk_172 (dk_at dksJ19_compareMagnitude_2_1 4 rfl rfl)
theorem dJ19_compareMagnitude_2_27 : decode cJ19_compareMagnitude_2 27 = .ok (.iload_n 3, 1) := dk_29 (dk_at dksJ19_compareMagnitude_2_1 5 rfl rfl)
theorem dJ19_compareMagnitude_2_28 : decode cJ19_compareMagnitude_2 28 = .ok (.iload 5, 2) := dk_21 5 (dk_at dksJ19_compareMagnitude_2_1 6 rfl rfl)
theorem dJ19_compareMagnitude_2_30 : decode cJ19_compareMagnitude_2 30 = .ok (.if_icmp .le 5, 3) := dk_164 0 5 (dk_at dksJ19_compareMagnitude_2_1 8 rfl rfl)
theorem dJ19_compareMagnitude_2_33 : decode cJ19_compareMagnitude_2 33 = .ok (.iconst 1, 1) := dk_4 (dk_at dksJ19_compareMagnitude_2_1 11 rfl rfl)
theorem dJ19_compareMagnitude_2_34 : decode cJ19_compareMagnitude_2 34 = .ok (.ireturn, 1) := dk_172 (dk_at dksJ19_compareMagnitude_2_1 12 rfl rfl)
theorem dJ19_compareMagnitude_2_35 : decode cJ19_compareMagnitude_2 35 = .ok (.iconst 0, 1) := dk_3 (dk_at dksJ19_compareMagnitude_2_1 13 rfl rfl)
theorem dJ19_compareMagnitude_2_36 : decode cJ19_compareMagnitude_2 36 = .ok (.istore 6, 2) := dk_54 6 (dk_at dksJ19_compareMagnitude_2_1 14 rfl rfl)
theorem dJ19_compareMagnitude_2_38 : decode cJ19_compareMagnitude_2 38 = .ok (.iload 6, 2) := dk_21 6 (dk_at dksJ19_compareMagnitude_2_1 16 rfl rfl)
theorem dJ19_compareMagnitude_2_40 : decode cJ19_compareMagnitude_2 40 = .ok (.iload_n 3, 1) := dk_29 (dk_at dksJ19_compareMagnitude_2_1 18 rfl rfl)
theorem dJ19_compareMagnitude_2_41 : decode cJ19_compareMagnitude_2 41 = .ok (.if_icmp .ge 53, 3) := dk_162 0 53 (dk_at dksJ19_compareMagnitude_2_1 19 rfl rfl)
theorem dJ19_compareMagnitude_2_44 : decode cJ19_compareMagnitude_2 44 = .ok (.aload_n 2, 1) := dk_44 (dk_at dksJ19_compareMagnitude_2_1 22 rfl rfl)
theorem dJ19_compareMagnitude_2_45 : decode cJ19_compareMagnitude_2 45 = .ok (.iload 6, 2) := dk_21 6 (dk_at dksJ19_compareMagnitude_2_2 0 rfl rfl)
theorem dJ19_compareMagnitude_2_47 : decode cJ19_compareMagnitude_2 47 = .ok (.iaload, 1) := dk_46 (dk_at dksJ19_compareMagnitude_2_2 2 rfl rfl)
theorem dJ19_compareMagnitude_2_48 : decode cJ19_compareMagnitude_2 48 = .ok (.istore 7, 2) := dk_54 7 (dk_at dksJ19_compareMagnitude_2_2 3 rfl rfl)
theorem dJ19_compareMagnitude_2_50 : decode cJ19_compareMagnitude_2 50 = .ok (.aload 4, 2) := dk_25 4 (dk_at dksJ19_compareMagnitude_2_2 5 rfl rfl)
theorem dJ19_compareMagnitude_2_52 : decode cJ19_compareMagnitude_2 52 = .ok (.iload 6, 2) := dk_21 6 (dk_at dksJ19_compareMagnitude_2_2 7 rfl rfl)
theorem dJ19_compareMagnitude_2_54 : decode cJ19_compareMagnitude_2 54 = .ok (.iaload, 1) := dk_46 (dk_at dksJ19_compareMagnitude_2_2 9 rfl rfl)
theorem dJ19_compareMagnitude_2_55 : decode cJ19_compareMagnitude_2 55 = .ok (.istore 8, 2) := dk_54 8 (dk_at dksJ19_compareMagnitude_2_2 10 rfl rfl)
theorem dJ19_compareMagnitude_2_57 : decode cJ19_compareMagnitude_2 57 = .ok (.iload 7, 2) := dk_21 7 (dk_at dksJ19_compareMagnitude_2_2 12 rfl rfl)
theorem dJ19_compareMagnitude_2_59 : decode cJ19_compareMagnitude_2 59 = .ok (.iload 8, 2) := dk_21 8 (dk_at dksJ19_compareMagnitude_2_2 14 rfl rfl)
theorem dJ19_compareMagnitude_2_61 : decode cJ19_compareMagnitude_2 61 = .ok (.if_icmp .eq 27, 3) := dk_159 0 27 (dk_at dksJ19_compareMagnitude_2_2 16 rfl rfl)
theorem dJ19_compareMagnitude_2_64 : decode cJ19_compareMagnitude_2 64 = .ok (.iload 7, 2) := dk_21 7 (dk_at dksJ19_compareMagnitude_2_2 19 rfl rfl)
theorem dJ19_compareMagnitude_2_66 : decode cJ19_compareMagnitude_2 66 = .ok (.i2l, 1) := dk_133 (dk_at dksJ19_compareMagnitude_2_2 21 rfl rfl)
theorem dJ19_compareMagnitude_2_67 : decode cJ19_compareMagnitude_2 67 = .ok (.ldc2_w 130, 3) := dk_20 0 130 (dk_at dksJ19_compareMagnitude_2_3 0 rfl rfl)
theorem dJ19_compareMagnitude_2_70 : decode cJ19_compareMagnitude_2 70 = .ok (.land, 1) := dk_127 (dk_at dksJ19_compareMagnitude_2_3 3 rfl rfl)
theorem dJ19_compareMagnitude_2_71 : decode cJ19_compareMagnitude_2 71 = .ok (.iload 8, 2) := dk_21 8 (dk_at dksJ19_compareMagnitude_2_3 4 rfl rfl)
theorem dJ19_compareMagnitude_2_73 : decode cJ19_compareMagnitude_2 73 = .ok (.i2l, 1) := dk_133 (dk_at dksJ19_compareMagnitude_2_3 6 rfl rfl)
theorem dJ19_compareMagnitude_2_74 : decode cJ19_compareMagnitude_2 74 = .ok (.ldc2_w 130, 3) := dk_20 0 130 (dk_at dksJ19_compareMagnitude_2_3 7 rfl rfl)
theorem dJ19_compareMagnitude_2_77 : decode cJ19_compareMagnitude_2 77 = .ok (.land, 1) := dk_127 (dk_at dksJ19_compareMagnitude_2_3 10 rfl rfl)
theorem dJ19_compareMagnitude_2_78 : decode cJ19_compareMagnitude_2 78 = .ok (.lcmp, 1) := dk_148 (dk_at dksJ19_compareMagnitude_2_3 11 rfl rfl)
theorem dJ19_compareMagnitude_2_79 : decode cJ19_compareMagnitude_2 79 = .ok (.ifCond .ge 7, 3) := dk_156 0 7 (dk_at dksJ19_compareMagnitude_2_3 12 rfl rfl)
theorem dJ19_compareMagnitude_2_82 : decode cJ19_compareMagnitude_2 82 = .ok (.iconst (-1), 1) := dk_2 (dk_at dksJ19_compareMagnitude_2_3 15 rfl rfl)
theorem dJ19_compareMagnitude_2_83 : decode cJ19_compareMagnitude_2 83 = .ok (.goto 4, 3) := dk_167 0 4 (dk_at dksJ19_compareMagnitude_2_3 16 rfl rfl)
theorem dJ19_compareMagnitude_2_86 : decode cJ19_compareMagnitude_2 86 = .ok (.iconst 1, 1) := dk_4 (dk_at dksJ19_compareMagnitude_2_3 19 rfl rfl)
theorem dJ19_compareMagnitude_2_87 : decode cJ19_compareMagnitude_2 87 = .ok (.ireturn, 1) := dk_172 (dk_at dksJ19_compareMagnitude_2_3 20 rfl rfl)
theorem dJ19_compareMagnitude_2_88 : decode cJ19_compareMagnitude_2 88 = .ok (.iinc 6 1, 3) := dk_132 6 1 (dk_at dksJ19_compareMagnitude_2_3 21 rfl rfl)
theorem dJ19_compareMagnitude_2_91 : decode cJ19_compareMagnitude_2 91 = .ok (.goto (-53), 3) := dk_167 255 203 (dk_at dksJ19_compareMagnitude_2_4 0 rfl rfl)
theorem dJ19_compareMagnitude_2_94 : decode cJ19_compareMagnitude_2 94 = .ok (.iconst 0, 1) := dk_3 (dk_at dksJ19_compareMagnitude_2_4 3 rfl rfl)
theorem dJ19_compareMagnitude_2_95 : decode cJ19_compareMagnitude_2 95 = .ok (.ireturn, 1) := dk_172 (dk_at dksJ19_compareMagnitude_2_4 4 rfl rfl)
def dkwJ19_multiply_3_13 : List UInt8 := [176]
abbrev dktJ19_multiply_3_13 : List UInt8 := dkwJ19_multiply_3_13 ++ []
def dkwJ19_multiply_3_12 : List UInt8 := [154, 0, 14, 25, 10, 4, 25, 10, 190, 184, 1, 177, 58, 10, 187, 0, 23, 89, 25, 10, 29, 183, 0, 175]
abbrev dktJ19_multiply_3_12 : List UInt8 := dkwJ19_multiply_3_12 ++ dktJ19_multiply_3_13
def dkwJ19_multiply_3_11 : List UInt8 := [16, 32, 125, 55, 11, 132, 14, 255, 167, 255, 201, 25, 10, 3, 22, 11, 136, 79, 22, 11, 9, 148]
abbrev dktJ19_multiply_3_11 : List UInt8 := dkwJ19_multiply_3_11 ++ dktJ19_multiply_3_12
def dkwJ19_multiply_3_10 : List UInt8 := [20, 0, 130, 127, 97, 22, 11, 97, 55, 15, 25, 10, 21, 13, 132, 13, 255, 22, 15, 136, 79, 22, 15]
abbrev dktJ19_multiply_3_10 : List UInt8 := dkwJ19_multiply_3_10 ++ dktJ19_multiply_3_11
def dkwJ19_multiply_3_9 : List UInt8 := [155, 0, 56, 25, 9, 21, 14, 46, 133, 20, 0, 130, 127, 22, 4, 105, 25, 10, 21, 13, 46, 133]
abbrev dktJ19_multiply_3_9 : List UInt8 := dkwJ19_multiply_3_9 ++ dktJ19_multiply_3_10
def dkwJ19_multiply_3_8 : List UInt8 := [148, 153, 0, 84, 9, 55, 11, 25, 10, 190, 5, 100, 54, 13, 21, 8, 4, 100, 54, 14, 21, 14]
abbrev dktJ19_multiply_3_8 : List UInt8 := dkwJ19_multiply_3_8 ++ dktJ19_multiply_3_9
def dkwJ19_multiply_3_7 : List UInt8 := [22, 15, 16, 32, 125, 55, 11, 132, 14, 255, 167, 255, 212, 25, 10, 21, 13, 22, 11, 136, 79, 22, 4, 9]
abbrev dktJ19_multiply_3_7 : List UInt8 := dkwJ19_multiply_3_7 ++ dktJ19_multiply_3_8
def dkwJ19_multiply_3_6 : List UInt8 := [20, 0, 130, 127, 22, 6, 105, 22, 11, 97, 55, 15, 25, 10, 21, 13, 132, 13, 255, 22, 15, 136, 79]
abbrev dktJ19_multiply_3_6 : List UInt8 := dkwJ19_multiply_3_6 ++ dktJ19_multiply_3_7
def dkwJ19_multiply_3_5 : List UInt8 := [25, 10, 190, 4, 100, 54, 13, 21, 8, 4, 100, 54, 14, 21, 14, 155, 0, 45, 25, 9, 21, 14, 46, 133]
abbrev dktJ19_multiply_3_5 : List UInt8 := dkwJ19_multiply_3_5 ++ dktJ19_multiply_3_6
def dkwJ19_multiply_3_4 : List UInt8 := [154, 0, 12, 21, 8, 4, 96, 188, 10, 167, 0, 9, 21, 8, 5, 96, 188, 10, 58, 10, 9, 55, 11]
abbrev dktJ19_multiply_3_4 : List UInt8 := dkwJ19_multiply_3_4 ++ dktJ19_multiply_3_5
def dkwJ19_multiply_3_3 : List UInt8 := [31, 20, 0, 130, 127, 55, 6, 42, 180, 0, 28, 190, 54, 8, 42, 180, 0, 28, 58, 9, 22, 4, 9, 148]
abbrev dktJ19_multiply_3_3 : List UInt8 := dkwJ19_multiply_3_3 ++ dktJ19_multiply_3_4
def dkwJ19_multiply_3_2 : List UInt8 := [167, 0, 8, 42, 180, 0, 32, 116, 62, 31, 9, 148, 156, 0, 6, 31, 117, 64, 31, 16, 32, 125, 55, 4]
abbrev dktJ19_multiply_3_2 : List UInt8 := dkwJ19_multiply_3_2 ++ dktJ19_multiply_3_3
def dkwJ19_multiply_3_1 : List UInt8 := [154, 0, 12, 42, 31, 184, 0, 235, 182, 1, 60, 176, 31, 9, 148, 158, 0, 10, 42, 180, 0, 32]
abbrev dktJ19_multiply_3_1 : List UInt8 := dkwJ19_multiply_3_1 ++ dktJ19_multiply_3_2
def dkwJ19_multiply_3_0 : List UInt8 := [31, 9, 148, 153, 0, 10, 42, 180, 0, 32, 154, 0, 7, 178, 0, 22, 176, 31, 20, 1, 183, 148]
abbrev dktJ19_multiply_3_0 : List UInt8 := dkwJ19_multiply_3_0 ++ dktJ19_multiply_3_1
theorem dksJ19_multiply_3_0 : cJ19_multiply_3.data.toList.drop 0 = dktJ19_multiply_3_0 := by decide +kernel
theorem dksJ19_multiply_3_1 : cJ19_multiply_3.data.toList.drop 22 = dktJ19_multiply_3_1 := dk_seg dksJ19_multiply_3_0 22 rfl rfl
theorem dksJ19_multiply_3_2 : cJ19_multiply_3.data.toList.drop 44 = dktJ19_multiply_3_2 := dk_seg dksJ19_multiply_3_1 22 rfl rfl
theorem dksJ19_multiply_3_3 : cJ19_multiply_3.data.toList.drop 68 = dktJ19_multiply_3_3 := dk_seg dksJ19_multiply_3_2 24 rfl rfl
theorem dksJ19_multiply_3_4 : cJ19_multiply_3.data.toList.drop 92 = dktJ19_multiply_3_4 := dk_seg dksJ19_multiply_3_3 24 rfl rfl
theorem dksJ19_multiply_3_5 : cJ19_multiply_3.data.toList.drop 115 = dktJ19_multiply_3_5 := dk_seg dksJ19_multiply_3_4 23 rfl rfl
theorem dksJ19_multiply_3_6 : cJ19_multiply_3.data.toList.drop 139 = dktJ19_multiply_3_6 := dk_seg dksJ19_multiply_3_5 24 rfl rfl
theorem dksJ19_multiply_3_7 : cJ19_multiply_3.data.toList.drop 162 = dktJ19_multiply_3_7 := dk_seg dksJ19_multiply_3_6 23 rfl rfl
theorem dksJ19_multiply_3_8 : cJ19_multiply_3.data.toList.drop 186 = dktJ19_multiply_3_8 := dk_seg dksJ19_multiply_3_7 24 rfl rfl
theorem dksJ19_multiply_3_9 : cJ19_multiply_3.data.toList.drop 208 = dktJ19_multiply_3_9 := dk_seg dksJ19_multiply_3_8 22 rfl rfl
theorem dksJ19_multiply_3_10 : cJ19_multiply_3.data.toList.drop 230 = dktJ19_multiply_3_10 := dk_seg dksJ19_multiply_3_9 22 rfl rfl
theorem dksJ19_multiply_3_11 : cJ19_multiply_3.data.toList.drop 253 = dktJ19_multiply_3_11 := dk_seg dksJ19_multiply_3_10 23 rfl rfl
theorem dksJ19_multiply_3_12 : cJ19_multiply_3.data.toList.drop 275 = dktJ19_multiply_3_12 := dk_seg dksJ19_multiply_3_11 22 rfl rfl
theorem dksJ19_multiply_3_13 : cJ19_multiply_3.data.toList.drop 299 = dktJ19_multiply_3_13 := dk_seg dksJ19_multiply_3_12 24 rfl rfl
theorem dJ19_multiply_3_0 : decode cJ19_multiply_3 0 = .ok (.lload_n 1, 1) := dk_31 (dk_at dksJ19_multiply_3_0 0 rfl rfl)
theorem dJ19_multiply_3_1 : decode cJ19_multiply_3 1 = .ok (.lconst 0, 1) := dk_9 (dk_at dksJ19_multiply_3_0 1 rfl rfl)
theorem dJ19_multiply_3_2 : decode cJ19_multiply_3 2 = .ok (.lcmp, 1) := dk_148 (dk_at dksJ19_multiply_3_0 2 rfl rfl)
theorem dJ19_multiply_3_3 : decode cJ19_multiply_3 3 = .ok (.ifCond .eq 10, 3) := dk_153 0 10 (dk_at dksJ19_multiply_3_0 3 rfl rfl)
theorem dJ19_multiply_3_6 : decode cJ19_multiply_3 6 = .ok (.aload_n 0, 1) := dk_42 (dk_at dksJ19_multiply_3_0 6 rfl rfl)
theorem dJ19_multiply_3_7 : decode cJ19_multiply_3 7 = .ok (.getfield 32, 3) := dk_180 0 32 (dk_at dksJ19_multiply_3_0 7 rfl rfl)
theorem dJ19_multiply_3_10 : decode cJ19_multiply_3 10 = .ok (.ifCond .ne 7, 3) := dk_154 0 7 (dk_at dksJ19_multiply_3_0 10 rfl rfl)
theorem dJ19_multiply_3_13 : decode cJ19_multiply_3 13 = .ok (.getstatic 22, 3) := dk_178 0 22 (dk_at dksJ19_multiply_3_0 13 rfl rfl)
theorem dJ19_multiply_3_16 : decode cJ19_multiply_3 16 = .ok (.areturn, 1) := dk_176 (dk_at dksJ19_multiply_3_0 16 rfl rfl)
theorem dJ19_multiply_3_17 : decode cJ19_multiply_3 17 = .ok (.lload_n 1, 1) := dk_31 (dk_at dksJ19_multiply_3_0 17 rfl rfl)
theorem dJ19_multiply_3_18 : decode cJ19_multiply_3 18 = .ok (.ldc2_w 439, 3) := dk_20 1 183 (dk_at dksJ19_multiply_3_0 18 rfl rfl)
theorem dJ19_multiply_3_21 : decode cJ19_multiply_3 21 = .ok (.lcmp, 1) := dk_148 (dk_at dksJ19_multiply_3_0 21 rfl rfl)
theorem dJ19_multiply_3_22 : decode cJ19_multiply_3 22 = .ok (.ifCond .ne 12, 3) := dk_154 0 12 (dk_at dksJ19_multiply_3_1 0 rfl rfl)
theorem dJ19_multiply_3_25 : decode cJ19_multiply_3 25 = .ok (.aload_n 0, 1) := dk_42 (dk_at dksJ19_multiply_3_1 3 rfl rfl)
theorem dJ19_multiply_3_26 : decode cJ19_multiply_3 26 = .ok (.lload_n 1, 1) := dk_31 (dk_at dksJ19_multiply_3_1 4 rfl rfl)
theorem dJ19_multiply_3_27 : decode cJ19_multiply_3 27 = .ok (.invokestatic 235, 3) := dk_184 0 235 (dk_at dksJ19_multiply_3_1 5 rfl rfl)
theorem dJ19_multiply_3_30 : decode cJ19_multiply_3 30 = .ok (.invokevirtual 316, 3) := dk_182 1 60 (dk_at dksJ19_multiply_3_1 8 rfl rfl)
theorem dJ19_multiply_3_33 : decode cJ19_multiply_3 33 = .ok (.areturn, 1) := dk_176 (dk_at dksJ19_multiply_3_1 11 rfl rfl)
theorem dJ19_multiply_3_34 : decode cJ19_multiply_3 34 = .ok (.lload_n 1, 1) := dk_31 (dk_at dksJ19_multiply_3_1 12 rfl rfl)
theorem dJ19_multiply_3_35 : decode cJ19_multiply_3 35 = .ok (.lconst 0, 1) := dk_9 (dk_at dksJ19_multiply_3_1 13 rfl rfl)
theorem dJ19_multiply_3_36 : decode cJ19_multiply_3 36 = .ok (.lcmp, 1) := dk_148 (dk_at dksJ19_multiply_3_1 14 rfl rfl)
theorem dJ19_multiply_3_37 : decode cJ19_multiply_3 37 = .ok (.ifCond .le 10, 3) := dk_158 0 10 (dk_at dksJ19_multiply_3_1 15 rfl rfl)
theorem dJ19_multiply_3_40 : decode cJ19_multiply_3 40 = .ok (.aload_n 0, 1) := dk_42 (dk_at dksJ19_multiply_3_1 18 rfl rfl)
theorem dJ19_multiply_3_41 : decode cJ19_multiply_3 41 = .ok (.getfield 32, 3) := dk_180 0 32 (dk_at dksJ19_multiply_3_1 19 rfl rfl)
theorem dJ19_multiply_3_44 : decode cJ19_multiply_3 44 = .ok (.goto 8, 3) := dk_167 0 8 (dk_at dksJ19_multiply_3_2 0 rfl rfl)
theorem dJ19_multiply_3_47 : decode cJ19_multiply_3 47 = .ok (.aload_n 0, 1) := dk_42 (dk_at dksJ19_multiply_3_2 3 rfl rfl)
theorem dJ19_multiply_3_48 : decode cJ19_multiply_3 48 = .ok (.getfield 32, 3) := dk_180 0 32 (dk_at dksJ19_multiply_3_2 4 rfl rfl)
theorem dJ19_multiply_3_51 : decode cJ19_multiply_3 51 = .ok (.ineg, 1) := dk_116 (dk_at dksJ19_multiply_3_2 7 rfl rfl)
theorem dJ19_multiply_3_52 : decode cJ19_multiply_3 52 = .ok (.istore_n 3, 1) := dk_62 (dk_at dksJ19_multiply_3_2 8 rfl rfl)
theorem dJ19_multiply_3_53 : decode cJ19_multiply_3 53 = .ok (.lload_n 1, 1) := dk_31 (dk_at dksJ19_multiply_3_2 9 rfl rfl)
theorem dJ19_multiply_3_54 : decode cJ19_multiply_3 54 = .ok (.lconst 0, 1) := dk_9 (dk_at dksJ19_multiply_3_2 10 rfl rfl)
theorem dJ19_multiply_3_55 : decode cJ19_multiply_3 55 = .ok (.lcmp, 1) := dk_148 (dk_at dksJ19_multiply_3_2 11 rfl rfl)
theorem dJ19_multiply_3_56 : decode cJ19_multiply_3 56 = .ok (.ifCond .ge 6, 3) := dk_156 0 6 (dk_at dksJ19_multiply_3_2 12 rfl rfl)
theorem dJ19_multiply_3_59 : decode cJ19_multiply_3 59 = .ok (.lload_n 1, 1) := dk_31 (dk_at dksJ19_multiply_3_2 15 rfl rfl)
theorem dJ19_multiply_3_60 : decode cJ19_multiply_3 60 = .ok (.lneg, 1) := dk_117 (dk_at dksJ19_multiply_3_2 16 rfl rfl)
theorem dJ19_multiply_3_61 : decode cJ19_multiply_3 61 = .ok (.lstore_n 1, 1) := dk_64 (dk_at dksJ19_multiply_3_2 17 rfl rfl)
theorem dJ19_multiply_3_62 : decode cJ19_multiply_3 62 = .ok (.lload_n 1, 1) := dk_31 (dk_at dksJ19_multiply_3_2 18 rfl rfl)
theorem dJ19_multiply_3_63 : decode cJ19_multiply_3 63 = .ok (.bipush 32, 2) := dk_16 32 (dk_at dksJ19_multiply_3_2 19 rfl rfl)
theorem dJ19_multiply_3_65 : decode cJ19_multiply_3 65 = .ok (.lushr, 1) := dk_125 (dk_at dksJ19_multiply_3_2 21 rfl rfl)
theorem dJ19_multiply_3_66 : decode cJ19_multiply_3 66 = .ok (.lstore 4, 2) := dk_55 4 (dk_at dksJ19_multiply_3_2 22 rfl rfl)
theorem dJ19_multiply_3_68 : decode cJ19_multiply_3 68 = .ok (.lload_n 1, 1) := dk_31 (dk_at dksJ19_multiply_3_3 0 rfl rfl)
theorem dJ19_multiply_3_69 : decode cJ19_multiply_3 69 = .ok (.ldc2_w 130, 3) := dk_20 0 130 (dk_at dksJ19_multiply_3_3 1 rfl rfl)
theorem dJ19_multiply_3_72 : decode cJ19_multiply_3 72 = .ok (.land, 1) := dk_127 (dk_at dksJ19_multiply_3_3 4 rfl rfl)
theorem dJ19_multiply_3_73 : decode cJ19_multiply_3 73 = .ok (.lstore 6, 2) := dk_55 6 (dk_at dksJ19_multiply_3_3 5 rfl rfl)
theorem dJ19_multiply_3_75 : decode cJ19_multiply_3 75 = .ok (.aload_n 0, 1) := dk_42 (dk_at dksJ19_multiply_3_3 7 rfl rfl)
theorem dJ19_multiply_3_76 : decode cJ19_multiply_3 76 = .ok (.getfield 28, 3) := dk_180 0 28 (dk_at dksJ19_multiply_3_3 8 rfl rfl)
theorem dJ19_multiply_3_79 : decode cJ19_multiply_3 79 = .ok (.arraylength, 1) := dk_190 (dk_at dksJ19_multiply_3_3 11 rfl rfl)
theorem dJ19_multiply_3_80 : decode cJ19_multiply_3 80 = .ok (.istore 8, 2) := dk_54 8 (dk_at dksJ19_multiply_3_3 12 rfl rfl)
theorem dJ19_multiply_3_82 : decode cJ19_multiply_3 82 = .ok (.aload_n 0, 1) := dk_42 (dk_at dksJ19_multiply_3_3 14 rfl rfl)
theorem dJ19_multiply_3_83 : decode cJ19_multiply_3 83 = .ok (.getfield 28, 3) := dk_180 0 28 (dk_at dksJ19_multiply_3_3 15 rfl rfl)
theorem dJ19_multiply_3_86 : decode cJ19_multiply_3 86 = .ok (.astore 9, 2) := dk_58 9 (dk_at dksJ19_multiply_3_3 18 rfl rfl)
theorem dJ19_multiply_3_88 : decode cJ19_multiply_3 88 = .ok (.lload 4, 2) := dk_22 4 (dk_at dksJ19_multiply_3_3 20 rfl rfl)
theorem dJ19_multiply_3_90 : decode cJ19_multiply_3 90 = .ok (.lconst 0, 1) := dk_9 (dk_at dksJ19_multiply_3_3 22 rfl rfl)
theorem dJ19_multiply_3_91 : decode cJ19_multiply_3 91 = .ok (.lcmp, 1) := dk_148 (dk_at dksJ19_multiply_3_3 23 rfl rfl)
theorem dJ19_multiply_3_92 : decode cJ19_multiply_3 92 = .ok (.ifCond .ne 12, 3) := dk_154 0 12 (dk_at dksJ19_multiply_3_4 0 rfl rfl)
theorem dJ19_multiply_3_95 : decode cJ19_multiply_3 95 = .ok (.iload 8, 2) := dk_21 8 (dk_at dksJ19_multiply_3_4 3 rfl rfl)
theorem dJ19_multiply_3_97 : decode cJ19_multiply_3 97 = .ok (.iconst 1, 1) := dk_4 (dk_at dksJ19_multiply_3_4 5 rfl rfl)
theorem dJ19_multiply_3_98 : decode cJ19_multiply_3 98 = .ok (.iadd, 1) := dk_96 (dk_at dksJ19_multiply_3_4 6 rfl rfl)
theorem dJ19_multiply_3_99 : decode cJ19_multiply_3 99 = .ok (.newarray .int, 2) := dk_188_10 (dk_at dksJ19_multiply_3_4 7 rfl rfl)
theorem dJ19_multiply_3_101 : decode cJ19_multiply_3 101 = .ok (.goto 9, 3) := dk_167 0 9 (dk_at dksJ19_multiply_3_4 9 rfl rfl)
theorem dJ19_multiply_3_104 : decode cJ19_multiply_3 104 = .ok (.iload 8, 2) := dk_21 8 (dk_at dksJ19_multiply_3_4 12 rfl rfl)
theorem dJ19_multiply_3_106 : decode cJ19_multiply_3 106 = .ok (.iconst 2, 1) := dk_5 (dk_at dksJ19_multiply_3_4 14 rfl rfl)
theorem dJ19_multiply_3_107 : decode cJ19_multiply_3 107 = .ok (.iadd, 1) := dk_96 (dk_at dksJ19_multiply_3_4 15 rfl rfl)
theorem dJ19_multiply_3_108 : decode cJ19_multiply_3 108 = .ok (.newarray .int, 2) := dk_188_10 (dk_at dksJ19_multiply_3_4 16 rfl rfl)
theorem dJ19_multiply_3_110 : decode cJ19_multiply_3 110 = .ok (.astore 10, 2) := dk_58 10 (dk_at dksJ19_multiply_3_4 18 rfl rfl)
theorem dJ19_multiply_3_112 : decode cJ19_multiply_3 112 = .ok (.lconst 0, 1) := dk_9 (dk_at dksJ19_multiply_3_4 20 rfl rfl)
theorem dJ19_multiply_3_113 : decode cJ19_multiply_3 113 = .ok (.lstore 11, 2) := dk_55 11 (dk_at dksJ19_multiply_3_4 21 rfl rfl)
theorem dJ19_multiply_3_115 : decode cJ19_multiply_3 115 = .ok (.aload 10, 2) := dk_25 10 (dk_at dksJ19_multiply_3_5 0 rfl rfl)
theorem dJ19_multiply_3_117 : decode cJ19_multiply_3 117 = .ok (.arraylength, 1) := dk_190 (dk_at dksJ19_multiply_3_5 2 rfl rfl)
theorem dJ19_multiply_3_118 : decode cJ19_multiply_3 118 = .ok (.iconst 1, 1) := dk_4 (dk_at dksJ19_multiply_3_5 3 rfl rfl)
theorem dJ19_multiply_3_119 : decode cJ19_multiply_3 119 = .ok (.isub, 1) := dk_100 (dk_at dksJ19_multiply_3_5 4 rfl rfl)
theorem dJ19_multiply_3_120 : decode cJ19_multiply_3 120 = .ok (.istore 13, 2) := dk_54 13 (dk_at dksJ19_multiply_3_5 5 rfl rfl)
theorem dJ19_multiply_3_122 : decode cJ19_multiply_3 122 = .ok (.iload 8, 2) := dk_21 8 (dk_at dksJ19_multiply_3_5 7 rfl rfl)
theorem dJ19_multiply_3_124 : decode cJ19_multiply_3 124 = .ok (.iconst 1, 1) := dk_4 (dk_at dksJ19_multiply_3_5 9 rfl rfl)
theorem dJ19_multiply_3_125 : decode cJ19_multiply_3 125 = .ok (.isub, 1) := dk_100 (dk_at dksJ19_multiply_3_5 10 rfl rfl)
theorem dJ19_multiply_3_126 : decode cJ19_multiply_3 126 = .ok (.istore 14, 2) := dk_54 14 (dk_at dksJ19_multiply_3_5 11 rfl rfl)
theorem dJ19_multiply_3_128 : decode cJ19_multiply_3 128 = .ok (.iload 14, 2) := dk_21 14 (dk_at dksJ19_multiply_3_5 13 rfl rfl)
theorem dJ19_multiply_3_130 : decode cJ19_multiply_3 130 = .ok (.ifCond .lt 45, 3) := dk_155 0 45 (dk_at dksJ19_multiply_3_5 15 rfl rfl)
theorem dJ19_multiply_3_133 : decode cJ19_multiply_3 133 = .ok (.aload 9, 2) := dk_25 9 (dk_at dksJ19_multiply_3_5 18 rfl rfl)
theorem dJ19_multiply_3_135 : decode cJ19_multiply_3 135 = .ok (.iload 14, 2) := dk_21 14 (dk_at dksJ19_multiply_3_5 20 rfl rfl)
theorem dJ19_multiply_3_137 : decode cJ19_multiply_3 137 = .ok (.iaload, 1) := dk_46 (dk_at dksJ19_multiply_3_5 22 rfl rfl)
theorem dJ19_multiply_3_138 : decode cJ19_multiply_3 138 = .ok (.i2l, 1) := dk_133 (dk_at dksJ19_multiply_3_5 23 rfl rfl)
theorem dJ19_multiply_3_139 : decode cJ19_multiply_3 139 = .ok (.ldc2_w 130, 3) := dk_20 0 130 (dk_at dksJ19_multiply_3_6 0 rfl rfl)
theorem dJ19_multiply_3_142 : decode cJ19_multiply_3 142 = .ok (.land, 1) := dk_127 (dk_at dksJ19_multiply_3_6 3 rfl rfl)
theorem dJ19_multiply_3_143 : decode cJ19_multiply_3 143 = .ok (.lload 6, 2) := dk_22 6 (dk_at dksJ19_multiply_3_6 4 rfl rfl)
theorem dJ19_multiply_3_145 : decode cJ19_multiply_3 145 = .ok (.lmul, 1) := dk_105 (dk_at dksJ19_multiply_3_6 6 rfl rfl)
theorem dJ19_multiply_3_146 : decode cJ19_multiply_3 146 = .ok (.lload 11, 2) := dk_22 11 (dk_at dksJ19_multiply_3_6 7 rfl rfl)
theorem dJ19_multiply_3_148 : decode cJ19_multiply_3 148 = .ok (.ladd, 1) := dk_97 (dk_at dksJ19_multiply_3_6 9 rfl rfl)
theorem dJ19_multiply_3_149 : decode cJ19_multiply_3 149 = .ok (.lstore 15, 2) := dk_55 15 (dk_at dksJ19_multiply_3_6 10 rfl rfl)
theorem dJ19_multiply_3_151 : decode cJ19_multiply_3 151 = .ok (.aload 10, 2) := dk_25 10 (dk_at dksJ19_multiply_3_6 12 rfl rfl)
theorem dJ19_multiply_3_153 : decode cJ19_multiply_3 153 = .ok (.iload 13, 2) := dk_21 13 (dk_at dksJ19_multiply_3_6 14 rfl rfl)
theorem dJ19_multiply_3_155 : decode cJ19_multiply_3 155 = .ok (.iinc 13 (-1), 3) := dk_132 13 255 (dk_at dksJ19_multiply_3_6 16 rfl rfl)
theorem dJ19_multiply_3_158 : decode cJ19_multiply_3 158 = .ok (.lload 15, 2) := dk_22 15 (dk_at dksJ19_multiply_3_6 19 rfl rfl)
theorem dJ19_multiply_3_160 : decode cJ19_multiply_3 160 = .ok (.l2i, 1) := dk_136 (dk_at dksJ19_multiply_3_6 21 rfl rfl)
theorem dJ19_multiply_3_161 : decode cJ19_multiply_3 161 = .ok (.iastore, 1) := dk_79 (dk_at dksJ19_multiply_3_6 22 rfl rfl)
theorem dJ19_multiply_3_162 : decode cJ19_multiply_3 162 = .ok (.lload 15, 2) := dk_22 15 (dk_at dksJ19_multiply_3_7 0 rfl rfl)
theorem dJ19_multiply_3_164 : decode cJ19_multiply_3 164 = .ok (.bipush 32, 2) := dk_16 32 (dk_at dksJ19_multiply_3_7 2 rfl rfl)
theorem dJ19_multiply_3_166 : decode cJ19_multiply_3 166 = .ok (.lushr, 1) := dk_125 (dk_at dksJ19_multiply_3_7 4 rfl rfl)
theorem dJ19_multiply_3_167 : decode cJ19_multiply_3 167 = .ok (.lstore 11, 2) := dk_55 11 (dk_at dksJ19_multiply_3_7 5 rfl rfl)
theorem dJ19_multiply_3_169 : decode cJ19_multiply_3 169 = .ok (.iinc 14 (-1), 3) := dk_132 14 255 (dk_at dksJ19_multiply_3_7 7 rfl rfl)
theorem dJ19_multiply_3_172 : decode cJ19_multiply_3 172 = .ok (.goto (-44), 3) := dk_167 255 212 (dk_at dksJ19_multiply_3_7 10 rfl rfl)
theorem dJ19_multiply_3_175 : decode cJ19_multiply_3 175 = .ok (.aload 10, 2) := dk_25 10 (dk_at dksJ19_multiply_3_7 13 rfl rfl)
theorem dJ19_multiply_3_177 : decode cJ19_multiply_3 177 = .ok (.iload 13, 2) := dk_21 13 (dk_at dksJ19_multiply_3_7 15 rfl rfl)
theorem dJ19_multiply_3_179 : decode cJ19_multiply_3 179 = .ok (.lload 11, 2) := dk_22 11 (dk_at dksJ19_multiply_3_7 17 rfl rfl)
theorem dJ19_multiply_3_181 : decode cJ19_multiply_3 181 = .ok (.l2i, 1) := dk_136 (dk_at dksJ19_multiply_3_7 19 rfl rfl)
theorem dJ19_multiply_3_182 : decode cJ19_multiply_3 182 = .ok (.iastore, 1) := dk_79 (dk_at dksJ19_multiply_3_7 20 rfl rfl)
theorem dJ19_multiply_3_183 : decode cJ19_multiply_3 183 = .ok (.lload 4, 2) := dk_22 4 (dk_at dksJ19_multiply_3_7 21 rfl rfl)
theorem dJ19_multiply_3_185 : decode cJ19_multiply_3 185 = .ok (.lconst 0, 1) := dk_9 (dk_at dksJ19_multiply_3_7 23 rfl rfl)
theorem dJ19_multiply_3_186 : decode cJ19_multiply_3 186 = .ok (.lcmp, 1) := dk_148 (dk_at dksJ19_multiply_3_8 0 rfl rfl)
theorem dJ19_multiply_3_187 : decode cJ19_multiply_3 187 = .ok (.ifCond .eq 84, 3) := dk_153 0 84 (dk_at dksJ19_multiply_3_8 1 rfl rfl)
theorem dJ19_multiply_3_190 : decode cJ19_multiply_3 190 = .ok (.lconst 0, 1) := dk_9 (dk_at dksJ19_multiply_3_8 4 rfl rfl)
theorem dJ19_multiply_3_191 : decode cJ19_multiply_3 191 = .ok (.lstore 11, 2) := dk_55 11 (dk_at dksJ19_multiply_3_8 5 rfl rfl)
theorem dJ19_multiply_3_193 : decode cJ19_multiply_3 193 = .ok (.aload 10, 2) := dk_25 10 (dk_at dksJ19_multiply_3_8 7 rfl rfl)
theorem dJ19_multiply_3_195 : decode cJ19_multiply_3 195 = .ok (.arraylength, 1) := dk_190 (dk_at dksJ19_multiply_3_8 9 rfl rfl)
theorem dJ19_multiply_3_196 : decode cJ19_multiply_3 196 = .ok (.iconst 2, 1) := dk_5 (dk_at dksJ19_multiply_3_8 10 rfl rfl)
theorem dJ19_multiply_3_197 : decode cJ19_multiply_3 197 = .ok (.isub, 1) := dk_100 (dk_at dksJ19_multiply_3_8 11 rfl rfl)
theorem dJ19_multiply_3_198 : decode cJ19_multiply_3 198 = .ok (.istore 13, 2) := dk_54 13 (dk_at dksJ19_multiply_3_8 12 rfl rfl)
theorem dJ19_multiply_3_200 : decode cJ19_multiply_3 200 = .ok (.iload 8, 2) := dk_21 8 (dk_at dksJ19_multiply_3_8 14 rfl rfl)
theorem dJ19_multiply_3_202 : decode cJ19_multiply_3 202 = .ok (.iconst 1, 1) := dk_4 (dk_at dksJ19_multiply_3_8 16 rfl rfl)
theorem dJ19_multiply_3_203 : decode cJ19_multiply_3 203 = .ok (.isub, 1) := dk_100 (dk_at dksJ19_multiply_3_8 17 rfl rfl)
theorem dJ19_multiply_3_204 : decode cJ19_multiply_3 204 = .ok (.istore 14, 2) := dk_54 14 (dk_at dksJ19_multiply_3_8 18 rfl rfl)
theorem dJ19_multiply_3_206 : decode cJ19_multiply_3 206 = .ok (.iload 14, 2) := dk_21 14 (dk_at dksJ19_multiply_3_8 20 rfl rfl)
theorem dJ19_multiply_3_208 : decode cJ19_multiply_3 208 = .ok (.ifCond .lt 56, 3) := dk_155 0 56 (dk_at dksJ19_multiply_3_9 0 rfl rfl)
theorem dJ19_multiply_3_211 : decode cJ19_multiply_3 211 = .ok (.aload 9, 2) := dk_25 9 (dk_at dksJ19_multiply_3_9 3 rfl rfl)
theorem dJ19_multiply_3_213 : decode cJ19_multiply_3 213 = .ok (.iload 14, 2) := dk_21 14 (dk_at dksJ19_multiply_3_9 5 rfl rfl)
theorem dJ19_multiply_3_215 : decode cJ19_multiply_3 215 = .ok (.iaload, 1) := dk_46 (dk_at dksJ19_multiply_3_9 7 rfl rfl)
theorem dJ19_multiply_3_216 : decode cJ19_multiply_3 216 = .ok (.i2l, 1) := dk_133 (dk_at dksJ19_multiply_3_9 8 rfl rfl)
theorem dJ19_multiply_3_217 : decode cJ19_multiply_3 217 = .ok (.ldc2_w 130, 3) := dk_20 0 130 (dk_at dksJ19_multiply_3_9 9 rfl rfl)
theorem dJ19_multiply_3_220 : decode cJ19_multiply_3 220 = .ok (.land, 1) := dk_127 (dk_at dksJ19_multiply_3_9 12 rfl rfl)
theorem dJ19_multiply_3_221 : decode cJ19_multiply_3 221 = .ok (.lload 4, 2) := dk_22 4 (dk_at dksJ19_multiply_3_9 13 rfl rfl)
theorem dJ19_multiply_3_223 : decode cJ19_multiply_3 223 = .ok (.lmul, 1) := dk_105 (dk_at dksJ19_multiply_3_9 15 rfl rfl)
theorem dJ19_multiply_3_224 : decode cJ19_multiply_3 224 = .ok (.aload 10, 2) := dk_25 10 (dk_at dksJ19_multiply_3_9 16 rfl rfl)
theorem dJ19_multiply_3_226 : decode cJ19_multiply_3 226 = .ok (.iload 13, 2) := dk_21 13 (dk_at dksJ19_multiply_3_9 18 rfl rfl)
theorem dJ19_multiply_3_228 : decode cJ19_multiply_3 228 = .ok (.iaload, 1) := dk_46 (dk_at dksJ19_multiply_3_9 20 rfl rfl)
theorem dJ19_multiply_3_229 : decode cJ19_multiply_3 229 = .ok (.i2l, 1) := dk_133 (dk_at dksJ19_multiply_3_9 21 rfl rfl)
theorem dJ19_multiply_3_230 : decode cJ19_multiply_3 230 = .ok (.ldc2_w 130, 3) := dk_20 0 130 (dk_at dksJ19_multiply_3_10 0 rfl rfl)
theorem dJ19_multiply_3_233 : decode cJ19_multiply_3 233 = .ok (.land, 1) := dk_127 (dk_at dksJ19_multiply_3_10 3 rfl rfl)
theorem dJ19_multiply_3_234 : decode cJ19_multiply_3 234 = .ok (.ladd, 1) := dk_97 (dk_at dksJ19_multiply_3_10 4 rfl rfl)
theorem dJ19_multiply_3_235 : decode cJ19_multiply_3 235 = .ok (.lload 11, 2) := dk_22 11 (dk_at dksJ19_multiply_3_10 5 rfl rfl)
theorem dJ19_multiply_3_237 : decode cJ19_multiply_3 237 = .ok (.ladd, 1) := dk_97 (dk_at dksJ19_multiply_3_10 7 rfl rfl)
theorem dJ19_multiply_3_238 : decode cJ19_multiply_3 238 = .ok (.lstore 15, 2) := dk_55 15 (dk_at dksJ19_multiply_3_10 8 rfl rfl)
theorem dJ19_multiply_3_240 : decode cJ19_multiply_3 240 = .ok (.aload 10, 2) := dk_25 10 (dk_at dksJ19_multiply_3_10 10 rfl rfl)
theorem dJ19_multiply_3_242 : decode cJ19_multiply_3 242 = .ok (.iload 13, 2) := dk_21 13 (dk_at dksJ19_multiply_3_10 12 rfl rfl)
theorem dJ19_multiply_3_244 : decode cJ19_multiply_3 244 = .ok (.iinc 13 (-1), 3) := dk_132 13 255 (dk_at dksJ19_multiply_3_10 14 rfl rfl)
theorem dJ19_multiply_3_247 : decode cJ19_multiply_3 247 = .ok (.lload 15, 2) := dk_22 15 (dk_at dksJ19_multiply_3_10 17 rfl rfl)
theorem dJ19_multiply_3_249 : decode cJ19_multiply_3 249 = .ok (.l2i, 1) := dk_136 (dk_at dksJ19_multiply_3_10 19 rfl rfl)
theorem dJ19_multiply_3_250 : decode cJ19_multiply_3 250 = .ok (.iastore, 1) := dk_79 (dk_at dksJ19_multiply_3_10 20 rfl rfl)
theorem dJ19_multiply_3_251 : decode cJ19_multiply_3 251 = .ok (.lload 15, 2) := dk_22 15 (dk_at dksJ19_multiply_3_10 21 rfl rfl)
theorem dJ19_multiply_3_253 : decode cJ19_multiply_3 253 = .ok (.bipush 32, 2) := dk_16 32 (dk_at dksJ19_multiply_3_11 0 rfl rfl)
theorem dJ19_multiply_3_255 : decode cJ19_multiply_3 255 = .ok (.lushr, 1) := dk_125 (dk_at dksJ19_multiply_3_11 2 rfl rfl)
theorem dJ19_multiply_3_256 : decode cJ19_multiply_3 256 = .ok (.lstore 11, 2) := dk_55 11 (dk_at dksJ19_multiply_3_11 3 rfl rfl)
theorem dJ19_multiply_3_258 : decode cJ19_multiply_3 258 = .ok (.iinc 14 (-1), 3) := dk_132 14 255 (dk_at dksJ19_multiply_3_11 5 rfl rfl)
theorem dJ19_multiply_3_261 : decode cJ19_multiply_3 261 = .ok (.goto (-55), 3) := dk_167 255 201 (dk_at dksJ19_multiply_3_11 8 rfl rfl)
theorem dJ19_multiply_3_264 : decode cJ19_multiply_3 264 = .ok (.aload 10, 2) := dk_25 10 (dk_at dksJ19_multiply_3_11 11 rfl rfl)
theorem dJ19_multiply_3_266 : decode cJ19_multiply_3 266 = .ok (.iconst 0, 1) := dk_3 (dk_at dksJ19_multiply_3_11 13 rfl rfl)
theorem dJ19_multiply_3_267 : decode cJ19_multiply_3 267 = .ok (.lload 11, 2) := dk_22 11 (dk_at dksJ19_multiply_3_11 14 rfl rfl)
theorem dJ19_multiply_3_269 : decode cJ19_multiply_3 269 = .ok (.l2i, 1) := dk_136 (dk_at dksJ19_multiply_3_11 16 rfl rfl)
theorem dJ19_multiply_3_270 : decode cJ19_multiply_3 270 = .ok (.iastore, 1) := dk_79 (dk_at dksJ19_multiply_3_11 17 rfl rfl)
theorem dJ19_multiply_3_271 : decode cJ19_multiply_3 271 = .ok (.lload 11, 2) := dk_22 11 (dk_at dksJ19_multiply_3_11 18 rfl rfl)
theorem dJ19_multiply_3_273 : decode cJ19_multiply_3 273 = .ok (.lconst 0, 1) := dk_9 (dk_at dksJ19_multiply_3_11 20 rfl rfl)
theorem dJ19_multiply_3_274 : decode cJ19_multiply_3 274 = .ok (.lcmp, 1) := dk_148 (dk_at dksJ19_multiply_3_11 21 rfl rfl)
theorem dJ19_multiply_3_275 : decode cJ19_multiply_3 275 = .ok (.ifCond .ne 14, 3) := dk_154 0 14 (dk_at dksJ19_multiply_3_12 0 rfl rfl)
theorem dJ19_multiply_3_278 : decode cJ19_multiply_3 278 = .ok (.aload 10, 2) := dk_25 10 (dk_at dksJ19_multiply_3_12 3 rfl rfl)
theorem dJ19_multiply_3_280 : decode cJ19_multiply_3 280 = .ok (.iconst 1, 1) := dk_4 (dk_at dksJ19_multiply_3_12 5 rfl rfl)
theorem dJ19_multiply_3_281 : decode cJ19_multiply_3 281 = .ok (.aload 10, 2) := dk_25 10 (dk_at dksJ19_multiply_3_12 6 rfl rfl)
theorem dJ19_multiply_3_283 : decode cJ19_multiply_3 283 = .ok (.arraylength, 1) := dk_190 (dk_at dksJ19_multiply_3_12 8 rfl rfl)
theorem dJ19_multiply_3_284 : decode cJ19_multiply_3 284 = .ok (.invokestatic 433, 3) := dk_184 1 177 (dk_at dksJ19_multiply_3_12 9 rfl rfl)
theorem dJ19_multiply_3_287 : decode cJ19_multiply_3 287 = .ok (.astore 10, 2) := dk_58 10 (dk_at dksJ19_multiply_3_12 12 rfl rfl)
theorem dJ19_multiply_3_289 : decode cJ19_multiply_3 289 = .ok (.new 23, 3) := dk_187 0 23 (dk_at dksJ19_multiply_3_12 14 rfl rfl)
theorem dJ19_multiply_3_292 : decode cJ19_multiply_3 292 = .ok (.dup, 1) := dk_89 (dk_at dksJ19_multiply_3_12 17 rfl rfl)
theorem dJ19_multiply_3_293 : decode cJ19_multiply_3 293 = .ok (.aload 10, 2) := dk_25 10 (dk_at dksJ19_multiply_3_12 18 rfl rfl)
theorem dJ19_multiply_3_295 : decode cJ19_multiply_3 295 = .ok (.iload_n 3, 1) := dk_29 (dk_at dksJ19_multiply_3_12 20 rfl rfl)
theorem dJ19_multiply_3_296 : decode cJ19_multiply_3 296 = .ok (.invokespecial 175, 3) := dk_183 0 175 (dk_at dksJ19_multiply_3_12 21 rfl rfl)
theorem dJ19_multiply_3_299 : decode cJ19_multiply_3 299 = .ok (.areturn, 1) := dk_176 (dk_at dksJ19_multiply_3_13 0 rfl rfl)
def dkwJ19_compareTo_3 : List UInt8 := [180, 0, 32, 164, 0, 7, 4, 167, 0, 4, 2, 172]
abbrev dktJ19_compareTo_3 : List UInt8 := dkwJ19_compareTo_3 ++ []
def dkwJ19_compareTo_2 : List UInt8 := [42, 43, 182, 1, 109, 167, 0, 12, 43, 42, 182, 1, 109, 167, 0, 4, 3, 172, 42, 180, 0, 32, 43]
abbrev dktJ19_compareTo_2 : List UInt8 := dkwJ19_compareTo_2 ++ dktJ19_compareTo_3
def dkwJ19_compareTo_1 : List UInt8 := [171, 0, 0, 0, 41, 0, 0, 0, 2, 255, 255, 255, 255, 0, 0, 0, 33, 0, 0, 0, 1, 0, 0, 0, 25]
abbrev dktJ19_compareTo_1 : List UInt8 := dkwJ19_compareTo_1 ++ dktJ19_compareTo_2
def dkwJ19_compareTo_0 : List UInt8 := [42, 180, 0, 32, 43, 180, 0, 32, 160, 0, 50, 42, 180, 0, 32]
abbrev dktJ19_compareTo_0 : List UInt8 := dkwJ19_compareTo_0 ++ dktJ19_compareTo_1
theorem dksJ19_compareTo_0 : cJ19_compareTo.data.toList.drop 0 = dktJ19_compareTo_0 := by decide +kernel
theorem dksJ19_compareTo_1 : cJ19_compareTo.data.toList.drop 15 = dktJ19_compareTo_1 := dk_seg dksJ19_compareTo_0 15 rfl rfl
theorem dksJ19_compareTo_2 : cJ19_compareTo.data.toList.drop 40 = dktJ19_compareTo_2 := dk_seg dksJ19_compareTo_1 25 rfl rfl
theorem dksJ19_compareTo_3 : cJ19_compareTo.data.toList.drop 63 = dktJ19_compareTo_3 := dk_seg dksJ19_compareTo_2 23 rfl rfl
theorem dJ19_compareTo_0 : decode cJ19_compareTo 0 = .ok (.aload_n 0, 1) := dk_42 (dk_at dksJ19_compareTo_0 0 rfl rfl)
theorem dJ19_compareTo_1 : decode cJ19_compareTo 1 = .ok (.getfield 32, 3) := dk_180 0 32 (dk_at dksJ19_compareTo_0 1 rfl rfl)
theorem dJ19_compareTo_4 : decode cJ19_compareTo 4 = .ok (.aload_n 1, 1) := dk_43 (dk_at dksJ19_compareTo_0 4 rfl rfl)
theorem dJ19_compareTo_5 : decode cJ19_compareTo 5 = .ok (.getfield 32, 3) := dk_180 0 32 (dk_at dksJ19_compareTo_0 5 rfl rfl)
theorem dJ19_compareTo_8 : decode cJ19_compareTo 8 = .ok (.if_icmp .ne 50, 3) := dk_160 0 50 (dk_at dksJ19_compareTo_0 8 rfl rfl)
theorem dJ19_compareTo_11 : decode cJ19_compareTo 11 = .ok (.aload_n 0, 1) := dk_42 (dk_at dksJ19_compareTo_0 11 rfl rfl)
theorem dJ19_compareTo_12 : decode cJ19_compareTo 12 = .ok (.getfield 32, 3) := dk_180 0 32 (dk_at dksJ19_compareTo_0 12 rfl rfl)
theorem dJ19_compareTo_15 : decode cJ19_compareTo 15 = .ok (.lookupswitch 41 #[(-1, 33), (1, 25)], 25) := by decide +kernel
theorem dJ19_compareTo_40 : decode cJ19_compareTo 40 = .ok (.aload_n 0, 1) := dk_42 (dk_at dksJ19_compareTo_2 0 rfl rfl)
theorem dJ19_compareTo_41 : decode cJ19_compareTo 41 = .ok (.aload_n 1, 1) := dk_43 (dk_at dksJ19_compareTo_2 1 rfl rfl)
theorem dJ19_compareTo_42 : decode cJ19_compareTo 42 = .ok (.invokevirtual 365, 3) := dk_182 1 109 (dk_at dksJ19_compareTo_2 2 rfl rfl)
theorem dJ19_compareTo_45 : decode cJ19_compareTo 45 = .ok (.goto 12, 3) := dk_167 0 12 (dk_at dksJ19_compareTo_2 5 rfl rfl)
theorem dJ19_compareTo_48 : decode cJ19_compareTo 48 = .ok (.aload_n 1, 1) := dk_43 (dk_at dksJ19_compareTo_2 8 rfl rfl)
theorem dJ19_compareTo_49 : decode cJ19_compareTo 49 = .ok (.aload_n 0, 1) := dk_42 (dk_at dksJ19_compareTo_2 9 rfl rfl)
theorem dJ19_compareTo_50 : decode cJ19_compareTo 50 = .ok (.invokevirtual 365, 3) := dk_182 1 109 (dk_at dksJ19_compareTo_2 10 rfl rfl)
theorem dJ19_compareTo_53 : decode cJ19_compareTo 53 = .ok (.goto 4, 3) := dk_167 0 4 (dk_at dksJ19_compareTo_2 13 rfl rfl)
theorem dJ19_compareTo_56 : decode cJ19_compareTo 56 = .ok (.iconst 0, 1) := dk_3 (dk_at dksJ19_compareTo_2 16 rfl rfl)
theorem dJ19_compareTo_57 : decode cJ19_compareTo 57 = .ok (.ireturn, 1) := dk_172 (dk_at dksJ19_compareTo_2 17 rfl rfl)
theorem dJ19_compareTo_58 : decode cJ19_compareTo 58 = .ok (.aload_n 0, 1) := dk_42 (dk_at dksJ19_compareTo_2 18 rfl rfl)
theorem dJ19_compareTo_59 : decode cJ19_compareTo 59 = .ok (.getfield 32, 3) := dk_180 0 32 (dk_at dksJ19_compareTo_2 19 rfl rfl)
theorem dJ19_compareTo_62 : decode cJ19_compareTo 62 = .ok (.aload_n 1, 1) := dk_43 (dk_at dksJ19_compareTo_2 22 rfl rfl)
theorem dJ19_compareTo_63 : decode cJ19_compareTo 63 = .ok (.getfield 32, 3) := dk_180 0 32 (dk_at dksJ19_compareTo_3 0 rfl rfl)
theorem dJ19_compareTo_66 : decode cJ19_compareTo 66 = .ok (.if_icmp .le 7, 3) := dk_164 0 7 (dk_at dksJ19_compareTo_3 3 rfl rfl)
theorem dJ19_compareTo_69 : decode cJ19_compareTo 69 = .ok (.iconst 1, 1) := dk_4 (dk_at dksJ19_compareTo_3 6 rfl rfl)
theorem dJ19_compareTo_70 : decode cJ19_compareTo 70 = .ok (.goto 4, 3) := dk_167 0 4 (dk_at dksJ19_compareTo_3 7 rfl rfl)
theorem dJ19_compareTo_73 : decode cJ19_compareTo 73 = .ok (.iconst (-1), 1) := dk_2 (dk_at dksJ19_compareTo_3 10 rfl rfl)
theorem dJ19_compareTo_74 : decode cJ19_compareTo 74 = .ok (.ireturn, 1) := dk_172 (dk_at dksJ19_compareTo_3 11 rfl rfl)
def dkwJ19_longValue_1 : List UInt8 := [132, 3, 255, 167, 255, 233, 31, 173]
abbrev dktJ19_longValue_1 : List UInt8 := dkwJ19_longValue_1 ++ []
def dkwJ19_longValue_0 : List UInt8 := [9, 64, 4, 62, 29, 155, 0, 25, 31, 16, 32, 121, 42, 29, 182, 2, 224, 133, 20, 0, 130, 127, 97, 64]
abbrev dktJ19_longValue_0 : List UInt8 := dkwJ19_longValue_0 ++ dktJ19_longValue_1
theorem dksJ19_longValue_0 : cJ19_longValue.data.toList.drop 0 = dktJ19_longValue_0 := by decide +kernel
theorem dksJ19_longValue_1 : cJ19_longValue.data.toList.drop 24 = dktJ19_longValue_1 := dk_seg dksJ19_longValue_0 24 rfl rfl
theorem dJ19_longValue_0 : decode cJ19_longValue 0 = .ok (.lconst 0, 1) := dk_9 (dk_at dksJ19_longValue_0 0 rfl rfl)
theorem dJ19_longValue_1 : decode cJ19_longValue 1 = .ok (.lstore_n 1, 1) := dk_64 (dk_at dksJ19_longValue_0 1 rfl rfl)
theorem dJ19_longValue_2 : decode cJ19_longValue 2 = .ok (.iconst 1, 1) := dk_4 (dk_at dksJ19_longValue_0 2 rfl rfl)
theorem dJ19_longValue_3 : decode cJ19_longValue 3 = .ok (.istore_n 3, 1) := dk_62 (dk_at dksJ19_longValue_0 3 rfl rfl)
theorem dJ19_longValue_4 : decode cJ19_longValue 4 = .ok (.iload_n 3, 1) := dk_29 (dk_at dksJ19_longValue_0 4 rfl rfl)
theorem dJ19_longValue_5 : decode cJ19_longValue 5 = .ok (.ifCond .lt 25, 3) := dk_155 0 25 (dk_at dksJ19_longValue_0 5 rfl rfl)
theorem dJ19_longValue_8 : decode cJ19_longValue 8 = .ok (.lload_n 1, 1) := dk_31 (dk_at dksJ19_longValue_0 8 rfl rfl)
theorem dJ19_longValue_9 : decode cJ19_longValue 9 = .ok (.bipush 32, 2) := dk_16 32 (dk_at dksJ19_longValue_0 9 rfl rfl)
theorem dJ19_longValue_11 : decode cJ19_longValue 11 = .ok (.lshl, 1) := dk_121 (dk_at dksJ19_longValue_0 11 rfl rfl)
theorem dJ19_longValue_12 : decode cJ19_longValue 12 = .ok (.aload_n 0, 1) := dk_42 (dk_at dksJ19_longValue_0 12 rfl rfl)
theorem dJ19_longValue_13 : decode cJ19_longValue 13 = .ok (.iload_n 3, 1) := dk_29 (dk_at dksJ19_longValue_0 13 rfl rfl)
theorem dJ19_longValue_14 : decode cJ19_longValue 14 = .ok (.invokevirtual 736, 3) := dk_182 2 224 (dk_at dksJ19_longValue_0 14 rfl rfl)
theorem dJ19_longValue_17 : decode cJ19_longValue 17 = .ok (.i2l, 1) := dk_133 (dk_at dksJ19_longValue_0 17 rfl rfl)
theorem dJ19_longValue_18 : decode cJ19_longValue 18 = .ok (.ldc2_w 130, 3) := dk_20 0 130 (dk_at dksJ19_longValue_0 18 rfl rfl)
theorem dJ19_longValue_21 : decode cJ19_longValue 21 = .ok (.land, 1) := dk_127 (dk_at dksJ19_longValue_0 21 rfl rfl)
theorem dJ19_longValue_22 : decode cJ19_longValue 22 = .ok (.ladd, 1) := dk_97 (dk_at dksJ19_longValue_0 22 rfl rfl)
theorem dJ19_longValue_23 : decode cJ19_longValue 23 = .ok (.lstore_n 1, 1) := dk_64 (dk_at dksJ19_longValue_0 23 rfl rfl)
theorem dJ19_longValue_24 : decode cJ19_longValue 24 = .ok (.iinc 3 (-1), 3) := dk_132 3 255 (dk_at dksJ19_longValue_1 0 rfl rfl)
theorem dJ19_longValue_27 : decode cJ19_longValue 27 = .ok (.goto (-23), 3) := dk_167 255 233 (dk_at dksJ19_longValue_1 3 rfl rfl)
theorem dJ19_longValue_30 : decode cJ19_longValue 30 = .ok (.lload_n 1, 1) := dk_31 (dk_at dksJ19_longValue_1 6 rfl rfl)
theorem dJ19_longValue_31 : decode cJ19_longValue 31 = .ok (.lreturn, 1) := dk_173 (dk_at dksJ19_longValue_1 7 rfl rfl)
def dkwJ23_checkLength_1 : List UInt8 := [182, 0, 50, 27, 182, 0, 54, 182, 0, 61, 183, 0, 65, 191, 177]
abbrev dktJ23_checkLength_1 : List UInt8 := dkwJ23_checkLength_1 ++ []
def dkwJ23_checkLength_0 : List UInt8 := [27, 26, 162, 0, 35, 187, 0, 43, 89, 187, 0, 45, 89, 183, 0, 47, 26, 182, 0, 54, 19, 1, 81]
abbrev dktJ23_checkLength_0 : List UInt8 := dkwJ23_checkLength_0 ++ dktJ23_checkLength_1
theorem dksJ23_checkLength_0 : cJ23_checkLength.data.toList.drop 0 = dktJ23_checkLength_0 := by decide +kernel
theorem dksJ23_checkLength_1 : cJ23_checkLength.data.toList.drop 23 = dktJ23_checkLength_1 := dk_seg dksJ23_checkLength_0 23 rfl rfl
theorem dJ23_checkLength_0 : decode cJ23_checkLength 0 = .ok (.iload_n 1, 1) := dk_27 (dk_at dksJ23_checkLength_0 0 rfl rfl)
theorem dJ23_checkLength_1 : decode cJ23_checkLength 1 = .ok (.iload_n 0, 1) := dk_26 (dk_at dksJ23_checkLength_0 1 rfl rfl)
theorem dJ23_checkLength_2 : decode cJ23_checkLength 2 = .ok (.if_icmp .ge 35, 3) := dk_162 0 35 (dk_at dksJ23_checkLength_0 2 rfl rfl)
theorem dJ23_checkLength_5 : decode cJ23_checkLength 5 = .ok (.new 43, 3) := dk_187 0 43 (dk_at dksJ23_checkLength_0 5 rfl rfl)
theorem dJ23_checkLength_8 : decode cJ23_checkLength 8 = .ok (.dup, 1) := dk_89 (dk_at dksJ23_checkLength_0 8 rfl rfl)
theorem dJ23_checkLength_9 : decode cJ23_checkLength 9 = .ok (.new 45, 3) := dk_187 0 45 (dk_at dksJ23_checkLength_0 9 rfl rfl)
theorem dJ23_checkLength_12 : decode cJ23_checkLength 12 = .ok (.dup, 1) := dk_89 (dk_at dksJ23_checkLength_0 12 rfl rfl)
theorem dJ23_checkLength_13 : decode cJ23_checkLength 13 = .ok (.invokespecial 47, 3) := dk_183 0 47 (dk_at dksJ23_checkLength_0 13 rfl rfl)
theorem dJ23_checkLength_16 : decode cJ23_checkLength 16 = .ok (.iload_n 0, 1) := dk_26 (dk_at dksJ23_checkLength_0 16 rfl rfl)
theorem dJ23_checkLength_17 : decode cJ23_checkLength 17 = .ok (.invokevirtual 54, 3) := dk_182 0 54 (dk_at dksJ23_checkLength_0 17 rfl rfl)
theorem dJ23_checkLength_20 : decode cJ23_checkLength 20 = .ok (.ldc_w 337, 3) := dk_19 1 81 (dk_at dksJ23_checkLength_0 20 rfl rfl)
theorem dJ23_checkLength_23 : decode cJ23_checkLength 23 = .ok (.invokevirtual 50, 3) := dk_182 0 50 (dk_at dksJ23_checkLength_1 0 rfl rfl)
theorem dJ23_checkLength_26 : decode cJ23_checkLength 26 = .ok (.iload_n 1, 1) := dk_27 (dk_at dksJ23_checkLength_1 3 rfl rfl)
theorem dJ23_checkLength_27 : decode cJ23_checkLength 27 = .ok (.invokevirtual 54, 3) := dk_182 0 54 (dk_at dksJ23_checkLength_1 4 rfl rfl)
theorem dJ23_checkLength_30 : decode cJ23_checkLength 30 = .ok (.invokevirtual 61, 3) := dk_182 0 61 (dk_at dksJ23_checkLength_1 7 rfl rfl)
theorem dJ23_checkLength_33 : decode cJ23_checkLength 33 = .ok (.invokespecial 65, 3) := dk_183 0 65 (dk_at dksJ23_checkLength_1 10 rfl rfl)
theorem dJ23_checkLength_36 : decode cJ23_checkLength 36 = .ok (.athrow, 1) := dk_191 (dk_at dksJ23_checkLength_1 13 rfl rfl)
theorem dJ23_checkLength_37 : decode cJ23_checkLength 37 = .ok (.return_, 1) := dk_177 (dk_at dksJ23_checkLength_1 14 rfl rfl)
def dkwJ23_copyOfRange_2_1 : List UInt8 := [176]
abbrev dktJ23_copyOfRange_2_1 : List UInt8 := dkwJ23_copyOfRange_2_1 ++ []
def dkwJ23_copyOfRange_2_0 : List UInt8 := [27, 154, 0, 9, 28, 42, 190, 159, 0, 10, 42, 27, 28, 184, 1, 95, 176, 42, 182, 1, 60, 192, 1, 61]
abbrev dktJ23_copyOfRange_2_0 : List UInt8 := dkwJ23_copyOfRange_2_0 ++ dktJ23_copyOfRange_2_1
theorem dksJ23_copyOfRange_2_0 : cJ23_copyOfRange_2.data.toList.drop 0 = dktJ23_copyOfRange_2_0 := by decide +kernel
theorem dksJ23_copyOfRange_2_1 : cJ23_copyOfRange_2.data.toList.drop 24 = dktJ23_copyOfRange_2_1 := dk_seg dksJ23_copyOfRange_2_0 24 rfl rfl
theorem dJ23_copyOfRange_2_0 : decode cJ23_copyOfRange_2 0 = .ok (.iload_n 1, 1) := dk_27 (dk_at dksJ23_copyOfRange_2_0 0 rfl rfl)
theorem dJ23_copyOfRange_2_1 : decode cJ23_copyOfRange_2 1 = .ok (.ifCond .ne 9, 3) := dk_154 0 9 (dk_at dksJ23_copyOfRange_2_0 1 rfl rfl)
theorem dJ23_copyOfRange_2_4 : decode cJ23_copyOfRange_2 4 = .ok (.iload_n 2, 1) := dk_28 (dk_at dksJ23_copyOfRange_2_0 4 rfl rfl)
theorem dJ23_copyOfRange_2_5 : decode cJ23_copyOfRange_2 5 = .ok (.aload_n 0, 1) := dk_42 (dk_at dksJ23_copyOfRange_2_0 5 rfl rfl)
theorem dJ23_copyOfRange_2_6 : decode cJ23_copyOfRange_2 6 = .ok (.arraylength, 1) := dk_190 (dk_at dksJ23_copyOfRange_2_0 6 rfl rfl)
theorem dJ23_copyOfRange_2_7 : decode cJ23_copyOfRange_2 7 = .ok (.if_icmp .eq 10, 3) := dk_159 0 10 (dk_at dksJ23_copyOfRange_2_0 7 rfl rfl)
theorem dJ23_copyOfRange_2_10 : decode cJ23_copyOfRange_2 10 = .ok (.aload_n 0, 1) := dk_42 (dk_at dksJ23_copyOfRange_2_0 10 rfl rfl)
theorem dJ23_copyOfRange_2_11 : decode cJ23_copyOfRange_2 11 = .ok (.iload_n 1, 1) := dk_27 (dk_at dksJ23_copyOfRange_2_0 11 rfl rfl)
theorem dJ23_copyOfRange_2_12 : decode cJ23_copyOfRange_2 12 = .ok (.iload_n 2, 1) := dk_28 (dk_at dksJ23_copyOfRange_2_0 12 rfl rfl)
theorem dJ23_copyOfRange_2_13 : decode cJ23_copyOfRange_2 13 = .ok (.invokestatic 351, 3) := dk_184 1 95 (dk_at dksJ23_copyOfRange_2_0 13 rfl rfl)
theorem dJ23_copyOfRange_2_16 : decode cJ23_copyOfRange_2 16 = .ok (.areturn, 1) := dk_176 (dk_at dksJ23_copyOfRange_2_0 16 rfl rfl)
theorem dJ23_copyOfRange_2_17 : decode cJ23_copyOfRange_2 17 = .ok (.aload_n 0, 1) := dk_42 (dk_at dksJ23_copyOfRange_2_0 17 rfl rfl)
theorem dJ23_copyOfRange_2_18 : decode cJ23_copyOfRange_2 18 = .ok (.invokevirtual 316, 3) := dk_182 1 60 (dk_at dksJ23_copyOfRange_2_0 18 rfl rfl)
theorem dJ23_copyOfRange_2_21 : decode cJ23_copyOfRange_2 21 = .ok (.checkcast 317, 3) := dk_192 1 61 (dk_at dksJ23_copyOfRange_2_0 21 rfl rfl)
theorem dJ23_copyOfRange_2_24 : decode cJ23_copyOfRange_2 24 = .ok (.areturn, 1) := dk_176 (dk_at dksJ23_copyOfRange_2_1 0 rfl rfl)
def dkwJ23_copyOfRangeInt_1 : List UInt8 := [184, 1, 48, 184, 0, 150, 25, 4, 176]
abbrev dktJ23_copyOfRangeInt_1 : List UInt8 := dkwJ23_copyOfRangeInt_1 ++ []
def dkwJ23_copyOfRangeInt_0 : List UInt8 := [27, 28, 184, 1, 87, 28, 27, 100, 62, 29, 188, 10, 58, 4, 42, 27, 25, 4, 3, 42, 190, 27, 100, 29]
abbrev dktJ23_copyOfRangeInt_0 : List UInt8 := dkwJ23_copyOfRangeInt_0 ++ dktJ23_copyOfRangeInt_1
theorem dksJ23_copyOfRangeInt_0 : cJ23_copyOfRangeInt.data.toList.drop 0 = dktJ23_copyOfRangeInt_0 := by decide +kernel
theorem dksJ23_copyOfRangeInt_1 : cJ23_copyOfRangeInt.data.toList.drop 24 = dktJ23_copyOfRangeInt_1 := dk_seg dksJ23_copyOfRangeInt_0 24 rfl rfl
theorem dJ23_copyOfRangeInt_0 : decode cJ23_copyOfRangeInt 0 = .ok (.iload_n 1, 1) := dk_27 (dk_at dksJ23_copyOfRangeInt_0 0 rfl rfl)
theorem dJ23_copyOfRangeInt_1 : decode cJ23_copyOfRangeInt 1 = .ok (.iload_n 2, 1) := dk_28 (dk_at dksJ23_copyOfRangeInt_0 1 rfl rfl)
theorem dJ23_copyOfRangeInt_2 : decode cJ23_copyOfRangeInt 2 = .ok (.invokestatic 343, 3) := dk_184 1 87 (dk_at dksJ23_copyOfRangeInt_0 2 rfl rfl)
theorem dJ23_copyOfRangeInt_5 : decode cJ23_copyOfRangeInt 5 = .ok (.iload_n 2, 1) := dk_28 (dk_at dksJ23_copyOfRangeInt_0 5 rfl rfl)
theorem dJ23_copyOfRangeInt_6 : decode cJ23_copyOfRangeInt 6 = .ok (.iload_n 1, 1) := dk_27 (dk_at dksJ23_copyOfRangeInt_0 6 rfl rfl)
theorem dJ23_copyOfRangeInt_7 : decode cJ23_copyOfRangeInt 7 = .ok (.isub, 1) := dk_100 (dk_at dksJ23_copyOfRangeInt_0 7 rfl rfl)
theorem dJ23_copyOfRangeInt_8 : decode cJ23_copyOfRangeInt 8 = .ok (.istore_n 3, 1) := dk_62 (dk_at dksJ23_copyOfRangeInt_0 8 rfl rfl)
theorem dJ23_copyOfRangeInt_9 : decode cJ23_copyOfRangeInt 9 = .ok (.iload_n 3, 1) := dk_29 (dk_at dksJ23_copyOfRangeInt_0 9 rfl rfl)
theorem dJ23_copyOfRangeInt_10 : decode cJ23_copyOfRangeInt 10 = .ok (.newarray .int, 2) := dk_188_10 (dk_at dksJ23_copyOfRangeInt_0 10 rfl rfl)
theorem dJ23_copyOfRangeInt_12 : decode cJ23_copyOfRangeInt 12 = .ok (.astore 4, 2) := dk_58 4 (dk_at dksJ23_copyOfRangeInt_0 12 rfl rfl)
theorem dJ23_copyOfRangeInt_14 : decode cJ23_copyOfRangeInt 14 = .ok (.aload_n 0, 1) := dk_42 (dk_at dksJ23_copyOfRangeInt_0 14 rfl rfl)
theorem dJ23_copyOfRangeInt_15 : decode cJ23_copyOfRangeInt 15 = .ok (.iload_n 1, 1) := dk_27 (dk_at dksJ23_copyOfRangeInt_0 15 rfl rfl)
theorem dJ23_copyOfRangeInt_16 : decode cJ23_copyOfRangeInt 16 = .ok (.aload 4, 2) := dk_25 4 (dk_at dksJ23_copyOfRangeInt_0 16 rfl rfl)
theorem dJ23_copyOfRangeInt_18 : decode cJ23_copyOfRangeInt 18 = .ok (.iconst 0, 1) := dk_3 (dk_at dksJ23_copyOfRangeInt_0 18 rfl rfl)
theorem dJ23_copyOfRangeInt_19 : decode cJ23_copyOfRangeInt 19 = .ok (.aload_n 0, 1) := dk_42 (dk_at dksJ23_copyOfRangeInt_0 19 rfl rfl)
theorem dJ23_copyOfRangeInt_20 : decode cJ23_copyOfRangeInt 20 = .ok (.arraylength, 1) := dk_190 (dk_at dksJ23_copyOfRangeInt_0 20 rfl rfl)
theorem dJ23_copyOfRangeInt_21 : decode cJ23_copyOfRangeInt 21 = .ok (.iload_n 1, 1) := dk_27 (dk_at dksJ23_copyOfRangeInt_0 21 rfl rfl)
theorem dJ23_copyOfRangeInt_22 : decode cJ23_copyOfRangeInt 22 = .ok (.isub, 1) := dk_100 (dk_at dksJ23_copyOfRangeInt_0 22 rfl rfl)
theorem dJ23_copyOfRangeInt_23 : decode cJ23_copyOfRangeInt 23 = .ok (.iload_n 3, 1) := dk_29 (dk_at dksJ23_copyOfRangeInt_0 23 rfl rfl)
theorem dJ23_copyOfRangeInt_24 : decode cJ23_copyOfRangeInt 24 = .ok (.invokestatic 304, 3) := dk_184 1 48 (dk_at dksJ23_copyOfRangeInt_1 0 rfl rfl)
theorem dJ23_copyOfRangeInt_27 : decode cJ23_copyOfRangeInt 27 = .ok (.invokestatic 150, 3) := dk_184 0 150 (dk_at dksJ23_copyOfRangeInt_1 3 rfl rfl)
theorem dJ23_copyOfRangeInt_30 : decode cJ23_copyOfRangeInt 30 = .ok (.aload 4, 2) := dk_25 4 (dk_at dksJ23_copyOfRangeInt_1 6 rfl rfl)
theorem dJ23_copyOfRangeInt_32 : decode cJ23_copyOfRangeInt 32 = .ok (.areturn, 1) := dk_176 (dk_at dksJ23_copyOfRangeInt_1 8 rfl rfl)
def dkwJ23_copyOf_2_1 : List UInt8 := [27, 184, 1, 48, 184, 0, 150, 44, 176]
abbrev dktJ23_copyOf_2_1 : List UInt8 := dkwJ23_copyOf_2_1 ++ []
def dkwJ23_copyOf_2_0 : List UInt8 := [27, 42, 190, 160, 0, 11, 42, 182, 1, 60, 192, 1, 61, 176, 27, 188, 10, 77, 42, 3, 44, 3, 42, 190]
abbrev dktJ23_copyOf_2_0 : List UInt8 := dkwJ23_copyOf_2_0 ++ dktJ23_copyOf_2_1
theorem dksJ23_copyOf_2_0 : cJ23_copyOf_2.data.toList.drop 0 = dktJ23_copyOf_2_0 := by decide +kernel
theorem dksJ23_copyOf_2_1 : cJ23_copyOf_2.data.toList.drop 24 = dktJ23_copyOf_2_1 := dk_seg dksJ23_copyOf_2_0 24 rfl rfl
theorem dJ23_copyOf_2_0 : decode cJ23_copyOf_2 0 = .ok (.iload_n 1, 1) := dk_27 (dk_at dksJ23_copyOf_2_0 0 rfl rfl)
theorem dJ23_copyOf_2_1 : decode cJ23_copyOf_2 1 = .ok (.aload_n 0, 1) := dk_42 (dk_at dksJ23_copyOf_2_0 1 rfl rfl)
theorem dJ23_copyOf_2_2 : decode cJ23_copyOf_2 2 = .ok (.arraylength, 1) := dk_190 (dk_at dksJ23_copyOf_2_0 2 rfl rfl)
theorem dJ23_copyOf_2_3 : decode cJ23_copyOf_2 3 = .ok (.if_icmp .ne 11, 3) := dk_160 0 11 (dk_at dksJ23_copyOf_2_0 3 rfl rfl)
theorem dJ23_copyOf_2_6 : decode cJ23_copyOf_2 6 = .ok (.aload_n 0, 1) := dk_42 (dk_at dksJ23_copyOf_2_0 6 rfl rfl)
theorem dJ23_copyOf_2_7 : decode cJ23_copyOf_2 7 = .ok (.invokevirtual 316, 3) := dk_182 1 60 (dk_at dksJ23_copyOf_2_0 7 rfl rfl)
theorem dJ23_copyOf_2_10 : decode cJ23_copyOf_2 10 = .ok (.checkcast 317, 3) := dk_192 1 61 (dk_at dksJ23_copyOf_2_0 10 rfl rfl)
theorem dJ23_copyOf_2_13 : decode cJ23_copyOf_2 13 = .ok (.areturn, 1) := dk_176 (dk_at dksJ23_copyOf_2_0 13 rfl rfl)
theorem dJ23_copyOf_2_14 : decode cJ23_copyOf_2 14 = .ok (.iload_n 1, 1) := dk_27 (dk_at dksJ23_copyOf_2_0 14 rfl rfl)
theorem dJ23_copyOf_2_15 : decode cJ23_copyOf_2 15 = .ok (.newarray .int, 2) := dk_188_10 (dk_at dksJ23_copyOf_2_0 15 rfl rfl)
theorem dJ23_copyOf_2_17 : decode cJ23_copyOf_2 17 = .ok (.astore_n 2, 1) := dk_77 (dk_at dksJ23_copyOf_2_0 17 rfl rfl)
theorem dJ23_copyOf_2_18 : decode cJ23_copyOf_2 18 = .ok (.aload_n 0, 1) := dk_42 (dk_at dksJ23_copyOf_2_0 18 rfl rfl)
theorem dJ23_copyOf_2_19 : decode cJ23_copyOf_2 19 = .ok (.iconst 0, 1) := dk_3 (dk_at dksJ23_copyOf_2_0 19 rfl rfl)
theorem dJ23_copyOf_2_20 : decode cJ23_copyOf_2 20 = .ok (.aload_n 2, 1) := dk_44 (dk_at dksJ23_copyOf_2_0 20 rfl rfl)
theorem dJ23_copyOf_2_21 : decode cJ23_copyOf_2 21 = .ok (.iconst 0, 1) := dk_3 (dk_at dksJ23_copyOf_2_0 21 rfl rfl)
theorem dJ23_copyOf_2_22 : decode cJ23_copyOf_2 22 = .ok (.aload_n 0, 1) := dk_42 (dk_at dksJ23_copyOf_2_0 22 rfl rfl)
theorem dJ23_copyOf_2_23 : decode cJ23_copyOf_2 23 = .ok (.arraylength, 1) := dk_190 (dk_at dksJ23_copyOf_2_0 23 rfl rfl)
theorem dJ23_copyOf_2_24 : decode cJ23_copyOf_2 24 = .ok (.iload_n 1, 1) := dk_27 (dk_at dksJ23_copyOf_2_1 0 rfl rfl)
theorem dJ23_copyOf_2_25 : decode cJ23_copyOf_2 25 = .ok (.invokestatic 304, 3) := dk_184 1 48 (dk_at dksJ23_copyOf_2_1 1 rfl rfl)
theorem dJ23_copyOf_2_28 : decode cJ23_copyOf_2 28 = .ok (.invokestatic 150, 3) := dk_184 0 150 (dk_at dksJ23_copyOf_2_1 4 rfl rfl)
theorem dJ23_copyOf_2_31 : decode cJ23_copyOf_2 31 = .ok (.aload_n 2, 1) := dk_44 (dk_at dksJ23_copyOf_2_1 7 rfl rfl)
theorem dJ23_copyOf_2_32 : decode cJ23_copyOf_2 32 = .ok (.areturn, 1) := dk_176 (dk_at dksJ23_copyOf_2_1 8 rfl rfl)
theorem sgI_lt {v : Int} (h : sgI v < 0) : v < 0 := by have := sgI_cases v; omega
theorem sgI_ge {v : Int} (h : 0 ≤ sgI v) : 0 ≤ v := by have := sgI_cases v; omega
theorem abI_ge {v : Int} (h : 0 ≤ sgI v) : abI v = v := by have := sgI_ge h; have := abI_cases v; omega
theorem abI_lt {v : Int} (h : sgI v < 0) : abI v = -v := by have := sgI_lt h; have := abI_cases v; omega
def ciI (a b : Int) : Int := if a < b then -1 else if a = b then 0 else 1
theorem ciI_cases (a b : Int) : (a < b ∧ ciI a b = -1) ∨ (a = b ∧ ciI a b = 0) ∨ (b < a ∧ ciI a b = 1) := by unfold ciI; (repeat' split) <;> omega
theorem ci_p {v w : Int} (h1 : sgI v = 1) (h2 : sgI v = sgI w) : cmpI v.natAbs w.natAbs = ciI v w := by
  have := sgI_cases v; have := sgI_cases w; unfold cmpI ciI; (repeat' split) <;> omega
theorem ci_m {v w : Int} (h1 : sgI v = -1) (h2 : sgI v = sgI w) : cmpI w.natAbs v.natAbs = ciI v w := by
  have := sgI_cases v; have := sgI_cases w; unfold cmpI ciI; (repeat' split) <;> omega
theorem ci_0 {v w : Int} (h1 : sgI v ≠ 1) (h0 : sgI v ≠ -1) (h2 : sgI v = sgI w) : ciI v w = 0 := by
  have := sgI_cases v; have := sgI_cases w; have := ciI_cases v w; omega
theorem ci_g {v w : Int} (h2 : sgI w < sgI v) : ciI v w = 1 := by
  have := sgI_cases v; have := sgI_cases w; have := ciI_cases v w; omega
theorem ci_l {v w : Int} (h1 : sgI v ≠ sgI w) (h2 : sgI v ≤ sgI w) : ciI v w = -1 := by
  have := sgI_cases v; have := sgI_cases w; have := ciI_cases v w; omega
theorem fac_wv {f : Nat → Nat} : ∀ (m n : Nat), m < n → (∀ k, k < n → f k < 4294967296) → (∀ j, n - m ≤ j → j < n → f j = 0) → f (n - 1 - m) ≠ 0 → wv f n ≠ 0 → fac 4294967296 (wv f n) = m := by
  intro m
  induction m with
  | zero =>
    intro n hn hf _ h0 hv
    obtain ⟨k, rfl⟩ : ∃ k, n = k + 1 := ⟨n - 1, by omega⟩
    have := hf k (by omega)
    rw [show k + 1 - 1 - 0 = k by omega] at h0
    rw [wv_s, fac_0 (by omega)]
  | succ m ih =>
    intro n hn hf hz h0 hv
    obtain ⟨k, rfl⟩ : ∃ k, n = k + 1 := ⟨n - 1, by omega⟩
    have hk := hz k (by omega) (by omega)
    rw [wv_s, hk] at hv ⊢
    have h1 := ih k (by omega) (fun j hj => hf j (by omega)) (fun j h1 h2 => hz j (by omega) (by omega)) (by rw [show k - 1 - m = k + 1 - 1 - (m + 1) by omega]; exact h0) (by omega)
    have e : (wv f k * 4294967296 + 0) / 4294967296 = wv f k := by omega
    unfold fac
    rw [dif_pos ⟨by decide, by omega, by omega⟩, e, h1]
def gtI (v k : Int) : Int := if k = 0 then v else v / 4294967296
theorem w2_cases {n : Nat} {f : Nat → Nat} (h : wOK n f) (hb : wv f n < bw 2) : (n = 0 ∧ wv f n = 0) ∨ (n = 1 ∧ wv f n = f 0 ∧ f 0 ≠ 0 ∧ f 0 < 4294967296) ∨ (n = 2 ∧ wv f n = f 0 * 4294967296 + f 1 ∧ f 0 ≠ 0 ∧ f 0 < 4294967296 ∧ f 1 < 4294967296) := by
  have hl := wOK_len h hb
  have h1 := h.1; have h2 := h.2
  match n, hl with
  | 0, _ => exact Or.inl ⟨rfl, rfl⟩
  | 1, _ => exact Or.inr (Or.inl ⟨rfl, by show 0 * 4294967296 + f 0 = f 0; omega, h2 (by decide), h1 0 (by decide)⟩)
  | 2, _ => exact Or.inr (Or.inr ⟨rfl, by show (0 * 4294967296 + f 0) * 4294967296 + f 1 = _; omega, h2 (by decide), h1 0 (by decide), h1 1 (by decide)⟩)
  | n + 3, h => omega
theorem gt_out {n k : Nat} {f : Nat → Nat} {v : Int} (h : wOK n f) (hb : wv f n < bw 2) (hv : wv f n = v.natAbs) (hk : n ≤ k) (hk1 : k ≤ 1) : (if v < 0 then (-1 : Int) else 0) = gtI v k := by
  have hc := w2_cases h hb
  unfold gtI
  (repeat' split) <;> omega
theorem gt_in {n k : Nat} {f : Nat → Nat} {v : Int} (h : wOK n f) (hb : wv f n < bw 2) (hv : wv f n = v.natAbs) (hk : k < n) (hk1 : k ≤ 1) : (0 ≤ sgI v → ((f (n - k - 1) : Nat) : Int) % 4294967296 = gtI v k % 4294967296) ∧ (sgI v < 0 → (k : Int) ≤ (fac 4294967296 v.natAbs : Nat) → (-((f (n - k - 1) : Nat) : Int)) % 4294967296 = gtI v k % 4294967296) ∧ (sgI v < 0 → ((fac 4294967296 v.natAbs : Nat) : Int) < k → (-((f (n - k - 1) : Nat) : Int) - 1) % 4294967296 = gtI v k % 4294967296) := by
  have hs := sgI_cases v
  have hc := w2_cases h hb
  have hk2 : k = 0 ∨ k = 1 := by omega
  rcases hc with ⟨hn, h1⟩ | ⟨hn, h1, h2⟩ | ⟨hn, h1, h2⟩
  · omega
  · subst hn
    obtain rfl : k = 0 := by omega
    rw [show (1 - 0 - 1 : Nat) = 0 from rfl]
    unfold gtI
    rw [if_pos (show ((0 : Nat) : Int) = 0 from rfl)]
    refine ⟨fun _ => by omega, fun _ _ => by omega, fun _ q => by omega⟩
  · subst hn
    rcases hk2 with e | e
    · subst e
      rw [show (2 - 0 - 1 : Nat) = 1 from rfl]
      unfold gtI
      rw [if_pos (show ((0 : Nat) : Int) = 0 from rfl)]
      refine ⟨fun _ => by omega, fun _ _ => by omega, fun _ q => by omega⟩
    · subst e
      rw [show (2 - 1 - 1 : Nat) = 0 from rfl]
      unfold gtI
      rw [if_neg (by decide)]
      refine ⟨fun _ => by omega, fun q1 q2 => ?_, fun q1 q2 => ?_⟩
      · have h0 : f 1 = 0 := by
          rcases Nat.eq_zero_or_pos (f 1) with c | c
          · exact c
          · rw [← hv, h1, fac_0 (by omega)] at q2; omega
        omega
      · have h0 : f 1 ≠ 0 := by
          intro c
          rw [← hv, h1, fac_s (by omega)] at q2
          omega
        omega
theorem sgI_mp {v d : Int} (h : 0 < d) : sgI (v * d) = sgI v := by
  rcases sgI_cases v with ⟨c, e⟩ | ⟨c, e⟩ | ⟨c, e⟩ <;> rw [e]
  · have := Int.mul_neg_of_neg_of_pos c h; have := sgI_cases (v * d); omega
  · rw [c, Int.zero_mul]; rfl
  · have := Int.mul_pos c h; have := sgI_cases (v * d); omega
theorem sgI_mn {v d : Int} (h : d < 0) : sgI (v * d) = -sgI v := by
  rw [← Int.neg_neg d, Int.mul_neg, sgI_neg, sgI_mp (by omega)]
theorem mul_top {f : Nat → Nat} {n d R : Nat} {g g2 : Nat → Nat} (h : wOK n f) (hn : 0 < n) (hR : (R = n + 1 ∧ 1 ≤ d) ∨ (R = n + 2 ∧ 4294967296 ≤ d)) (hg : ∀ j, j < R → g j < 4294967296) (hv : wv g R = wv f n * d) (h0 : g 0 = 0) (h2 : ∀ j, j < R - 1 → g2 j = g (1 + j)) : wOK (R - 1) g2 ∧ wv g2 (R - 1) = wv f n * d := by
  have e : wv g2 (R - 1) = wv g R := by
    rw [← wv_drop (f := g) (k := 1) (n := R) (fun j hj => by rw [show j = 0 by omega]; exact h0) (by omega)]
    exact wv_cong fun j hj => by rw [h2 j hj, Nat.add_comm]
  refine ⟨wOK_of (fun j hj => by rw [h2 j hj]; exact hg _ (by omega)) (fun _ => ?_), e.trans hv⟩
  rw [e, hv]
  have h1 := wOK_ge h hn
  rcases hR with ⟨e1, e2⟩ | ⟨e1, e2⟩
  · have h3 : bw (n - 1) * 1 ≤ wv f n * d := Nat.mul_le_mul h1 e2
    rw [show R - 1 - 1 = n - 1 by omega]; omega
  · have h3 : bw (n - 1) * 4294967296 ≤ wv f n * d := Nat.mul_le_mul h1 e2
    rw [← bw_s] at h3
    rw [show R - 1 - 1 = n - 1 + 1 by omega]; exact h3
theorem wOK_nz {f : Nat → Nat} {n : Nat} (hf : ∀ k, k < n → f k < 4294967296) (h : f 0 ≠ 0) : wOK n f := ⟨hf, fun _ => h⟩
theorem natAbs_mul_eq {v d : Int} {m : Nat} (h : d.natAbs = m) : (v * d).natAbs = v.natAbs * m := by rw [Int.natAbs_mul, h]
theorem nd_J19_negate : yJ19_negate.cls ≠ "java/lang/invoke/MethodHandle" ∧ yJ19_negate.cls ≠ "java/lang/invoke/VarHandle" ∧ (parseMethodDescriptor yJ19_negate.desc).map (fun d => d.parameters.length) = some 0 := by decide +kernel
set_option maxRecDepth 100000 in
set_option maxHeartbeats 16000000 in
theorem ct_J19_negate {g : GG} {l : Launch} (M : Nat → Option PV) (q : Nat) (v : Int) (a : Nat) (hx : at_ g M q (vI v a)) (hv0 : v ≠ 0) (hb : v.natAbs < bw 6) : Ct g l yJ19_negate (ws_ yJ19_negate cJ19_negate 1 (Option.some (Jvm.ClassFile.FieldType.object "java/math/BigInteger"))) 3 54 1 6 [.ref q] [pl g M] (fun v9 Ws9 => ∃ M1 : Nat → Option PV, ∃ r1 : Nat, ∃ a1 : Nat, v9 = some (.ref r1) ∧ (le_ M M1) ∧ (at_ g M1 r1 (vI (-v) a1)) ∧ Ws9 = [pl g M1]) (nox) := by
  refine Ct.of (cc := cJ19_negate) (nL := 1) (ret := (Option.some (Jvm.ClassFile.FieldType.object "java/math/BigInteger"))) (by decide) rfl (Nat.le_of_ble_eq_true rfl) ?_
  intro x hg hl hPo hPx hmc hms F
  subst hg; subst hl
  refine SW.cast (L' := [(0, .ref q)]) ?_ rfl rfl rfl
  refine sw_factI 0 rfl hx (fun n9 f9 ha9 hw9 hv9 => ?_)
  have hn9 : n9 ≤ 6 := wOK_len hw9 (by rw [hv9]; exact hb)
  have hp9 : 0 < n9 := wv_pos (f := f9) (by omega)
  refine sw_new (n := 3) F (ci := 16) (N := 6) RJ19 TJ19 tyJ19 rfl q1064 q1065 q127 in_J19 tyJ19_ok (fs := [.int (jI 0), .null, .int (jI 0), .int (jI 0), .int (jI 0), .int (jI 0)]) rfl 0 0 ⟨by omega, by omega⟩ dJ19_negate_0 rfl (fun q_1 => ?_)
  refine sw_dup (n := 4) F rfl dJ19_negate_3 rfl ?_
  refine sw_aload_n (n := 5) F 0 (some q) rfl rfl rfl dJ19_negate_4 rfl ?_
  refine sw_getI (n := 8) F 1 rfl hx (k := 1) ⟨(RJ19, TJ19, 6), rfl, by decide, q1072, in_J19, Or.inl rfl⟩ (.ref a) (fun _ _ _ _ => rfl) dJ19_negate_5 rfl ?_
  refine sw_aload_n (n := 9) F 0 (some q) rfl rfl rfl dJ19_negate_8 rfl ?_
  refine sw_getI (n := 12) F 1 rfl hx (k := 0) ⟨(RJ19, TJ19, 6), rfl, by decide, q1070, in_J19, Or.inl rfl⟩ (.int (jI (sgI v))) (fun _ _ _ _ => rfl) dJ19_negate_9 rfl ?_
  refine sw_ineg (n := 13) F dJ19_negate_12 rfl ?_
  refine sw_callI (n := 16) F (ct_J19_init_2 (g := xg x) (l := xl x) M q_1 a n9 f9 (-(sgI v)) ha9 (by first | omega | assumption)) q1108 q1109 q127 q1110 rfl nd_J19_init_2 rfl (by decide) [0, 1] rfl [] rfl 0 0 ⟨by omega, by omega⟩ [.ref q_1] rfl (Nat.le_of_ble_eq_true rfl) dJ19_negate_13 rfl (fun _ _ h => h.elim) (fun v Ws h => ?_)
  obtain ⟨rfl, rfl⟩ := h
  show SW x [ob (xg x) q_1 16 [.int (jI (-(sgI v))), .ref a, .int (jI 0), .int (jI 0), .int (jI 0), .int (jI 0)], pl (xg x) M] _ _ _ _ [.ref q_1]
  refine SW.cast (Ps' := ob (xg x) q_1 16 (flI (-v) a 0 0 0 0) :: [pl (xg x) M]) ?_ (by rw [← sgI_neg]; rfl) rfl rfl
  refine sw_absI F (Or.inr rfl) ha9 hw9 (by first | omega | assumption) (fun M_2 hle_3 hat_4 => ?_)
  show SW x [pl (xg x) M_2] _ _ _ _ [.ref q_1]
  exact sw_aret F (some q_1) _ rfl rfl (by first | exact Or.inl ⟨_, rfl⟩ | exact Or.inr ⟨_, rfl⟩) dJ19_negate_16 (by rw [hPo]; exact ⟨M_2, q_1, a, rfl, hle_3, hat_4, rfl⟩)
theorem nd_J19_abs : yJ19_abs.cls ≠ "java/lang/invoke/MethodHandle" ∧ yJ19_abs.cls ≠ "java/lang/invoke/VarHandle" ∧ (parseMethodDescriptor yJ19_abs.desc).map (fun d => d.parameters.length) = some 0 := by decide +kernel
set_option maxRecDepth 100000 in
set_option maxHeartbeats 16000000 in
theorem ct_J19_abs {g : GG} {l : Launch} (M : Nat → Option PV) (q : Nat) (v : Int) (a : Nat) (hx : at_ g M q (vI v a)) (hb : v.natAbs < bw 6) : Ct g l yJ19_abs (ws_ yJ19_abs cJ19_abs 1 (Option.some (Jvm.ClassFile.FieldType.object "java/math/BigInteger"))) 4 74 1 6 [.ref q] [pl g M] (fun v9 Ws9 => ∃ M1 : Nat → Option PV, ∃ r1 : Nat, ∃ a1 : Nat, v9 = some (.ref r1) ∧ (le_ M M1) ∧ (at_ g M1 r1 (vI (abI v) a1)) ∧ Ws9 = [pl g M1]) (nox) := by
  refine Ct.of (cc := cJ19_abs) (nL := 1) (ret := (Option.some (Jvm.ClassFile.FieldType.object "java/math/BigInteger"))) (by decide) rfl (Nat.le_of_ble_eq_true rfl) ?_
  intro x hg hl hPo hPx hmc hms F
  subst hg; subst hl
  refine SW.cast (L' := [(0, .ref q)]) ?_ rfl rfl rfl
  refine sw_aload_n (n := 1) F 0 (some q) rfl rfl rfl dJ19_abs_0 rfl ?_
  refine sw_getI (n := 4) F 0 rfl hx (k := 0) ⟨(RJ19, TJ19, 6), rfl, by decide, q1070, in_J19, Or.inl rfl⟩ (.int (jI (sgI v))) (fun _ _ _ _ => rfl) dJ19_abs_1 rfl ?_
  have hs9 := sgI_cases v
  refine sw_if_lt (n := 7) F (by omega) (tgt := 11) dJ19_abs_4 (by decide) rfl (fun c_4 => ?_) (fun c_4 => ?_)
  ·
    refine sw_aload_n (n := 12) F 0 (some q) rfl rfl rfl dJ19_abs_11 rfl ?_
    refine sw_callV (n := 15) F (ct_J19_negate (g := xg x) (l := xl x) M q v a hx (by first | omega | assumption) hb) (rcvI F 0 rfl hx) q1327 q1328 q1329 q127 q1330 nd_J19_negate rfl (by decide) [0] rfl [] rfl 0 0 ⟨by omega, by omega⟩ [] rfl (Nat.le_of_ble_eq_true rfl) dJ19_abs_12 rfl (fun _ _ h => h.elim) (fun v Ws h => ?_)
    obtain ⟨M1_1, r1_2, a1_3, rfl, hle_4, hat_5, rfl⟩ := h
    show SW x [pl (xg x) M1_1] _ _ _ _ [.ref r1_2]
    exact sw_aret F (some r1_2) _ rfl rfl (by first | exact Or.inl ⟨_, rfl⟩ | exact Or.inr ⟨_, rfl⟩) dJ19_abs_15 (by rw [hPo]; exact ⟨M1_1, r1_2, a1_3, rfl, hle_4, (by first | (rw [abI_ge c_4]; assumption) | (rw [abI_lt c_4]; assumption)), rfl⟩)
  ·
    refine sw_aload_n (n := 8) F 0 (some q) rfl rfl rfl dJ19_abs_7 rfl ?_
    refine sw_goto F (n := 15) dJ19_abs_8 (by decide) ?_
    exact sw_aret F (some q) _ rfl rfl (by first | exact Or.inl ⟨_, rfl⟩ | exact Or.inr ⟨_, rfl⟩) dJ19_abs_15 (by rw [hPo]; exact ⟨M, q, a, rfl, le_.rf, (by first | (rw [abI_ge c_4]; assumption) | (rw [abI_lt c_4]; assumption)), rfl⟩)
theorem nd_J8_valueOf_4 : yJ8_valueOf_4.cls ≠ "java/lang/invoke/MethodHandle" ∧ yJ8_valueOf_4.cls ≠ "java/lang/invoke/VarHandle" ∧ (parseMethodDescriptor yJ8_valueOf_4.desc).map (fun d => d.parameters.length) = some 3 := by decide +kernel
set_option maxRecDepth 100000 in
set_option maxHeartbeats 16000000 in
theorem ct_J8_valueOf_4 {g : GG} {l : Launch} (M : Nat → Option PV) (v : Int) (s : Int) (p : Int) (hv : -9223372036854775808 ≤ v ∧ v ≤ 9223372036854775807) (hs : -2147483648 ≤ s ∧ s ≤ 2147483647) (hp : p = ↑(dgc v.natAbs) ∨ p = 0) : Ct g l yJ8_valueOf_4 (ws_ yJ8_valueOf_4 cJ8_valueOf_4 4 (Option.some (Jvm.ClassFile.FieldType.object "java/math/BigDecimal"))) 4 77 1 5 [.long (jL v), .int (jI s), .int (jI p)] [pl g M] (fun v9 Ws9 => ∃ M1 : Nat → Option PV, ∃ r1 : Nat, ∃ o1 : Option Nat, v9 = some (.ref r1) ∧ (le_ M M1) ∧ (at_ g M1 r1 (vD v s o1)) ∧ Ws9 = [pl g M1]) (nox) := by
  refine Ct.of (cc := cJ8_valueOf_4) (nL := 4) (ret := (Option.some (Jvm.ClassFile.FieldType.object "java/math/BigDecimal"))) (by decide) rfl (Nat.le_of_ble_eq_true rfl) ?_
  intro x hg hl hPo hPx hmc hms F
  subst hg; subst hl
  refine SW.cast (L' := [(0, .long (jL v)), (2, .int (jI s)), (3, .int (jI p))]) ?_ rfl rfl rfl
  refine sw_iload_n (n := 1) F 1 rfl rfl dJ8_valueOf_4_0 rfl ?_
  refine sw_if_ne (n := 4) F (by omega) (tgt := 27) dJ8_valueOf_4_1 (by decide) rfl (fun c_1 => ?_) (fun c_1 => ?_)
  ·
    refine sw_lload_n (n := 28) F 0 rfl rfl dJ8_valueOf_4_27 rfl ?_
    refine sw_lconst (n := 29) F 0 (by decide) dJ8_valueOf_4_28 rfl ?_
    refine sw_lcmp (n := 30) F (by omega) (by decide) dJ8_valueOf_4_29 rfl ?_
    refine sw_if_ne (n := 33) F (by omega) (tgt := 38) dJ8_valueOf_4_30 (by decide) rfl (fun c_30 => ?_) (fun c_30 => ?_)
    ·
      have c_30 : v ≠ 0 := by revert c_30; (repeat' split) <;> omega
      refine sw_new (n := 41) F (ci := 13) (N := 5) RJ8 TJ8 tyJ8 rfl q251 q252 q112 in_J8 tyJ8_ok (fs := [.null, .int (jI 0), .int (jI 0), .null, .long (jL 0)]) rfl 0 0 ⟨by omega, by omega⟩ dJ8_valueOf_4_38 rfl (fun q_1 => ?_)
      refine sw_dup (n := 42) F rfl dJ8_valueOf_4_41 rfl ?_
      refine sw_lload_n (n := 43) F 0 rfl rfl dJ8_valueOf_4_42 rfl ?_
      refine sw_ldc2 (n := 46) F (-9223372036854775808) q250 (by decide) dJ8_valueOf_4_43 rfl ?_
      refine sw_lcmp (n := 47) F (by omega) (by decide) dJ8_valueOf_4_46 rfl ?_
      refine sw_if_ne (n := 50) F (by omega) (tgt := 56) dJ8_valueOf_4_47 (by decide) rfl (fun c_47 => ?_) (fun c_47 => ?_)
      ·
        have c_47 : v ≠ -9223372036854775808 := by revert c_47; (repeat' split) <;> omega
        have hfit : fit v := ⟨by omega, by omega⟩
        refine sw_null (n := 57) F dJ8_valueOf_4_56 rfl ?_
        refine sw_lload_n (n := 58) F 0 rfl rfl dJ8_valueOf_4_57 rfl ?_
        refine sw_iload_n (n := 59) F 1 rfl rfl dJ8_valueOf_4_58 rfl ?_
        refine sw_iload_n (n := 60) F 2 rfl rfl dJ8_valueOf_4_59 rfl ?_
        refine sw_callI (n := 63) F (ct_J8_init (g := xg x) (l := xl x) q_1 none v s p ) q253 q254 q112 q255 rfl nd_J8_init rfl (by decide) [0, 1] rfl [pl (xg x) M] rfl 0 0 ⟨by omega, by omega⟩ [.ref q_1] rfl (Nat.le_of_ble_eq_true rfl) dJ8_valueOf_4_60 rfl (fun _ _ h => h.elim) (fun v Ws h => ?_)
        obtain ⟨rfl, rfl⟩ := h
        show SW x [ob (xg x) q_1 13 [va_rf none, .int (jI s), .int (jI p), .null, .long (jL v)], pl (xg x) M] _ _ _ _ [.ref q_1]
        refine SW.cast (Ps' := ob (xg x) q_1 13 (flD v s none p) :: [pl (xg x) M]) ?_ (by first | rfl | (simp only [flD, cpt_1 hfit] <;> rfl) | (simp only [flD, cpt_lm hv9] <;> rfl)) rfl rfl
        refine sw_absD F (hp) (fun _ => hfit) (fun b h => by cases h <;> exact ⟨_, by rw [hv9]; exact None⟩) (fun M_2 hle_3 hat_4 => ?_)
        show SW x [pl (xg x) M_2] _ _ _ _ [.ref q_1]
        exact sw_aret F (some q_1) _ rfl rfl (by first | exact Or.inl ⟨_, rfl⟩ | exact Or.inr ⟨_, rfl⟩) dJ8_valueOf_4_63 (by rw [hPo]; exact ⟨M_2, q_1, none, rfl, hle_3, hat_4, rfl⟩)
      ·
        have c_47 : v = -9223372036854775808 := by revert c_47; (repeat' split) <;> omega
        have hv9 : v = -9223372036854775808 := by omega
        refine sw_gets (n := 53) F (kIFL F.gx.1).1 q276 (Or.inl rfl) dJ8_valueOf_4_50 rfl ?_
        have hk_5 : at_ (xg x) M (tR (xg x) (Jvm.Term.static "java/math/BigDecimal" "INFLATED_BIGINT" "Ljava/math/BigInteger;")) (vI (-9223372036854775808) (tR (xg x) (.field (Jvm.Term.static "java/math/BigDecimal" "INFLATED_BIGINT" "Ljava/math/BigInteger;") "java/math/BigInteger" "mag" "[I"))) := Or.inr (kIFL F.gx.1).2
        refine sw_goto F (n := 57) dJ8_valueOf_4_53 (by decide) ?_
        refine sw_lload_n (n := 58) F 0 rfl rfl dJ8_valueOf_4_57 rfl ?_
        refine sw_iload_n (n := 59) F 1 rfl rfl dJ8_valueOf_4_58 rfl ?_
        refine sw_iload_n (n := 60) F 2 rfl rfl dJ8_valueOf_4_59 rfl ?_
        refine sw_callI (n := 63) F (ct_J8_init (g := xg x) (l := xl x) q_1 (some (tR (xg x) (Jvm.Term.static "java/math/BigDecimal" "INFLATED_BIGINT" "Ljava/math/BigInteger;"))) v s p ) q253 q254 q112 q255 rfl nd_J8_init rfl (by decide) [0, 1] rfl [pl (xg x) M] rfl 0 0 ⟨by omega, by omega⟩ [.ref q_1] rfl (Nat.le_of_ble_eq_true rfl) dJ8_valueOf_4_60 rfl (fun _ _ h => h.elim) (fun v Ws h => ?_)
        obtain ⟨rfl, rfl⟩ := h
        show SW x [ob (xg x) q_1 13 [va_rf (some (tR (xg x) (Jvm.Term.static "java/math/BigDecimal" "INFLATED_BIGINT" "Ljava/math/BigInteger;"))), .int (jI s), .int (jI p), .null, .long (jL v)], pl (xg x) M] _ _ _ _ [.ref q_1]
        refine SW.cast (Ps' := ob (xg x) q_1 13 (flD v s (some (tR (xg x) (Jvm.Term.static "java/math/BigDecimal" "INFLATED_BIGINT" "Ljava/math/BigInteger;"))) p) :: [pl (xg x) M]) ?_ (by first | rfl | (simp only [flD, cpt_1 hfit] <;> rfl) | (simp only [flD, cpt_lm hv9] <;> rfl)) rfl rfl
        refine sw_absD F (hp) (fun h => by cases h) (fun b h => by cases h <;> exact ⟨_, by rw [hv9]; exact hk_5⟩) (fun M_6 hle_7 hat_8 => ?_)
        show SW x [pl (xg x) M_6] _ _ _ _ [.ref q_1]
        exact sw_aret F (some q_1) _ rfl rfl (by first | exact Or.inl ⟨_, rfl⟩ | exact Or.inr ⟨_, rfl⟩) dJ8_valueOf_4_63 (by rw [hPo]; exact ⟨M_6, q_1, some (tR (xg x) (Jvm.Term.static "java/math/BigDecimal" "INFLATED_BIGINT" "Ljava/math/BigInteger;")), rfl, hle_7, hat_8, rfl⟩)
    ·
      have c_30 : v = 0 := by revert c_30; (repeat' split) <;> omega
      refine sw_iload_n (n := 34) F 1 rfl rfl dJ8_valueOf_4_33 rfl ?_
      refine sw_callS (n := 37) F (ct_J8_zeroValueOf (g := xg x) (l := xl x) M s hs) q1047 q1048 q112 q1049 nd_J8_zeroValueOf rfl (by decide) [0] rfl [] rfl 0 0 ⟨by omega, by omega⟩ [] rfl (Nat.le_of_ble_eq_true rfl) dJ8_valueOf_4_34 rfl (fun _ _ h => h.elim) (fun v Ws h => ?_)
      obtain ⟨M1_9, r1_10, o1_11, rfl, hle_12, hat_13, rfl⟩ := h
      show SW x [pl (xg x) M1_9] _ _ _ _ [.ref r1_10]
      exact sw_aret F (some r1_10) _ rfl rfl (by first | exact Or.inl ⟨_, rfl⟩ | exact Or.inr ⟨_, rfl⟩) dJ8_valueOf_4_37 (by rw [hPo]; exact ⟨M1_9, r1_10, o1_11, rfl, hle_12, (by rw [show v = 0 by omega]; assumption), rfl⟩)
  ·
    refine sw_lload_n (n := 5) F 0 rfl rfl dJ8_valueOf_4_4 rfl ?_
    refine sw_lconst (n := 6) F 0 (by decide) dJ8_valueOf_4_5 rfl ?_
    refine sw_lcmp (n := 7) F (by omega) (by decide) dJ8_valueOf_4_6 rfl ?_
    refine sw_if_lt (n := 10) F (by omega) (tgt := 27) dJ8_valueOf_4_7 (by decide) rfl (fun c_7 => ?_) (fun c_7 => ?_)
    ·
      have c_7 : v < 0 := by revert c_7; (repeat' split) <;> omega
      refine sw_lload_n (n := 28) F 0 rfl rfl dJ8_valueOf_4_27 rfl ?_
      refine sw_lconst (n := 29) F 0 (by decide) dJ8_valueOf_4_28 rfl ?_
      refine sw_lcmp (n := 30) F (by omega) (by decide) dJ8_valueOf_4_29 rfl ?_
      refine sw_if_ne (n := 33) F (by omega) (tgt := 38) dJ8_valueOf_4_30 (by decide) rfl (fun c_30 => ?_) (fun c_30 => ?_)
      ·
        have c_30 : v ≠ 0 := by revert c_30; (repeat' split) <;> omega
        refine sw_new (n := 41) F (ci := 13) (N := 5) RJ8 TJ8 tyJ8 rfl q251 q252 q112 in_J8 tyJ8_ok (fs := [.null, .int (jI 0), .int (jI 0), .null, .long (jL 0)]) rfl 0 0 ⟨by omega, by omega⟩ dJ8_valueOf_4_38 rfl (fun q_14 => ?_)
        refine sw_dup (n := 42) F rfl dJ8_valueOf_4_41 rfl ?_
        refine sw_lload_n (n := 43) F 0 rfl rfl dJ8_valueOf_4_42 rfl ?_
        refine sw_ldc2 (n := 46) F (-9223372036854775808) q250 (by decide) dJ8_valueOf_4_43 rfl ?_
        refine sw_lcmp (n := 47) F (by omega) (by decide) dJ8_valueOf_4_46 rfl ?_
        refine sw_if_ne (n := 50) F (by omega) (tgt := 56) dJ8_valueOf_4_47 (by decide) rfl (fun c_47 => ?_) (fun c_47 => ?_)
        ·
          have c_47 : v ≠ -9223372036854775808 := by revert c_47; (repeat' split) <;> omega
          have hfit : fit v := ⟨by omega, by omega⟩
          refine sw_null (n := 57) F dJ8_valueOf_4_56 rfl ?_
          refine sw_lload_n (n := 58) F 0 rfl rfl dJ8_valueOf_4_57 rfl ?_
          refine sw_iload_n (n := 59) F 1 rfl rfl dJ8_valueOf_4_58 rfl ?_
          refine sw_iload_n (n := 60) F 2 rfl rfl dJ8_valueOf_4_59 rfl ?_
          refine sw_callI (n := 63) F (ct_J8_init (g := xg x) (l := xl x) q_14 none v s p ) q253 q254 q112 q255 rfl nd_J8_init rfl (by decide) [0, 1] rfl [pl (xg x) M] rfl 0 0 ⟨by omega, by omega⟩ [.ref q_14] rfl (Nat.le_of_ble_eq_true rfl) dJ8_valueOf_4_60 rfl (fun _ _ h => h.elim) (fun v Ws h => ?_)
          obtain ⟨rfl, rfl⟩ := h
          show SW x [ob (xg x) q_14 13 [va_rf none, .int (jI s), .int (jI p), .null, .long (jL v)], pl (xg x) M] _ _ _ _ [.ref q_14]
          refine SW.cast (Ps' := ob (xg x) q_14 13 (flD v s none p) :: [pl (xg x) M]) ?_ (by first | rfl | (simp only [flD, cpt_1 hfit] <;> rfl) | (simp only [flD, cpt_lm hv9] <;> rfl)) rfl rfl
          refine sw_absD F (hp) (fun _ => hfit) (fun b h => by cases h <;> exact ⟨_, by rw [hv9]; exact None⟩) (fun M_15 hle_16 hat_17 => ?_)
          show SW x [pl (xg x) M_15] _ _ _ _ [.ref q_14]
          exact sw_aret F (some q_14) _ rfl rfl (by first | exact Or.inl ⟨_, rfl⟩ | exact Or.inr ⟨_, rfl⟩) dJ8_valueOf_4_63 (by rw [hPo]; exact ⟨M_15, q_14, none, rfl, hle_16, hat_17, rfl⟩)
        ·
          have c_47 : v = -9223372036854775808 := by revert c_47; (repeat' split) <;> omega
          have hv9 : v = -9223372036854775808 := by omega
          refine sw_gets (n := 53) F (kIFL F.gx.1).1 q276 (Or.inl rfl) dJ8_valueOf_4_50 rfl ?_
          have hk_18 : at_ (xg x) M (tR (xg x) (Jvm.Term.static "java/math/BigDecimal" "INFLATED_BIGINT" "Ljava/math/BigInteger;")) (vI (-9223372036854775808) (tR (xg x) (.field (Jvm.Term.static "java/math/BigDecimal" "INFLATED_BIGINT" "Ljava/math/BigInteger;") "java/math/BigInteger" "mag" "[I"))) := Or.inr (kIFL F.gx.1).2
          refine sw_goto F (n := 57) dJ8_valueOf_4_53 (by decide) ?_
          refine sw_lload_n (n := 58) F 0 rfl rfl dJ8_valueOf_4_57 rfl ?_
          refine sw_iload_n (n := 59) F 1 rfl rfl dJ8_valueOf_4_58 rfl ?_
          refine sw_iload_n (n := 60) F 2 rfl rfl dJ8_valueOf_4_59 rfl ?_
          refine sw_callI (n := 63) F (ct_J8_init (g := xg x) (l := xl x) q_14 (some (tR (xg x) (Jvm.Term.static "java/math/BigDecimal" "INFLATED_BIGINT" "Ljava/math/BigInteger;"))) v s p ) q253 q254 q112 q255 rfl nd_J8_init rfl (by decide) [0, 1] rfl [pl (xg x) M] rfl 0 0 ⟨by omega, by omega⟩ [.ref q_14] rfl (Nat.le_of_ble_eq_true rfl) dJ8_valueOf_4_60 rfl (fun _ _ h => h.elim) (fun v Ws h => ?_)
          obtain ⟨rfl, rfl⟩ := h
          show SW x [ob (xg x) q_14 13 [va_rf (some (tR (xg x) (Jvm.Term.static "java/math/BigDecimal" "INFLATED_BIGINT" "Ljava/math/BigInteger;"))), .int (jI s), .int (jI p), .null, .long (jL v)], pl (xg x) M] _ _ _ _ [.ref q_14]
          refine SW.cast (Ps' := ob (xg x) q_14 13 (flD v s (some (tR (xg x) (Jvm.Term.static "java/math/BigDecimal" "INFLATED_BIGINT" "Ljava/math/BigInteger;"))) p) :: [pl (xg x) M]) ?_ (by first | rfl | (simp only [flD, cpt_1 hfit] <;> rfl) | (simp only [flD, cpt_lm hv9] <;> rfl)) rfl rfl
          refine sw_absD F (hp) (fun h => by cases h) (fun b h => by cases h <;> exact ⟨_, by rw [hv9]; exact hk_18⟩) (fun M_19 hle_20 hat_21 => ?_)
          show SW x [pl (xg x) M_19] _ _ _ _ [.ref q_14]
          exact sw_aret F (some q_14) _ rfl rfl (by first | exact Or.inl ⟨_, rfl⟩ | exact Or.inr ⟨_, rfl⟩) dJ8_valueOf_4_63 (by rw [hPo]; exact ⟨M_19, q_14, some (tR (xg x) (Jvm.Term.static "java/math/BigDecimal" "INFLATED_BIGINT" "Ljava/math/BigInteger;")), rfl, hle_20, hat_21, rfl⟩)
      ·
        have c_30 : v = 0 := by revert c_30; (repeat' split) <;> omega
        refine sw_iload_n (n := 34) F 1 rfl rfl dJ8_valueOf_4_33 rfl ?_
        refine sw_callS (n := 37) F (ct_J8_zeroValueOf (g := xg x) (l := xl x) M s hs) q1047 q1048 q112 q1049 nd_J8_zeroValueOf rfl (by decide) [0] rfl [] rfl 0 0 ⟨by omega, by omega⟩ [] rfl (Nat.le_of_ble_eq_true rfl) dJ8_valueOf_4_34 rfl (fun _ _ h => h.elim) (fun v Ws h => ?_)
        obtain ⟨M1_22, r1_23, o1_24, rfl, hle_25, hat_26, rfl⟩ := h
        show SW x [pl (xg x) M1_22] _ _ _ _ [.ref r1_23]
        exact sw_aret F (some r1_23) _ rfl rfl (by first | exact Or.inl ⟨_, rfl⟩ | exact Or.inr ⟨_, rfl⟩) dJ8_valueOf_4_37 (by rw [hPo]; exact ⟨M1_22, r1_23, o1_24, rfl, hle_25, (by rw [show v = 0 by omega]; assumption), rfl⟩)
    ·
      have c_7 : v ≥ 0 := by revert c_7; (repeat' split) <;> omega
      refine sw_lload_n (n := 11) F 0 rfl rfl dJ8_valueOf_4_10 rfl ?_
      refine sw_gets (n := 14) F (kZTT F.gx.1).1 q248 (Or.inl rfl) dJ8_valueOf_4_11 rfl ?_
      refine sw_alenK (n := 15) F ((kZTT F.gx.1).2.1.A F) dJ8_valueOf_4_14 rfl ?_
      show SW x _ _ _ _ _ [.int (jI 11), .long (jL v)]
      refine sw_i2l (n := 16) F (by decide) dJ8_valueOf_4_15 rfl ?_
      refine sw_lcmp (n := 17) F (by omega) (by decide) dJ8_valueOf_4_16 rfl ?_
      refine sw_if_ge (n := 20) F (by omega) (tgt := 27) dJ8_valueOf_4_17 (by decide) rfl (fun c_17 => ?_) (fun c_17 => ?_)
      ·
        have c_17 : v ≥ 11 := by revert c_17; (repeat' split) <;> omega
        refine sw_lload_n (n := 28) F 0 rfl rfl dJ8_valueOf_4_27 rfl ?_
        refine sw_lconst (n := 29) F 0 (by decide) dJ8_valueOf_4_28 rfl ?_
        refine sw_lcmp (n := 30) F (by omega) (by decide) dJ8_valueOf_4_29 rfl ?_
        refine sw_if_ne (n := 33) F (by omega) (tgt := 38) dJ8_valueOf_4_30 (by decide) rfl (fun c_30 => ?_) (fun c_30 => ?_)
        ·
          have c_30 : v ≠ 0 := by revert c_30; (repeat' split) <;> omega
          refine sw_new (n := 41) F (ci := 13) (N := 5) RJ8 TJ8 tyJ8 rfl q251 q252 q112 in_J8 tyJ8_ok (fs := [.null, .int (jI 0), .int (jI 0), .null, .long (jL 0)]) rfl 0 0 ⟨by omega, by omega⟩ dJ8_valueOf_4_38 rfl (fun q_27 => ?_)
          refine sw_dup (n := 42) F rfl dJ8_valueOf_4_41 rfl ?_
          refine sw_lload_n (n := 43) F 0 rfl rfl dJ8_valueOf_4_42 rfl ?_
          refine sw_ldc2 (n := 46) F (-9223372036854775808) q250 (by decide) dJ8_valueOf_4_43 rfl ?_
          refine sw_lcmp (n := 47) F (by omega) (by decide) dJ8_valueOf_4_46 rfl ?_
          refine sw_if_ne (n := 50) F (by omega) (tgt := 56) dJ8_valueOf_4_47 (by decide) rfl (fun c_47 => ?_) (fun c_47 => ?_)
          ·
            have c_47 : v ≠ -9223372036854775808 := by revert c_47; (repeat' split) <;> omega
            have hfit : fit v := ⟨by omega, by omega⟩
            refine sw_null (n := 57) F dJ8_valueOf_4_56 rfl ?_
            refine sw_lload_n (n := 58) F 0 rfl rfl dJ8_valueOf_4_57 rfl ?_
            refine sw_iload_n (n := 59) F 1 rfl rfl dJ8_valueOf_4_58 rfl ?_
            refine sw_iload_n (n := 60) F 2 rfl rfl dJ8_valueOf_4_59 rfl ?_
            refine sw_callI (n := 63) F (ct_J8_init (g := xg x) (l := xl x) q_27 none v s p ) q253 q254 q112 q255 rfl nd_J8_init rfl (by decide) [0, 1] rfl [pl (xg x) M] rfl 0 0 ⟨by omega, by omega⟩ [.ref q_27] rfl (Nat.le_of_ble_eq_true rfl) dJ8_valueOf_4_60 rfl (fun _ _ h => h.elim) (fun v Ws h => ?_)
            obtain ⟨rfl, rfl⟩ := h
            show SW x [ob (xg x) q_27 13 [va_rf none, .int (jI s), .int (jI p), .null, .long (jL v)], pl (xg x) M] _ _ _ _ [.ref q_27]
            refine SW.cast (Ps' := ob (xg x) q_27 13 (flD v s none p) :: [pl (xg x) M]) ?_ (by first | rfl | (simp only [flD, cpt_1 hfit] <;> rfl) | (simp only [flD, cpt_lm hv9] <;> rfl)) rfl rfl
            refine sw_absD F (hp) (fun _ => hfit) (fun b h => by cases h <;> exact ⟨_, by rw [hv9]; exact None⟩) (fun M_28 hle_29 hat_30 => ?_)
            show SW x [pl (xg x) M_28] _ _ _ _ [.ref q_27]
            exact sw_aret F (some q_27) _ rfl rfl (by first | exact Or.inl ⟨_, rfl⟩ | exact Or.inr ⟨_, rfl⟩) dJ8_valueOf_4_63 (by rw [hPo]; exact ⟨M_28, q_27, none, rfl, hle_29, hat_30, rfl⟩)
          ·
            have c_47 : v = -9223372036854775808 := by revert c_47; (repeat' split) <;> omega
            have hv9 : v = -9223372036854775808 := by omega
            refine sw_gets (n := 53) F (kIFL F.gx.1).1 q276 (Or.inl rfl) dJ8_valueOf_4_50 rfl ?_
            have hk_31 : at_ (xg x) M (tR (xg x) (Jvm.Term.static "java/math/BigDecimal" "INFLATED_BIGINT" "Ljava/math/BigInteger;")) (vI (-9223372036854775808) (tR (xg x) (.field (Jvm.Term.static "java/math/BigDecimal" "INFLATED_BIGINT" "Ljava/math/BigInteger;") "java/math/BigInteger" "mag" "[I"))) := Or.inr (kIFL F.gx.1).2
            refine sw_goto F (n := 57) dJ8_valueOf_4_53 (by decide) ?_
            refine sw_lload_n (n := 58) F 0 rfl rfl dJ8_valueOf_4_57 rfl ?_
            refine sw_iload_n (n := 59) F 1 rfl rfl dJ8_valueOf_4_58 rfl ?_
            refine sw_iload_n (n := 60) F 2 rfl rfl dJ8_valueOf_4_59 rfl ?_
            refine sw_callI (n := 63) F (ct_J8_init (g := xg x) (l := xl x) q_27 (some (tR (xg x) (Jvm.Term.static "java/math/BigDecimal" "INFLATED_BIGINT" "Ljava/math/BigInteger;"))) v s p ) q253 q254 q112 q255 rfl nd_J8_init rfl (by decide) [0, 1] rfl [pl (xg x) M] rfl 0 0 ⟨by omega, by omega⟩ [.ref q_27] rfl (Nat.le_of_ble_eq_true rfl) dJ8_valueOf_4_60 rfl (fun _ _ h => h.elim) (fun v Ws h => ?_)
            obtain ⟨rfl, rfl⟩ := h
            show SW x [ob (xg x) q_27 13 [va_rf (some (tR (xg x) (Jvm.Term.static "java/math/BigDecimal" "INFLATED_BIGINT" "Ljava/math/BigInteger;"))), .int (jI s), .int (jI p), .null, .long (jL v)], pl (xg x) M] _ _ _ _ [.ref q_27]
            refine SW.cast (Ps' := ob (xg x) q_27 13 (flD v s (some (tR (xg x) (Jvm.Term.static "java/math/BigDecimal" "INFLATED_BIGINT" "Ljava/math/BigInteger;"))) p) :: [pl (xg x) M]) ?_ (by first | rfl | (simp only [flD, cpt_1 hfit] <;> rfl) | (simp only [flD, cpt_lm hv9] <;> rfl)) rfl rfl
            refine sw_absD F (hp) (fun h => by cases h) (fun b h => by cases h <;> exact ⟨_, by rw [hv9]; exact hk_31⟩) (fun M_32 hle_33 hat_34 => ?_)
            show SW x [pl (xg x) M_32] _ _ _ _ [.ref q_27]
            exact sw_aret F (some q_27) _ rfl rfl (by first | exact Or.inl ⟨_, rfl⟩ | exact Or.inr ⟨_, rfl⟩) dJ8_valueOf_4_63 (by rw [hPo]; exact ⟨M_32, q_27, some (tR (xg x) (Jvm.Term.static "java/math/BigDecimal" "INFLATED_BIGINT" "Ljava/math/BigInteger;")), rfl, hle_33, hat_34, rfl⟩)
        ·
          have c_30 : v = 0 := by revert c_30; (repeat' split) <;> omega
          refine sw_iload_n (n := 34) F 1 rfl rfl dJ8_valueOf_4_33 rfl ?_
          refine sw_callS (n := 37) F (ct_J8_zeroValueOf (g := xg x) (l := xl x) M s hs) q1047 q1048 q112 q1049 nd_J8_zeroValueOf rfl (by decide) [0] rfl [] rfl 0 0 ⟨by omega, by omega⟩ [] rfl (Nat.le_of_ble_eq_true rfl) dJ8_valueOf_4_34 rfl (fun _ _ h => h.elim) (fun v Ws h => ?_)
          obtain ⟨M1_35, r1_36, o1_37, rfl, hle_38, hat_39, rfl⟩ := h
          show SW x [pl (xg x) M1_35] _ _ _ _ [.ref r1_36]
          exact sw_aret F (some r1_36) _ rfl rfl (by first | exact Or.inl ⟨_, rfl⟩ | exact Or.inr ⟨_, rfl⟩) dJ8_valueOf_4_37 (by rw [hPo]; exact ⟨M1_35, r1_36, o1_37, rfl, hle_38, (by rw [show v = 0 by omega]; assumption), rfl⟩)
      ·
        have c_17 : v < 11 := by revert c_17; (repeat' split) <;> omega
        refine sw_gets (n := 23) F (kZTT F.gx.1).1 q248 (Or.inl rfl) dJ8_valueOf_4_20 rfl ?_
        refine sw_lload_n (n := 24) F 0 rfl rfl dJ8_valueOf_4_23 rfl ?_
        refine sw_l2i (n := 25) F dJ8_valueOf_4_24 rfl ?_
        refine sw_aaloadK (n := 26) F rfl ((kZTT F.gx.1).2.1.A F) ((v : Int).toNat) (by omega) (by omega) dJ8_valueOf_4_25 rfl ?_
        show SW x _ _ _ _ _ [.ref (tR (xg x) (eZTT ((v : Int).toNat)))]
        have hk_40 : at_ (xg x) M (tR (xg x) (eZTT ((v : Int).toNat))) (vD v 0 (some (tR (xg x) (.field (eZTT ((v : Int).toNat)) "java/math/BigDecimal" "intVal" "Ljava/math/BigInteger;")))) := by have h9 : at_ (xg x) M (tR (xg x) (eZTT ((v : Int).toNat))) (vD (↑((v : Int).toNat)) 0 (some (tR (xg x) (.field (eZTT ((v : Int).toNat)) "java/math/BigDecimal" "intVal" "Ljava/math/BigInteger;")))) := Or.inr ((kZTT F.gx.1).2.2 ((v : Int).toNat) (by omega)); rw [show (((v : Int).toNat : Nat) : Int) = v by omega] at h9; exact h9
        exact sw_aret F (some (tR (xg x) (eZTT ((v : Int).toNat)))) _ rfl rfl (by first | exact Or.inl ⟨_, rfl⟩ | exact Or.inr ⟨_, rfl⟩) dJ8_valueOf_4_26 (by rw [hPo]; exact ⟨M, tR (xg x) (eZTT ((v : Int).toNat)), some (tR (xg x) (.field (eZTT ((v : Int).toNat)) "java/math/BigDecimal" "intVal" "Ljava/math/BigInteger;")), rfl, le_.rf, (by rw [show s = 0 by omega]; assumption), rfl⟩)
theorem nd_J8_negate : yJ8_negate.cls ≠ "java/lang/invoke/MethodHandle" ∧ yJ8_negate.cls ≠ "java/lang/invoke/VarHandle" ∧ (parseMethodDescriptor yJ8_negate.desc).map (fun d => d.parameters.length) = some 0 := by decide +kernel
set_option maxRecDepth 100000 in
set_option maxHeartbeats 16000000 in
theorem ct_J8_negate {g : GG} {l : Launch} (M : Nat → Option PV) (q : Nat) (u : Int) (s : Int) (o : Option Nat) (hx : at_ g M q (vD u s o)) (hf : fit u) (hs : -2147483648 ≤ s ∧ s ≤ 2147483647) : Ct g l yJ8_negate (ws_ yJ8_negate cJ8_negate 1 (Option.some (Jvm.ClassFile.FieldType.object "java/math/BigDecimal"))) 5 100 1 5 [.ref q] [pl g M] (fun v9 Ws9 => ∃ M1 : Nat → Option PV, ∃ r1 : Nat, ∃ o1 : Option Nat, v9 = some (.ref r1) ∧ (le_ M M1) ∧ (at_ g M1 r1 (vD (-u) s o1)) ∧ Ws9 = [pl g M1]) (nox) := by
  refine Ct.of (cc := cJ8_negate) (nL := 1) (ret := (Option.some (Jvm.ClassFile.FieldType.object "java/math/BigDecimal"))) (by decide) rfl (Nat.le_of_ble_eq_true rfl) ?_
  intro x hg hl hPo hPx hmc hms F
  subst hg; subst hl
  refine SW.cast (L' := [(0, .ref q)]) ?_ rfl rfl rfl
  have hcr := cpt_rng u
  have hr9 := hf
  unfold fit at hr9
  refine sw_aload_n (n := 1) F 0 (some q) rfl rfl rfl dJ8_negate_0 rfl ?_
  refine sw_getD (n := 4) F 0 rfl hx (k := 4) ⟨(RJ8, TJ8, 5), rfl, by decide, q264, in_J8, Or.inl rfl⟩ (.long (jL (cpt u))) (fun _ => rfl) dJ8_negate_1 rfl ?_
  refine sw_ldc2 (n := 7) F (-9223372036854775808) q250 (by decide) dJ8_negate_4 rfl ?_
  refine sw_lcmp (n := 8) F (by omega) (by decide) dJ8_negate_7 rfl ?_
  refine sw_if_ne (n := 11) F (by omega) (tgt := 37) dJ8_negate_8 (by decide) rfl (fun c_8 => ?_) (fun c_8 => ?_)
  ·
    have c_8 : cpt u ≠ -9223372036854775808 := by revert c_8; (repeat' split) <;> omega
    refine sw_aload_n (n := 38) F 0 (some q) rfl rfl rfl dJ8_negate_37 rfl ?_
    refine sw_getD (n := 41) F 0 rfl hx (k := 4) ⟨(RJ8, TJ8, 5), rfl, by decide, q264, in_J8, Or.inl rfl⟩ (.long (jL (cpt u))) (fun _ => rfl) dJ8_negate_38 rfl ?_
    rw [cpt_1 hf]
    refine sw_lneg (n := 42) F dJ8_negate_41 rfl ?_
    refine sw_aload_n (n := 43) F 0 (some q) rfl rfl rfl dJ8_negate_42 rfl ?_
    refine sw_getD (n := 46) F 0 rfl hx (k := 1) ⟨(RJ8, TJ8, 5), rfl, by decide, q261, in_J8, Or.inl rfl⟩ (.int (jI s)) (fun _ => rfl) dJ8_negate_43 rfl ?_
    refine sw_aload_n (n := 47) F 0 (some q) rfl rfl rfl dJ8_negate_46 rfl ?_
    refine sw_getDp (n := 50) F 0 rfl hx ⟨(RJ8, TJ8, 5), rfl, by decide, q262, in_J8, Or.inl rfl⟩ dJ8_negate_47 rfl (fun p_1 hp_2 => ?_)
    refine sw_callS (n := 53) F (ct_J8_valueOf_4 (g := xg x) (l := xl x) M (-u) s p_1 (by first | omega | assumption) hs (by rw [Int.natAbs_neg]; omega)) q2559 q2560 q112 q2561 nd_J8_valueOf_4 rfl (by decide) [0] rfl [] rfl 0 0 ⟨by omega, by omega⟩ [] rfl (Nat.le_of_ble_eq_true rfl) dJ8_negate_50 rfl (fun _ _ h => h.elim) (fun v Ws h => ?_)
    obtain ⟨M1_3, r1_4, o1_5, rfl, hle_6, hat_7, rfl⟩ := h
    show SW x [pl (xg x) M1_3] _ _ _ _ [.ref r1_4]
    exact sw_aret F (some r1_4) _ rfl rfl (by first | exact Or.inl ⟨_, rfl⟩ | exact Or.inr ⟨_, rfl⟩) dJ8_negate_53 (by rw [hPo]; exact ⟨M1_3, r1_4, o1_5, rfl, hle_6, hat_7, rfl⟩)
  · exfalso; exact cpt_y (show cpt u = -9223372036854775808 by revert c_8; (repeat' split) <;> omega) hf
theorem nd_J8_abs : yJ8_abs.cls ≠ "java/lang/invoke/MethodHandle" ∧ yJ8_abs.cls ≠ "java/lang/invoke/VarHandle" ∧ (parseMethodDescriptor yJ8_abs.desc).map (fun d => d.parameters.length) = some 0 := by decide +kernel
set_option maxRecDepth 100000 in
set_option maxHeartbeats 16000000 in
theorem ct_J8_abs {g : GG} {l : Launch} (M : Nat → Option PV) (q : Nat) (u : Int) (s : Int) (o : Option Nat) (hx : at_ g M q (vD u s o)) (hf : fit u) (hs : -2147483648 ≤ s ∧ s ≤ 2147483647) : Ct g l yJ8_abs (ws_ yJ8_abs cJ8_abs 1 (Option.some (Jvm.ClassFile.FieldType.object "java/math/BigDecimal"))) 6 120 1 5 [.ref q] [pl g M] (fun v9 Ws9 => ∃ M1 : Nat → Option PV, ∃ r1 : Nat, ∃ o1 : Option Nat, v9 = some (.ref r1) ∧ (le_ M M1) ∧ (at_ g M1 r1 (vD (abI u) s o1)) ∧ Ws9 = [pl g M1]) (nox) := by
  refine Ct.of (cc := cJ8_abs) (nL := 1) (ret := (Option.some (Jvm.ClassFile.FieldType.object "java/math/BigDecimal"))) (by decide) rfl (Nat.le_of_ble_eq_true rfl) ?_
  intro x hg hl hPo hPx hmc hms F
  subst hg; subst hl
  refine SW.cast (L' := [(0, .ref q)]) ?_ rfl rfl rfl
  refine sw_aload_n (n := 1) F 0 (some q) rfl rfl rfl dJ8_abs_0 rfl ?_
  refine sw_callV (n := 4) F (ct_J8_signum (g := xg x) (l := xl x) M q u s o hx) (rcvD F 0 rfl hx) q1512 q1513 q1514 q112 q1515 nd_J8_signum rfl (by decide) [0] rfl [] rfl 1 5 ⟨by omega, by omega⟩ [] rfl (Nat.le_of_ble_eq_true rfl) dJ8_abs_1 rfl (fun _ _ h => h.elim) (fun v Ws h => ?_)
  obtain ⟨rfl, rfl⟩ := h
  show SW x [pl (xg x) M] _ _ _ _ [.int (jI (sgI u))]
  have hs9 := sgI_cases u
  refine sw_if_ge (n := 7) F (by omega) (tgt := 14) dJ8_abs_4 (by decide) rfl (fun c_4 => ?_) (fun c_4 => ?_)
  ·
    refine sw_aload_n (n := 15) F 0 (some q) rfl rfl rfl dJ8_abs_14 rfl ?_
    exact sw_aret F (some q) _ rfl rfl (by first | exact Or.inl ⟨_, rfl⟩ | exact Or.inr ⟨_, rfl⟩) dJ8_abs_15 (by rw [hPo]; exact ⟨M, q, o, rfl, le_.rf, (by first | (rw [abI_ge c_4]; assumption) | (rw [abI_lt c_4]; assumption)), rfl⟩)
  ·
    refine sw_aload_n (n := 8) F 0 (some q) rfl rfl rfl dJ8_abs_7 rfl ?_
    refine sw_callV (n := 11) F (ct_J8_negate (g := xg x) (l := xl x) M q u s o hx hf hs) (rcvD F 0 rfl hx) q2602 q2556 q2557 q112 q2558 nd_J8_negate rfl (by decide) [0] rfl [] rfl 0 0 ⟨by omega, by omega⟩ [] rfl (Nat.le_of_ble_eq_true rfl) dJ8_abs_8 rfl (fun _ _ h => h.elim) (fun v Ws h => ?_)
    obtain ⟨M1_1, r1_2, o1_3, rfl, hle_4, hat_5, rfl⟩ := h
    show SW x [pl (xg x) M1_1] _ _ _ _ [.ref r1_2]
    refine sw_goto F (n := 15) dJ8_abs_11 (by decide) ?_
    exact sw_aret F (some r1_2) _ rfl rfl (by first | exact Or.inl ⟨_, rfl⟩ | exact Or.inr ⟨_, rfl⟩) dJ8_abs_15 (by rw [hPo]; exact ⟨M1_1, r1_2, o1_3, rfl, hle_4, (by first | (rw [abI_ge c_4]; assumption) | (rw [abI_lt c_4]; assumption)), rfl⟩)
theorem nd_J19_compareMagnitude_2 : yJ19_compareMagnitude_2.cls ≠ "java/lang/invoke/MethodHandle" ∧ yJ19_compareMagnitude_2.cls ≠ "java/lang/invoke/VarHandle" ∧ (parseMethodDescriptor yJ19_compareMagnitude_2.desc).map (fun d => d.parameters.length) = some 1 := by decide +kernel
set_option maxRecDepth 100000 in
set_option maxHeartbeats 16000000 in
theorem ct_J19_compareMagnitude_2 {g : GG} {l : Launch} (M : Nat → Option PV) (q : Nat) (v : Int) (a : Nat) (q2 : Nat) (w : Int) (b : Nat) (hx : at_ g M q (vI v a)) (hy : at_ g M q2 (vI w b)) (hb : v.natAbs < bw 6) (hb2 : w.natAbs < bw 6) : Ct g l yJ19_compareMagnitude_2 (ws_ yJ19_compareMagnitude_2 cJ19_compareMagnitude_2 9 (Option.some Jvm.ClassFile.FieldType.int)) 1 12 0 0 [.ref q, .ref q2] [pl g M] (fun v9 Ws9 => v9 = some (.int (jI (cmpI v.natAbs w.natAbs))) ∧ Ws9 = [pl g M]) (nox) := by
  refine Ct.of (cc := cJ19_compareMagnitude_2) (nL := 9) (ret := (Option.some Jvm.ClassFile.FieldType.int)) (by decide) rfl (Nat.le_of_ble_eq_true rfl) ?_
  intro x hg hl hPo hPx hmc hms F
  subst hg; subst hl
  refine SW.cast (L' := [(0, .ref q), (1, .ref q2)]) ?_ rfl rfl rfl
  refine sw_factI 0 rfl hx (fun n9 f9 ha9 hw9 hv9 => ?_)
  refine sw_factI 0 rfl hy (fun n8 f8 ha8 hw8 hv8 => ?_)
  have hn9 : n9 ≤ 6 := wOK_len hw9 (by rw [hv9]; exact hb)
  have hn8 : n8 ≤ 6 := wOK_len hw8 (by rw [hv8]; exact hb2)
  refine sw_aload_n (n := 1) F 0 (some q) rfl rfl rfl dJ19_compareMagnitude_2_0 rfl ?_
  refine sw_getI (n := 4) F 0 rfl hx (k := 1) ⟨(RJ19, TJ19, 6), rfl, by decide, q1072, in_J19, Or.inl rfl⟩ (.ref a) (fun _ _ _ _ => rfl) dJ19_compareMagnitude_2_1 rfl ?_
  refine sw_astore_n (n := 5) F (some a) (L2 := [(2, .ref a), (0, .ref q), (1, .ref q2)]) rfl rfl (by decide) rfl dJ19_compareMagnitude_2_4 rfl ?_
  refine sw_aload_n (n := 6) F 0 (some a) rfl rfl rfl dJ19_compareMagnitude_2_5 rfl ?_
  refine sw_alenK (n := 7) F (plA F 0 rfl ha9) dJ19_compareMagnitude_2_6 rfl ?_
  show SW x _ _ _ _ _ [.int (jI (↑n9))]
  refine sw_istore_n (n := 8) F (L2 := [(3, .int (jI (↑n9))), (2, .ref a), (0, .ref q), (1, .ref q2)]) rfl (by decide) rfl dJ19_compareMagnitude_2_7 rfl ?_
  refine sw_aload_n (n := 9) F 3 (some q2) rfl rfl rfl dJ19_compareMagnitude_2_8 rfl ?_
  refine sw_getI (n := 12) F 0 rfl hy (k := 1) ⟨(RJ19, TJ19, 6), rfl, by decide, q1072, in_J19, Or.inl rfl⟩ (.ref b) (fun _ _ _ _ => rfl) dJ19_compareMagnitude_2_9 rfl ?_
  refine sw_astore (n := 14) F (some b) (L2 := [(4, .ref b), (3, .int (jI (↑n9))), (2, .ref a), (0, .ref q), (1, .ref q2)]) rfl rfl (by decide) dJ19_compareMagnitude_2_12 rfl ?_
  refine sw_aload (n := 16) F 0 (some b) rfl rfl dJ19_compareMagnitude_2_14 rfl ?_
  refine sw_alenK (n := 17) F (plA F 0 rfl ha8) dJ19_compareMagnitude_2_16 rfl ?_
  show SW x _ _ _ _ _ [.int (jI (↑n8))]
  refine sw_istore (n := 19) F (L2 := [(5, .int (jI (↑n8))), (4, .ref b), (3, .int (jI (↑n9))), (2, .ref a), (0, .ref q), (1, .ref q2)]) rfl (by decide) dJ19_compareMagnitude_2_17 rfl ?_
  refine sw_iload_n (n := 20) F 2 rfl rfl dJ19_compareMagnitude_2_19 rfl ?_
  refine sw_iload (n := 22) F 0 rfl dJ19_compareMagnitude_2_20 rfl ?_
  refine sw_icmp_ge (n := 25) F (by omega) (by omega) (tgt := 27) dJ19_compareMagnitude_2_22 (by decide) rfl (fun c_22 => ?_) (fun c_22 => ?_)
  ·
    refine sw_iload_n (n := 28) F 2 rfl rfl dJ19_compareMagnitude_2_27 rfl ?_
    refine sw_iload (n := 30) F 0 rfl dJ19_compareMagnitude_2_28 rfl ?_
    refine sw_icmp_le (n := 33) F (by omega) (by omega) (tgt := 35) dJ19_compareMagnitude_2_30 (by decide) rfl (fun c_30 => ?_) (fun c_30 => ?_)
    ·
      have hn98 : n8 = n9 := by omega
      refine sw_iconst (n := 36) F (0) (by decide) dJ19_compareMagnitude_2_35 rfl ?_
      refine sw_istore (n := 38) F (L2 := [(6, .int (jI 0)), (5, .int (jI (↑n8))), (4, .ref b), (3, .int (jI (↑n9))), (2, .ref a), (0, .ref q), (1, .ref q2)]) rfl (by decide) dJ19_compareMagnitude_2_36 rfl ?_
      have K38 : ∀ N38 : Nat, ∀ (k : Nat), (k ≤ n9) → (∀ j, j < k → f9 j = f8 j) → ((n9 - k) < N38) → SW x [pl (xg x) M] 0 0 38 [(0, .ref q), (1, .ref q2), (2, .ref a), (3, .int (jI (↑n9))), (4, .ref b), (5, .int (jI (↑n8))), (6, .int (jI (↑k)))] [] := by
        intro N38; induction N38 with
        | zero => intro k hk he hmu38; omega
        | succ N38 ih38 =>
          intro k hk he hmu38
          refine sw_iload (n := 40) F 6 rfl dJ19_compareMagnitude_2_38 rfl ?_
          refine sw_iload_n (n := 41) F 3 rfl rfl dJ19_compareMagnitude_2_40 rfl ?_
          refine sw_icmp_ge (n := 44) F (by omega) (by omega) (tgt := 94) dJ19_compareMagnitude_2_41 (by decide) rfl (fun c_41 => ?_) (fun c_41 => ?_)
          ·
            refine sw_iconst (n := 95) F (0) (by decide) dJ19_compareMagnitude_2_94 rfl ?_
            exact sw_iret F _ rfl (by first | rfl | exact jI_nz (by omega) | exact jI_nc (by omega)) dJ19_compareMagnitude_2_95 (by rw [hPo]; exact ⟨(by rw [cmpI_eq (by rw [← hv9, ← hv8, hn98]; exact wv_cong fun j hj => he j (by omega))]), rfl⟩)
          ·
            refine sw_aload_n (n := 45) F 2 (some a) rfl rfl rfl dJ19_compareMagnitude_2_44 rfl ?_
            refine sw_iload (n := 47) F 6 rfl dJ19_compareMagnitude_2_45 rfl ?_
            refine sw_ialoadK (n := 48) F (plA F 0 rfl ha9) k rfl (by omega) dJ19_compareMagnitude_2_47 rfl ?_
            show SW x _ _ _ _ _ [.int (jI (↑(f9 k)))]
            refine sw_istore (n := 50) F (L2 := [(7, .int (jI (↑(f9 k)))), (0, .ref q), (1, .ref q2), (2, .ref a), (3, .int (jI (↑n9))), (4, .ref b), (5, .int (jI (↑n8))), (6, .int (jI (↑k)))]) rfl (by decide) dJ19_compareMagnitude_2_48 rfl ?_
            refine sw_aload (n := 52) F 5 (some b) rfl rfl dJ19_compareMagnitude_2_50 rfl ?_
            refine sw_iload (n := 54) F 7 rfl dJ19_compareMagnitude_2_52 rfl ?_
            refine sw_ialoadK (n := 55) F (plA F 0 rfl ha8) k rfl (by omega) dJ19_compareMagnitude_2_54 rfl ?_
            show SW x _ _ _ _ _ [.int (jI (↑(f8 k)))]
            refine sw_istore (n := 57) F (L2 := [(8, .int (jI (↑(f8 k)))), (7, .int (jI (↑(f9 k)))), (0, .ref q), (1, .ref q2), (2, .ref a), (3, .int (jI (↑n9))), (4, .ref b), (5, .int (jI (↑n8))), (6, .int (jI (↑k)))]) rfl (by decide) dJ19_compareMagnitude_2_55 rfl ?_
            refine sw_iload (n := 59) F 1 rfl dJ19_compareMagnitude_2_57 rfl ?_
            refine sw_iload (n := 61) F 0 rfl dJ19_compareMagnitude_2_59 rfl ?_
            have hb_x : f9 k < 4294967296 := hw9.1 _ (by omega)
            have hb_y : f8 k < 4294967296 := hw8.1 _ (by omega)
            refine sw_icmp_eqU (n := 64) F (by omega) (by omega) (tgt := 88) dJ19_compareMagnitude_2_61 (by decide) rfl (fun c_61 => ?_) (fun c_61 => ?_)
            ·
              refine sw_iinc (n := 91) F 8 (L2 := [(6, .int (jI (↑k + 1))), (8, .int (jI (↑(f8 k)))), (7, .int (jI (↑(f9 k)))), (0, .ref q), (1, .ref q2), (2, .ref a), (3, .int (jI (↑n9))), (4, .ref b), (5, .int (jI (↑n8)))]) rfl rfl (by decide) dJ19_compareMagnitude_2_88 rfl ?_
              refine sw_goto F (n := 38) dJ19_compareMagnitude_2_91 (by decide) ?_
              refine sw_loc [3, 4, 5, 6, 7, 8, 0] (L2 := [(0, .ref q), (1, .ref q2), (2, .ref a), (3, .int (jI (↑n9))), (4, .ref b), (5, .int (jI (↑n8))), (6, .int (jI (↑k + 1)))]) rfl ?_
              rw [show (↑k + 1 : Int) = ↑(k + 1) by omega]
              exact ih38 (k + 1) (by first | omega | assumption) (by first | (intro j hj; omega) | (intro j hj; rcases Nat.lt_or_ge j k with c | c; exact he j c; rw [show j = k by omega]; omega)) (by omega)
            ·
              refine sw_iload (n := 66) F 1 rfl dJ19_compareMagnitude_2_64 rfl ?_
              have hb_1 : f9 k < 4294967296 := hw9.1 _ (by omega)
              refine sw_i2lr (n := 67) F dJ19_compareMagnitude_2_66 rfl ?_
              refine sw_ldc2 (n := 70) F (4294967295) q1106 (by decide) dJ19_compareMagnitude_2_67 rfl ?_
              refine sw_land (n := 71) F (jL (↑(f9 k))) (jI_wordE (by omega)) dJ19_compareMagnitude_2_70 rfl ?_
              refine sw_iload (n := 73) F 0 rfl dJ19_compareMagnitude_2_71 rfl ?_
              have hb_2 : f8 k < 4294967296 := hw8.1 _ (by omega)
              refine sw_i2lr (n := 74) F dJ19_compareMagnitude_2_73 rfl ?_
              refine sw_ldc2 (n := 77) F (4294967295) q1106 (by decide) dJ19_compareMagnitude_2_74 rfl ?_
              refine sw_land (n := 78) F (jL (↑(f8 k))) (jI_wordE (by omega)) dJ19_compareMagnitude_2_77 rfl ?_
              refine sw_lcmp (n := 79) F (by omega) (by omega) dJ19_compareMagnitude_2_78 rfl ?_
              refine sw_if_ge (n := 82) F (by omega) (tgt := 86) dJ19_compareMagnitude_2_79 (by decide) rfl (fun c_79 => ?_) (fun c_79 => ?_)
              ·
                have c_79 : ↑(f9 k) ≥ ↑(f8 k) := by revert c_79; (repeat' split) <;> omega
                refine sw_iconst (n := 87) F (1) (by decide) dJ19_compareMagnitude_2_86 rfl ?_
                exact sw_iret F _ rfl (by first | rfl | exact jI_nz (by omega) | exact jI_nc (by omega)) dJ19_compareMagnitude_2_87 (by rw [hPo]; exact ⟨(by first | (rw [cmpI_lt (by rw [← hv9, ← hv8, hn98]; exact wv_lex hw9.1 (i := k) (by omega) he (by omega))]) | (rw [cmpI_gt (by rw [← hv9, ← hv8, hn98]; exact wv_lex (fun j hj => hw8.1 j (by omega)) (i := k) (by omega) (fun j hj => (he j hj).symm) (by omega))])), rfl⟩)
              ·
                have c_79 : ↑(f9 k) < ↑(f8 k) := by revert c_79; (repeat' split) <;> omega
                refine sw_iconst (n := 83) F (-1) (by decide) dJ19_compareMagnitude_2_82 rfl ?_
                refine sw_goto F (n := 87) dJ19_compareMagnitude_2_83 (by decide) ?_
                exact sw_iret F _ rfl (by first | rfl | exact jI_nz (by omega) | exact jI_nc (by omega)) dJ19_compareMagnitude_2_87 (by rw [hPo]; exact ⟨(by first | (rw [cmpI_lt (by rw [← hv9, ← hv8, hn98]; exact wv_lex hw9.1 (i := k) (by omega) he (by omega))]) | (rw [cmpI_gt (by rw [← hv9, ← hv8, hn98]; exact wv_lex (fun j hj => hw8.1 j (by omega)) (i := k) (by omega) (fun j hj => (he j hj).symm) (by omega))])), rfl⟩)
      refine sw_loc [5, 6, 4, 3, 2, 1, 0] (L2 := [(0, .ref q), (1, .ref q2), (2, .ref a), (3, .int (jI (↑n9))), (4, .ref b), (5, .int (jI (↑n8))), (6, .int (jI 0))]) rfl ?_
      exact K38 _ 0 (by first | omega | assumption) (by first | (intro j hj; omega) | (intro j hj; rcases Nat.lt_or_ge j k with c | c; exact he j c; rw [show j = k by omega]; omega)) (Nat.lt_succ_self _)
    ·
      refine sw_iconst (n := 34) F (1) (by decide) dJ19_compareMagnitude_2_33 rfl ?_
      exact sw_iret F _ rfl (by first | rfl | exact jI_nz (by omega) | exact jI_nc (by omega)) dJ19_compareMagnitude_2_34 (by rw [hPo]; exact ⟨(by rw [cmpI_gt (by rw [← hv9, ← hv8]; exact wv_lenlt hw8.1 hw9 (by omega))]), rfl⟩)
  ·
    refine sw_iconst (n := 26) F (-1) (by decide) dJ19_compareMagnitude_2_25 rfl ?_
    exact sw_iret F _ rfl (by first | rfl | exact jI_nz (by omega) | exact jI_nc (by omega)) dJ19_compareMagnitude_2_26 (by rw [hPo]; exact ⟨(by rw [cmpI_lt (by rw [← hv9, ← hv8]; exact wv_lenlt hw9.1 hw8 (by omega))]), rfl⟩)
theorem nd_J19_compareTo : yJ19_compareTo.cls ≠ "java/lang/invoke/MethodHandle" ∧ yJ19_compareTo.cls ≠ "java/lang/invoke/VarHandle" ∧ (parseMethodDescriptor yJ19_compareTo.desc).map (fun d => d.parameters.length) = some 1 := by decide +kernel
set_option maxRecDepth 100000 in
set_option maxHeartbeats 16000000 in
theorem ct_J19_compareTo {g : GG} {l : Launch} (M : Nat → Option PV) (q : Nat) (v : Int) (a : Nat) (q2 : Nat) (w : Int) (b : Nat) (hx : at_ g M q (vI v a)) (hy : at_ g M q2 (vI w b)) (hb : v.natAbs < bw 6) (hb2 : w.natAbs < bw 6) : Ct g l yJ19_compareTo (ws_ yJ19_compareTo cJ19_compareTo 2 (Option.some Jvm.ClassFile.FieldType.int)) 2 40 0 0 [.ref q, .ref q2] [pl g M] (fun v9 Ws9 => v9 = some (.int (jI (ciI v w))) ∧ Ws9 = [pl g M]) (nox) := by
  refine Ct.of (cc := cJ19_compareTo) (nL := 2) (ret := (Option.some Jvm.ClassFile.FieldType.int)) (by decide) rfl (Nat.le_of_ble_eq_true rfl) ?_
  intro x hg hl hPo hPx hmc hms F
  subst hg; subst hl
  refine SW.cast (L' := [(0, .ref q), (1, .ref q2)]) ?_ rfl rfl rfl
  have hs9 := sgI_cases v
  have hs8 := sgI_cases w
  refine sw_aload_n (n := 1) F 0 (some q) rfl rfl rfl dJ19_compareTo_0 rfl ?_
  refine sw_getI (n := 4) F 0 rfl hx (k := 0) ⟨(RJ19, TJ19, 6), rfl, by decide, q1070, in_J19, Or.inl rfl⟩ (.int (jI (sgI v))) (fun _ _ _ _ => rfl) dJ19_compareTo_1 rfl ?_
  refine sw_aload_n (n := 5) F 1 (some q2) rfl rfl rfl dJ19_compareTo_4 rfl ?_
  refine sw_getI (n := 8) F 0 rfl hy (k := 0) ⟨(RJ19, TJ19, 6), rfl, by decide, q1070, in_J19, Or.inl rfl⟩ (.int (jI (sgI w))) (fun _ _ _ _ => rfl) dJ19_compareTo_5 rfl ?_
  refine sw_icmp_ne (n := 11) F (by omega) (by omega) (tgt := 58) dJ19_compareTo_8 (by decide) rfl (fun c_8 => ?_) (fun c_8 => ?_)
  ·
    refine sw_aload_n (n := 59) F 0 (some q) rfl rfl rfl dJ19_compareTo_58 rfl ?_
    refine sw_getI (n := 62) F 0 rfl hx (k := 0) ⟨(RJ19, TJ19, 6), rfl, by decide, q1070, in_J19, Or.inl rfl⟩ (.int (jI (sgI v))) (fun _ _ _ _ => rfl) dJ19_compareTo_59 rfl ?_
    refine sw_aload_n (n := 63) F 1 (some q2) rfl rfl rfl dJ19_compareTo_62 rfl ?_
    refine sw_getI (n := 66) F 0 rfl hy (k := 0) ⟨(RJ19, TJ19, 6), rfl, by decide, q1070, in_J19, Or.inl rfl⟩ (.int (jI (sgI w))) (fun _ _ _ _ => rfl) dJ19_compareTo_63 rfl ?_
    refine sw_icmp_le (n := 69) F (by omega) (by omega) (tgt := 73) dJ19_compareTo_66 (by decide) rfl (fun c_66 => ?_) (fun c_66 => ?_)
    ·
      refine sw_iconst (n := 74) F (-1) (by decide) dJ19_compareTo_73 rfl ?_
      exact sw_iret F _ rfl (by first | rfl | exact jI_nz (by omega) | exact jI_nc (by omega)) dJ19_compareTo_74 (by rw [hPo]; exact ⟨(by first | (rw [ci_g (by omega)]) | (rw [ci_l (by omega) (by omega)])), rfl⟩)
    ·
      refine sw_iconst (n := 70) F (1) (by decide) dJ19_compareTo_69 rfl ?_
      refine sw_goto F (n := 74) dJ19_compareTo_70 (by decide) ?_
      exact sw_iret F _ rfl (by first | rfl | exact jI_nz (by omega) | exact jI_nc (by omega)) dJ19_compareTo_74 (by rw [hPo]; exact ⟨(by first | (rw [ci_g (by omega)]) | (rw [ci_l (by omega) (by omega)])), rfl⟩)
  ·
    refine sw_aload_n (n := 12) F 0 (some q) rfl rfl rfl dJ19_compareTo_11 rfl ?_
    refine sw_getI (n := 15) F 0 rfl hx (k := 0) ⟨(RJ19, TJ19, 6), rfl, by decide, q1070, in_J19, Or.inl rfl⟩ (.int (jI (sgI v))) (fun _ _ _ _ => rfl) dJ19_compareTo_12 rfl ?_
    by_cases c_15_1 : sgI v = (-1)
    ·
      refine sw_lookup F (by omega) (tgt := 48) dJ19_compareTo_15 (by decide) (by rw [c_15_1]; decide) (off := 33) (by decide) ?_
      refine sw_aload_n (n := 49) F 1 (some q2) rfl rfl rfl dJ19_compareTo_48 rfl ?_
      refine sw_aload_n (n := 50) F 0 (some q) rfl rfl rfl dJ19_compareTo_49 rfl ?_
      refine sw_callV (n := 53) F (ct_J19_compareMagnitude_2 (g := xg x) (l := xl x) M q2 w b q v a hy hx hb2 hb) (rcvI F 0 rfl hy) q1449 q1450 q1451 q127 q1452 nd_J19_compareMagnitude_2 rfl (by decide) [0] rfl [] rfl 0 0 ⟨by omega, by omega⟩ [] rfl (Nat.le_of_ble_eq_true rfl) dJ19_compareTo_50 rfl (fun _ _ h => h.elim) (fun v Ws h => ?_)
      obtain ⟨rfl, rfl⟩ := h
      show SW x [pl (xg x) M] _ _ _ _ [.int (jI (cmpI w.natAbs v.natAbs))]
      refine sw_goto F (n := 57) dJ19_compareTo_53 (by decide) ?_
      exact sw_iret F _ rfl (by first | rfl | exact jI_nz (by omega) | exact jI_nc (by omega)) dJ19_compareTo_57 (by rw [hPo]; exact ⟨(by first | (rw [ci_p (by omega) (by omega)]) | (rw [ci_m (by omega) (by omega)]) | (rw [ci_0 (by omega) (by omega) (by omega)])), rfl⟩)
    ·
      by_cases c_15_1 : sgI v = 1
      ·
        refine sw_lookup F (by omega) (tgt := 40) dJ19_compareTo_15 (by decide) (by rw [c_15_1]; decide) (off := 25) (by decide) ?_
        refine sw_aload_n (n := 41) F 0 (some q) rfl rfl rfl dJ19_compareTo_40 rfl ?_
        refine sw_aload_n (n := 42) F 1 (some q2) rfl rfl rfl dJ19_compareTo_41 rfl ?_
        refine sw_callV (n := 45) F (ct_J19_compareMagnitude_2 (g := xg x) (l := xl x) M q v a q2 w b hx hy hb hb2) (rcvI F 0 rfl hx) q1449 q1450 q1451 q127 q1452 nd_J19_compareMagnitude_2 rfl (by decide) [0] rfl [] rfl 0 0 ⟨by omega, by omega⟩ [] rfl (Nat.le_of_ble_eq_true rfl) dJ19_compareTo_42 rfl (fun _ _ h => h.elim) (fun v Ws h => ?_)
        obtain ⟨rfl, rfl⟩ := h
        show SW x [pl (xg x) M] _ _ _ _ [.int (jI (cmpI v.natAbs w.natAbs))]
        refine sw_goto F (n := 57) dJ19_compareTo_45 (by decide) ?_
        exact sw_iret F _ rfl (by first | rfl | exact jI_nz (by omega) | exact jI_nc (by omega)) dJ19_compareTo_57 (by rw [hPo]; exact ⟨(by first | (rw [ci_p (by omega) (by omega)]) | (rw [ci_m (by omega) (by omega)]) | (rw [ci_0 (by omega) (by omega) (by omega)])), rfl⟩)
      ·
        refine sw_lookup F (by omega) (tgt := 56) dJ19_compareTo_15 (by decide) (off := 41) (by simp [Op.lookupswitch.offset]; (repeat' split) <;> omega) (by decide) ?_
        refine sw_iconst (n := 57) F (0) (by decide) dJ19_compareTo_56 rfl ?_
        exact sw_iret F _ rfl (by first | rfl | exact jI_nz (by omega) | exact jI_nc (by omega)) dJ19_compareTo_57 (by rw [hPo]; exact ⟨(by first | (rw [ci_p (by omega) (by omega)]) | (rw [ci_m (by omega) (by omega)]) | (rw [ci_0 (by omega) (by omega) (by omega)])), rfl⟩)
theorem nd_J19_signInt : yJ19_signInt.cls ≠ "java/lang/invoke/MethodHandle" ∧ yJ19_signInt.cls ≠ "java/lang/invoke/VarHandle" ∧ (parseMethodDescriptor yJ19_signInt.desc).map (fun d => d.parameters.length) = some 0 := by decide +kernel
set_option maxRecDepth 100000 in
set_option maxHeartbeats 16000000 in
theorem ct_J19_signInt {g : GG} {l : Launch} (M : Nat → Option PV) (q : Nat) (v : Int) (a : Nat) (hx : at_ g M q (vI v a)) : Ct g l yJ19_signInt (ws_ yJ19_signInt cJ19_signInt 1 (Option.some Jvm.ClassFile.FieldType.int)) 1 12 0 0 [.ref q] [pl g M] (fun v9 Ws9 => v9 = some (.int (jI (if v < 0 then -1 else 0))) ∧ Ws9 = [pl g M]) (nox) := by
  refine Ct.of (cc := cJ19_signInt) (nL := 1) (ret := (Option.some Jvm.ClassFile.FieldType.int)) (by decide) rfl (Nat.le_of_ble_eq_true rfl) ?_
  intro x hg hl hPo hPx hmc hms F
  subst hg; subst hl
  refine SW.cast (L' := [(0, .ref q)]) ?_ rfl rfl rfl
  have hs9 := sgI_cases v
  refine sw_aload_n (n := 1) F 0 (some q) rfl rfl rfl dJ19_signInt_0 rfl ?_
  refine sw_getI (n := 4) F 0 rfl hx (k := 0) ⟨(RJ19, TJ19, 6), rfl, by decide, q1070, in_J19, Or.inl rfl⟩ (.int (jI (sgI v))) (fun _ _ _ _ => rfl) dJ19_signInt_1 rfl ?_
  refine sw_if_ge (n := 7) F (by omega) (tgt := 11) dJ19_signInt_4 (by decide) rfl (fun c_4 => ?_) (fun c_4 => ?_)
  ·
    refine sw_iconst (n := 12) F (0) (by decide) dJ19_signInt_11 rfl ?_
    exact sw_iret F _ rfl (by first | rfl | exact jI_nz (by omega) | exact jI_nc (by omega)) dJ19_signInt_12 (by rw [hPo]; exact ⟨(by first | (rw [if_pos (by omega)]) | (rw [if_neg (by omega)])), rfl⟩)
  ·
    refine sw_iconst (n := 8) F (-1) (by decide) dJ19_signInt_7 rfl ?_
    refine sw_goto F (n := 12) dJ19_signInt_8 (by decide) ?_
    exact sw_iret F _ rfl (by first | rfl | exact jI_nz (by omega) | exact jI_nc (by omega)) dJ19_signInt_12 (by rw [hPo]; exact ⟨(by first | (rw [if_pos (by omega)]) | (rw [if_neg (by omega)])), rfl⟩)
theorem nd_J19_firstNonzeroIntNum : yJ19_firstNonzeroIntNum.cls ≠ "java/lang/invoke/MethodHandle" ∧ yJ19_firstNonzeroIntNum.cls ≠ "java/lang/invoke/VarHandle" ∧ (parseMethodDescriptor yJ19_firstNonzeroIntNum.desc).map (fun d => d.parameters.length) = some 0 := by decide +kernel
set_option maxRecDepth 100000 in
set_option maxHeartbeats 16000000 in
theorem ct_J19_firstNonzeroIntNum {g : GG} {l : Launch} (M : Nat → Option PV) (q : Nat) (v : Int) (a : Nat) (hx : at_ g M q (vI v a)) (hv0 : v ≠ 0) (hb : v.natAbs < bw 6) : Ct g l yJ19_firstNonzeroIntNum (ws_ yJ19_firstNonzeroIntNum cJ19_firstNonzeroIntNum 4 (Option.some Jvm.ClassFile.FieldType.int)) 1 12 0 0 [.ref q] [pl g M] (fun v9 Ws9 => v9 = some (.int (jI (↑(fac 4294967296 v.natAbs)))) ∧ Ws9 = [pl g M]) (nox) := by
  refine Ct.of (cc := cJ19_firstNonzeroIntNum) (nL := 4) (ret := (Option.some Jvm.ClassFile.FieldType.int)) (by decide) rfl (Nat.le_of_ble_eq_true rfl) ?_
  intro x hg hl hPo hPx hmc hms F
  subst hg; subst hl
  refine SW.cast (L' := [(0, .ref q)]) ?_ rfl rfl rfl
  refine sw_factI 0 rfl hx (fun n9 f9 ha9 hw9 hv9 => ?_)
  have hn9 : n9 ≤ 6 := wOK_len hw9 (by rw [hv9]; exact hb)
  have hfl9 : fac 4294967296 v.natAbs < 6 := fac_lt (by decide) (by omega) hb
  refine sw_aload_n (n := 1) F 0 (some q) rfl rfl rfl dJ19_firstNonzeroIntNum_0 rfl ?_
  refine sw_getI5 (n := 4) F 0 rfl hx ⟨(RJ19, TJ19, 6), rfl, by decide, q1077, in_J19, Or.inl rfl⟩ dJ19_firstNonzeroIntNum_1 rfl (fun p_1 hp_2 => ?_)
  refine sw_iconst (n := 5) F (2) (by decide) dJ19_firstNonzeroIntNum_4 rfl ?_
  refine sw_isub (n := 6) F dJ19_firstNonzeroIntNum_5 rfl ?_
  refine sw_istore_n (n := 7) F (L2 := [(1, .int (jI (p_1 - 2))), (0, .ref q)]) rfl (by decide) rfl dJ19_firstNonzeroIntNum_6 rfl ?_
  refine sw_iload_n (n := 8) F 0 rfl rfl dJ19_firstNonzeroIntNum_7 rfl ?_
  refine sw_bipush (n := 10) F (-2) (by decide) dJ19_firstNonzeroIntNum_8 rfl ?_
  refine sw_icmp_ne (n := 13) F (by omega) (by decide) (tgt := 55) dJ19_firstNonzeroIntNum_10 (by decide) rfl (fun c_10 => ?_) (fun c_10 => ?_)
  ·
    refine sw_iload_n (n := 56) F 0 rfl rfl dJ19_firstNonzeroIntNum_55 rfl ?_
    exact sw_iret F _ rfl (by first | rfl | exact jI_nz (by omega) | exact jI_nc (by omega)) dJ19_firstNonzeroIntNum_56 (by rw [hPo]; exact ⟨(by first | (rw [hfac]; congr 3; omega) | (congr 3; omega) | (congr 2; omega)), rfl⟩)
  ·
    refine sw_aload_n (n := 14) F 1 (some q) rfl rfl rfl dJ19_firstNonzeroIntNum_13 rfl ?_
    refine sw_getI (n := 17) F 0 rfl hx (k := 1) ⟨(RJ19, TJ19, 6), rfl, by decide, q1072, in_J19, Or.inl rfl⟩ (.ref a) (fun _ _ _ _ => rfl) dJ19_firstNonzeroIntNum_14 rfl ?_
    refine sw_alenK (n := 18) F (plA F 0 rfl ha9) dJ19_firstNonzeroIntNum_17 rfl ?_
    show SW x _ _ _ _ _ [.int (jI (↑n9))]
    refine sw_istore_n (n := 19) F (L2 := [(3, .int (jI (↑n9))), (1, .int (jI (p_1 - 2))), (0, .ref q)]) rfl (by decide) rfl dJ19_firstNonzeroIntNum_18 rfl ?_
    refine sw_iload_n (n := 20) F 0 rfl rfl dJ19_firstNonzeroIntNum_19 rfl ?_
    refine sw_iconst (n := 21) F (1) (by decide) dJ19_firstNonzeroIntNum_20 rfl ?_
    refine sw_isub (n := 22) F dJ19_firstNonzeroIntNum_21 rfl ?_
    refine sw_istore_n (n := 23) F (L2 := [(2, .int (jI ((↑n9) - 1))), (3, .int (jI (↑n9))), (1, .int (jI (p_1 - 2))), (0, .ref q)]) rfl (by decide) rfl dJ19_firstNonzeroIntNum_22 rfl ?_
    have K23 : ∀ N23 : Nat, ∀ (m : Nat), (m ≤ n9) → (∀ j, n9 - m ≤ j → j < n9 → f9 j = 0) → ((n9 - m) < N23) → SW x [pl (xg x) M] 0 0 23 [(0, .ref q), (3, .int (jI (↑n9))), (2, .int (jI (↑n9 - 1 - ↑m)))] [] := by
      intro N23; induction N23 with
      | zero => intro m hm hz hmu23; omega
      | succ N23 ih23 =>
        intro m hm hz hmu23
        refine sw_iload_n (n := 24) F 2 rfl rfl dJ19_firstNonzeroIntNum_23 rfl ?_
        refine sw_if_lt (n := 27) F (by omega) (tgt := 42) dJ19_firstNonzeroIntNum_24 (by decide) rfl (fun c_24 => ?_) (fun c_24 => ?_)
        · exfalso; exact absurd (wv_zero f9 n9 (fun j hj => hz j (by omega) hj)) (by omega)
        ·
          refine sw_aload_n (n := 28) F 0 (some q) rfl rfl rfl dJ19_firstNonzeroIntNum_27 rfl ?_
          refine sw_getI (n := 31) F 0 rfl hx (k := 1) ⟨(RJ19, TJ19, 6), rfl, by decide, q1072, in_J19, Or.inl rfl⟩ (.ref a) (fun _ _ _ _ => rfl) dJ19_firstNonzeroIntNum_28 rfl ?_
          refine sw_iload_n (n := 32) F 2 rfl rfl dJ19_firstNonzeroIntNum_31 rfl ?_
          refine sw_ialoadK (n := 33) F (plA F 0 rfl ha9) (n9 - 1 - m) (by omega) (by omega) dJ19_firstNonzeroIntNum_32 rfl ?_
          show SW x _ _ _ _ _ [.int (jI (↑(f9 (n9 - 1 - m))))]
          have hb_x : f9 (n9 - 1 - m) < 4294967296 := hw9.1 _ (by omega)
          refine sw_if_neU (n := 36) F (by omega) (tgt := 42) dJ19_firstNonzeroIntNum_33 (by decide) rfl (fun c_33 => ?_) (fun c_33 => ?_)
          ·
            have hfac : fac 4294967296 v.natAbs = m := by rw [← hv9]; exact fac_wv m n9 (by omega) hw9.1 hz (by omega) (by omega)
            refine sw_iload_n (n := 43) F 1 rfl rfl dJ19_firstNonzeroIntNum_42 rfl ?_
            refine sw_iload_n (n := 44) F 2 rfl rfl dJ19_firstNonzeroIntNum_43 rfl ?_
            refine sw_isub (n := 45) F dJ19_firstNonzeroIntNum_44 rfl ?_
            refine sw_iconst (n := 46) F (1) (by decide) dJ19_firstNonzeroIntNum_45 rfl ?_
            refine sw_isub (n := 47) F dJ19_firstNonzeroIntNum_46 rfl ?_
            refine sw_istore_n (n := 48) F (L2 := [(1, .int (jI (((↑n9) - (↑n9 - 1 - ↑m)) - 1))), (0, .ref q), (3, .int (jI (↑n9))), (2, .int (jI (↑n9 - 1 - ↑m)))]) rfl (by decide) rfl dJ19_firstNonzeroIntNum_47 rfl ?_
            refine sw_takeI (by omega) hx (fun c1 c2 c3 c4 h4_c => ?_)
            show SW x [ob (xg x) q 16 [.int (jI (sgI v)), .ref a, .int (jI c1), .int (jI c2), .int (jI c3), .int (jI c4)], plH (xg x) M q] _ _ _ _ []
            refine sw_aload_n (n := 49) F 1 (some q) rfl rfl rfl dJ19_firstNonzeroIntNum_48 rfl ?_
            refine sw_iload_n (n := 50) F 0 rfl rfl dJ19_firstNonzeroIntNum_49 rfl ?_
            refine sw_iconst (n := 51) F (2) (by decide) dJ19_firstNonzeroIntNum_50 rfl ?_
            refine sw_iadd (n := 52) F dJ19_firstNonzeroIntNum_51 rfl ?_
            refine sw_put (n := 55) F 0 rfl (k := 5) ⟨(RJ19, TJ19, 6), rfl, by decide, q1077, in_J19, Or.inl rfl⟩ .int ⟨(RJ19, TJ19, 6), rfl, rfl, tyJ19_ok 5 (by decide), nmJ19, tyJ19, tyJ19_ok⟩ rfl rfl (Nat.le_of_ble_eq_true rfl) rfl [ob (xg x) q 16 [.int (jI (sgI v)), .ref a, .int (jI c1), .int (jI c2), .int (jI c3), .int (jI ((((↑n9) - (↑n9 - 1 - ↑m)) - 1) + 2))], plH (xg x) M q] rfl dJ19_firstNonzeroIntNum_52 rfl ?_
            refine SW.cast (Ps' := ob (xg x) q 16 (flI v a c1 c2 c3 ((((↑n9) - (↑n9 - 1 - ↑m)) - 1) + 2)) :: [plH (xg x) M q]) ?_ (by rfl) rfl rfl
            refine sw_backI (by omega) hx (Or.inl (by rw [hfac]; omega)) ha9 hw9 hv9 ?_
            show SW x [pl (xg x) M] _ _ _ _ []
            refine sw_iload_n (n := 56) F 0 rfl rfl dJ19_firstNonzeroIntNum_55 rfl ?_
            exact sw_iret F _ rfl (by first | rfl | exact jI_nz (by omega) | exact jI_nc (by omega)) dJ19_firstNonzeroIntNum_56 (by rw [hPo]; exact ⟨(by first | (rw [hfac]; congr 3; omega) | (congr 3; omega) | (congr 2; omega)), rfl⟩)
          ·
            refine sw_iinc (n := 39) F 2 (L2 := [(2, .int (jI (↑n9 - 1 - ↑m + (-1)))), (0, .ref q), (3, .int (jI (↑n9)))]) rfl rfl (by decide) dJ19_firstNonzeroIntNum_36 rfl ?_
            refine sw_goto F (n := 23) dJ19_firstNonzeroIntNum_39 (by decide) ?_
            refine sw_loc [1, 2, 0] (L2 := [(0, .ref q), (3, .int (jI (↑n9))), (2, .int (jI (↑n9 - 1 - ↑m + (-1))))]) rfl ?_
            rw [show (↑n9 - 1 - ↑m + (-1) : Int) = ↑n9 - 1 - ↑(m + 1) by omega]
            exact ih23 (m + 1) (by first | omega | assumption) (by first | (intro j h1 h2; omega) | (intro j h1 h2; rcases Nat.lt_or_ge j (n9 - m) with c | c; rw [show j = n9 - 1 - m by omega]; omega; exact hz j c h2)) (by omega)
    refine sw_loc [3, 1, 0] (L2 := [(0, .ref q), (3, .int (jI (↑n9))), (2, .int (jI ((↑n9) - 1)))]) rfl ?_
    rw [show ((↑n9) - 1 : Int) = ↑n9 - 1 - 0 by omega]
    exact K23 _ 0 (by first | omega | assumption) (by first | (intro j h1 h2; omega) | (intro j h1 h2; rcases Nat.lt_or_ge j (n9 - m) with c | c; rw [show j = n9 - 1 - m by omega]; omega; exact hz j c h2)) (Nat.lt_succ_self _)
theorem nd_J19_getInt : yJ19_getInt.cls ≠ "java/lang/invoke/MethodHandle" ∧ yJ19_getInt.cls ≠ "java/lang/invoke/VarHandle" ∧ (parseMethodDescriptor yJ19_getInt.desc).map (fun d => d.parameters.length) = some 1 := by decide +kernel
set_option maxRecDepth 100000 in
set_option maxHeartbeats 16000000 in
theorem ct_J19_getInt {g : GG} {l : Launch} (M : Nat → Option PV) (q : Nat) (v : Int) (a : Nat) (k : Nat) (hx : at_ g M q (vI v a)) (hk : k ≤ 1) (hb : v.natAbs < bw 2) (hb6 : v.natAbs < bw 6) : Ct g l yJ19_getInt (ws_ yJ19_getInt cJ19_getInt 3 (Option.some Jvm.ClassFile.FieldType.int)) 2 35 0 0 [.ref q, .int (jI (↑k))] [pl g M] (fun v9 Ws9 => v9 = some (.int (jI (gtI v ↑k))) ∧ Ws9 = [pl g M]) (nox) := by
  refine Ct.of (cc := cJ19_getInt) (nL := 3) (ret := (Option.some Jvm.ClassFile.FieldType.int)) (by decide) rfl (Nat.le_of_ble_eq_true rfl) ?_
  intro x hg hl hPo hPx hmc hms F
  subst hg; subst hl
  refine SW.cast (L' := [(0, .ref q), (1, .int (jI (↑k)))]) ?_ rfl rfl rfl
  refine sw_factI 0 rfl hx (fun n9 f9 ha9 hw9 hv9 => ?_)
  have hn9 : n9 ≤ 2 := wOK_len hw9 (by rw [hv9]; exact hb)
  have hb9 : wv f9 n9 < bw 2 := by rw [hv9]; exact hb
  refine sw_iload_n (n := 1) F 1 rfl rfl dJ19_getInt_0 rfl ?_
  refine sw_if_ge (n := 4) F (by omega) (tgt := 6) dJ19_getInt_1 (by decide) rfl (fun c_1 => ?_) (fun c_1 => ?_)
  ·
    refine sw_iload_n (n := 7) F 1 rfl rfl dJ19_getInt_6 rfl ?_
    refine sw_aload_n (n := 8) F 0 (some q) rfl rfl rfl dJ19_getInt_7 rfl ?_
    refine sw_getI (n := 11) F 0 rfl hx (k := 1) ⟨(RJ19, TJ19, 6), rfl, by decide, q1072, in_J19, Or.inl rfl⟩ (.ref a) (fun _ _ _ _ => rfl) dJ19_getInt_8 rfl ?_
    refine sw_alenK (n := 12) F (plA F 0 rfl ha9) dJ19_getInt_11 rfl ?_
    show SW x _ _ _ _ _ [.int (jI (↑n9)), .int (jI (↑k))]
    refine sw_icmp_lt (n := 15) F (by omega) (by omega) (tgt := 20) dJ19_getInt_12 (by decide) rfl (fun c_12 => ?_) (fun c_12 => ?_)
    ·
      have hgi := gt_in (k := k) hw9 hb9 hv9 (by omega) hk
      have hsg := sgI_cases v
      refine sw_aload_n (n := 21) F 0 (some q) rfl rfl rfl dJ19_getInt_20 rfl ?_
      refine sw_getI (n := 24) F 0 rfl hx (k := 1) ⟨(RJ19, TJ19, 6), rfl, by decide, q1072, in_J19, Or.inl rfl⟩ (.ref a) (fun _ _ _ _ => rfl) dJ19_getInt_21 rfl ?_
      refine sw_aload_n (n := 25) F 0 (some q) rfl rfl rfl dJ19_getInt_24 rfl ?_
      refine sw_getI (n := 28) F 0 rfl hx (k := 1) ⟨(RJ19, TJ19, 6), rfl, by decide, q1072, in_J19, Or.inl rfl⟩ (.ref a) (fun _ _ _ _ => rfl) dJ19_getInt_25 rfl ?_
      refine sw_alenK (n := 29) F (plA F 0 rfl ha9) dJ19_getInt_28 rfl ?_
      show SW x _ _ _ _ _ [.int (jI (↑n9)), .ref a]
      refine sw_iload_n (n := 30) F 1 rfl rfl dJ19_getInt_29 rfl ?_
      refine sw_isub (n := 31) F dJ19_getInt_30 rfl ?_
      refine sw_iconst (n := 32) F (1) (by decide) dJ19_getInt_31 rfl ?_
      refine sw_isub (n := 33) F dJ19_getInt_32 rfl ?_
      refine sw_ialoadK (n := 34) F (plA F 0 rfl ha9) (((n9) - (k)) - 1) (by omega) (by omega) dJ19_getInt_33 rfl ?_
      show SW x _ _ _ _ _ [.int (jI (↑(f9 (((n9) - (k)) - 1))))]
      refine sw_istore_n (n := 35) F (L2 := [(2, .int (jI (↑(f9 (((n9) - (k)) - 1))))), (0, .ref q), (1, .int (jI (↑k)))]) rfl (by decide) rfl dJ19_getInt_34 rfl ?_
      refine sw_aload_n (n := 36) F 1 (some q) rfl rfl rfl dJ19_getInt_35 rfl ?_
      refine sw_getI (n := 39) F 0 rfl hx (k := 0) ⟨(RJ19, TJ19, 6), rfl, by decide, q1070, in_J19, Or.inl rfl⟩ (.int (jI (sgI v))) (fun _ _ _ _ => rfl) dJ19_getInt_36 rfl ?_
      refine sw_if_lt (n := 42) F (by omega) (tgt := 46) dJ19_getInt_39 (by decide) rfl (fun c_39 => ?_) (fun c_39 => ?_)
      ·
        refine sw_iload_n (n := 47) F 2 rfl rfl dJ19_getInt_46 rfl ?_
        refine sw_aload_n (n := 48) F 1 (some q) rfl rfl rfl dJ19_getInt_47 rfl ?_
        refine sw_callV (n := 51) F (ct_J19_firstNonzeroIntNum (g := xg x) (l := xl x) M q v a hx (by omega) hb6) (rcvI F 0 rfl hx) q1242 q1244 qs4 q127 q1245 nd_J19_firstNonzeroIntNum rfl (by decide) [0] rfl [] rfl 0 0 ⟨by omega, by omega⟩ [.int (jI (↑k))] rfl (Nat.le_of_ble_eq_true rfl) dJ19_getInt_48 rfl (fun _ _ h => h.elim) (fun v Ws h => ?_)
        obtain ⟨rfl, rfl⟩ := h
        show SW x [pl (xg x) M] _ _ _ _ [.int (jI (↑(fac 4294967296 v.natAbs))), .int (jI (↑k))]
        have hfl9 : fac 4294967296 v.natAbs < 6 := fac_lt (by decide) (by omega) hb6
        refine sw_icmp_gt (n := 54) F (by omega) (by omega) (tgt := 59) dJ19_getInt_51 (by decide) rfl (fun c_51 => ?_) (fun c_51 => ?_)
        ·
          refine sw_iload_n (n := 60) F 0 rfl rfl dJ19_getInt_59 rfl ?_
          refine sw_iconst (n := 61) F (-1) (by decide) dJ19_getInt_60 rfl ?_
          refine sw_ixor (n := 62) F (jI (-↑(f9 (((n9) - (k)) - 1)) - 1)) (jI_not _) dJ19_getInt_61 rfl ?_
          exact sw_iret F _ rfl (by first | rfl | exact jI_nz (by omega) | exact jI_nc (by omega)) dJ19_getInt_62 (by rw [hPo]; exact ⟨(by first | (rw [jI_mod (hgi.1 c_39)]) | (rw [jI_mod (hgi.2.1 c_39 c_51)]) | (rw [jI_mod (hgi.2.2 c_39 c_51)])), rfl⟩)
        ·
          refine sw_iload_n (n := 55) F 0 rfl rfl dJ19_getInt_54 rfl ?_
          refine sw_ineg (n := 56) F dJ19_getInt_55 rfl ?_
          refine sw_goto F (n := 62) dJ19_getInt_56 (by decide) ?_
          exact sw_iret F _ rfl (by first | rfl | exact jI_nz (by omega) | exact jI_nc (by omega)) dJ19_getInt_62 (by rw [hPo]; exact ⟨(by first | (rw [jI_mod (hgi.1 c_39)]) | (rw [jI_mod (hgi.2.1 c_39 c_51)]) | (rw [jI_mod (hgi.2.2 c_39 c_51)])), rfl⟩)
      ·
        refine sw_iload_n (n := 43) F 0 rfl rfl dJ19_getInt_42 rfl ?_
        refine sw_goto F (n := 62) dJ19_getInt_43 (by decide) ?_
        exact sw_iret F _ rfl (by first | rfl | exact jI_nz (by omega) | exact jI_nc (by omega)) dJ19_getInt_62 (by rw [hPo]; exact ⟨(by first | (rw [jI_mod (hgi.1 c_39)]) | (rw [jI_mod (hgi.2.1 c_39 c_51)]) | (rw [jI_mod (hgi.2.2 c_39 c_51)])), rfl⟩)
    ·
      refine sw_aload_n (n := 16) F 0 (some q) rfl rfl rfl dJ19_getInt_15 rfl ?_
      refine sw_callV (n := 19) F (ct_J19_signInt (g := xg x) (l := xl x) M q v a hx) (rcvI F 0 rfl hx) q1238 q1240 qs3 q127 q1241 nd_J19_signInt rfl (by decide) [0] rfl [] rfl 0 0 ⟨by omega, by omega⟩ [] rfl (Nat.le_of_ble_eq_true rfl) dJ19_getInt_16 rfl (fun _ _ h => h.elim) (fun v Ws h => ?_)
      obtain ⟨rfl, rfl⟩ := h
      show SW x [pl (xg x) M] _ _ _ _ [.int (jI (if v < 0 then -1 else 0))]
      exact sw_iret F _ rfl (by first | rfl | exact jI_nz (by omega) | exact jI_nc (by omega)) dJ19_getInt_19 (by rw [hPo]; exact ⟨(by rw [gt_out hw9 hb9 hv9 (by omega) hk]), rfl⟩)
  · exfalso; omega
theorem nd_J19_longValue : yJ19_longValue.cls ≠ "java/lang/invoke/MethodHandle" ∧ yJ19_longValue.cls ≠ "java/lang/invoke/VarHandle" ∧ (parseMethodDescriptor yJ19_longValue.desc).map (fun d => d.parameters.length) = some 0 := by decide +kernel
set_option maxRecDepth 100000 in
set_option maxHeartbeats 16000000 in
theorem ct_J19_longValue {g : GG} {l : Launch} (M : Nat → Option PV) (q : Nat) (v : Int) (a : Nat) (hx : at_ g M q (vI v a)) (hf : fit v) : Ct g l yJ19_longValue (ws_ yJ19_longValue cJ19_longValue 4 (Option.some Jvm.ClassFile.FieldType.long)) 3 57 0 0 [.ref q] [pl g M] (fun v9 Ws9 => v9 = some (.long (jL v)) ∧ Ws9 = [pl g M]) (nox) := by
  refine Ct.of (cc := cJ19_longValue) (nL := 4) (ret := (Option.some Jvm.ClassFile.FieldType.long)) (by decide) rfl (Nat.le_of_ble_eq_true rfl) ?_
  intro x hg hl hPo hPx hmc hms F
  subst hg; subst hl
  refine SW.cast (L' := [(0, .ref q)]) ?_ rfl rfl rfl
  have hr9 := hf
  unfold fit at hr9
  have hb2 : v.natAbs < bw 2 := by rw [bw_2]; omega
  have hb6 : v.natAbs < bw 6 := Nat.lt_of_lt_of_le hb2 (bw_mono (by decide))
  refine sw_lconst (n := 1) F 0 (by decide) dJ19_longValue_0 rfl ?_
  refine sw_lstore_n (n := 2) F (L2 := [(1, .long (jL 0)), (0, .ref q)]) rfl (by decide) rfl dJ19_longValue_1 rfl ?_
  refine sw_iconst (n := 3) F (1) (by decide) dJ19_longValue_2 rfl ?_
  refine sw_istore_n (n := 4) F (L2 := [(3, .int (jI 1)), (1, .long (jL 0)), (0, .ref q)]) rfl (by decide) rfl dJ19_longValue_3 rfl ?_
  have K4 : ∀ N4 : Nat, ∀ (k : Nat) (t : Int), (k ≤ 2) → ((k = 2 ∧ t = 0) ∨ (k = 1 ∧ t = v / 4294967296 % 4294967296) ∨ (k = 0 ∧ t = v % 18446744073709551616)) → ((k) < N4) → SW x [pl (xg x) M] 0 0 4 [(0, .ref q), (1, .long (jL t)), (3, .int (jI (↑k - 1)))] [] := by
    intro N4; induction N4 with
    | zero => intro k t hk ht hmu4; omega
    | succ N4 ih4 =>
      intro k t hk ht hmu4
      refine sw_iload_n (n := 5) F 2 rfl rfl dJ19_longValue_4 rfl ?_
      refine sw_if_lt (n := 8) F (by omega) (tgt := 30) dJ19_longValue_5 (by decide) rfl (fun c_5 => ?_) (fun c_5 => ?_)
      ·
        refine sw_lload_n (n := 31) F 1 rfl rfl dJ19_longValue_30 rfl ?_
        exact sw_lret F rfl dJ19_longValue_31 (by rw [hPo]; exact ⟨(by rw [show (t : Int) = v % 18446744073709551616 by omega]; exact congrArg (fun z => some (Value.long z)) (jL_mod (by omega))), rfl⟩)
      ·
        refine sw_lload_n (n := 9) F 1 rfl rfl dJ19_longValue_8 rfl ?_
        refine sw_bipush (n := 11) F (32) (by decide) dJ19_longValue_9 rfl ?_
        refine sw_lshl (n := 12) F (jL (t * 4294967296)) (by have h7s := jL_shlQ t (c := 32) (P := 4294967296) (k := 32) (by decide) (by decide) (by decide); exact h7s) dJ19_longValue_11 rfl ?_
        refine sw_aload_n (n := 13) F 0 (some q) rfl rfl rfl dJ19_longValue_12 rfl ?_
        refine sw_iload_n (n := 14) F 2 rfl rfl dJ19_longValue_13 rfl ?_
        rw [show (↑k - 1 : Int) = ↑(k - 1) by omega]
        refine sw_callV (n := 17) F (ct_J19_getInt (g := xg x) (l := xl x) M q v a (k - 1) hx (by omega) hb2 hb6) (rcvI F 0 rfl hx) q1234 q1236 qs2 q127 q1237 nd_J19_getInt rfl (by decide) [0] rfl [] rfl 0 0 ⟨by omega, by omega⟩ [.long (jL (t * 4294967296))] rfl (Nat.le_of_ble_eq_true rfl) dJ19_longValue_14 rfl (fun _ _ h => h.elim) (fun v Ws h => ?_)
        obtain ⟨rfl, rfl⟩ := h
        show SW x [pl (xg x) M] _ _ _ _ [.int (jI (gtI v ↑(k - 1))), .long (jL (t * 4294967296))]
        refine sw_i2lr (n := 18) F dJ19_longValue_17 rfl ?_
        refine sw_ldc2 (n := 21) F (4294967295) q1106 (by decide) dJ19_longValue_18 rfl ?_
        refine sw_land (n := 22) F (jL ((gtI v ↑(k - 1)) % 4294967296)) (jI_wordE (by rfl)) dJ19_longValue_21 rfl ?_
        refine sw_ladd (n := 23) F dJ19_longValue_22 rfl ?_
        refine sw_lstore_n (n := 24) F (L2 := [(1, .long (jL ((t * 4294967296) + ((gtI v ↑(k - 1)) % 4294967296)))), (0, .ref q), (3, .int (jI (↑(k - 1))))]) rfl (by decide) rfl dJ19_longValue_23 rfl ?_
        refine sw_iinc (n := 27) F 2 (L2 := [(3, .int (jI (↑(k - 1) + (-1)))), (1, .long (jL ((t * 4294967296) + ((gtI v ↑(k - 1)) % 4294967296)))), (0, .ref q)]) rfl rfl (by decide) dJ19_longValue_24 rfl ?_
        refine sw_goto F (n := 4) dJ19_longValue_27 (by decide) ?_
        refine sw_loc [2, 1, 0] (L2 := [(0, .ref q), (1, .long (jL ((t * 4294967296) + ((gtI v ↑(k - 1)) % 4294967296)))), (3, .int (jI (↑(k - 1) + (-1))))]) rfl ?_
        rw [show (↑(k - 1) + (-1) : Int) = ↑(k - 1) - 1 by omega]
        exact ih4 (k - 1) ((t * 4294967296) + ((gtI v ↑(k - 1)) % 4294967296)) (by omega) (by first | (left; exact ⟨rfl, rfl⟩) | (rcases ht with ⟨e, e2⟩ | ⟨e, e2⟩ | ⟨e, e2⟩ <;> subst e <;> simp [gtI] at * <;> omega)) (by omega)
  refine sw_loc [2, 1, 0] (L2 := [(0, .ref q), (1, .long (jL 0)), (3, .int (jI 1))]) rfl ?_
  rw [show (1 : Int) = ↑((1 + 1 : Int).toNat) - 1 by omega]
  exact K4 _ ((1 + 1 : Int).toNat) 0 (by omega) (by first | (left; exact ⟨rfl, rfl⟩) | (rcases ht with ⟨e, e2⟩ | ⟨e, e2⟩ | ⟨e, e2⟩ <;> subst e <;> simp [gtI] at * <;> omega)) (Nat.lt_succ_self _)
theorem nd_J23_checkLength : yJ23_checkLength.cls ≠ "java/lang/invoke/MethodHandle" ∧ yJ23_checkLength.cls ≠ "java/lang/invoke/VarHandle" ∧ (parseMethodDescriptor yJ23_checkLength.desc).map (fun d => d.parameters.length) = some 2 := by decide +kernel
set_option maxRecDepth 100000 in
set_option maxHeartbeats 16000000 in
theorem ct_J23_checkLength {g : GG} {l : Launch} (s : Int) (e : Int) (hs : -2147483648 ≤ s ∧ s ≤ 2147483647) (he : -2147483648 ≤ e ∧ e ≤ 2147483647) (hse : s ≤ e) : Ct g l yJ23_checkLength (ws_ yJ23_checkLength cJ23_checkLength 2 (Option.none : Option Jvm.ClassFile.FieldType)) 1 12 0 0 [.int (jI s), .int (jI e)] [] (fun v9 Ws9 => v9 = none ∧ Ws9 = []) (nox) := by
  refine Ct.of (cc := cJ23_checkLength) (nL := 2) (ret := (Option.none : Option Jvm.ClassFile.FieldType)) (by decide) rfl (Nat.le_of_ble_eq_true rfl) ?_
  intro x hg hl hPo hPx hmc hms F
  subst hg; subst hl
  refine SW.cast (L' := [(0, .int (jI s)), (1, .int (jI e))]) ?_ rfl rfl rfl
  refine sw_iload_n (n := 1) F 1 rfl rfl dJ23_checkLength_0 rfl ?_
  refine sw_iload_n (n := 2) F 0 rfl rfl dJ23_checkLength_1 rfl ?_
  refine sw_icmp_ge (n := 5) F (by omega) (by omega) (tgt := 37) dJ23_checkLength_2 (by decide) rfl (fun c_2 => ?_) (fun c_2 => ?_)
  ·
    exact sw_vret F rfl dJ23_checkLength_37 (by rw [hPo]; exact ⟨rfl, rfl⟩)
  · exfalso; omega
theorem nd_J23_copyOfRangeInt : yJ23_copyOfRangeInt.cls ≠ "java/lang/invoke/MethodHandle" ∧ yJ23_copyOfRangeInt.cls ≠ "java/lang/invoke/VarHandle" ∧ (parseMethodDescriptor yJ23_copyOfRangeInt.desc).map (fun d => d.parameters.length) = some 3 := by decide +kernel
set_option maxRecDepth 100000 in
set_option maxHeartbeats 16000000 in
theorem ct_J23_copyOfRangeInt {g : GG} {l : Launch} (a : Nat) (n : Nat) (f : Nat → Nat) (s : Nat) (e : Nat) (hse : s ≤ e ∧ e ≤ n ∧ n ≤ 8) : Ct g l yJ23_copyOfRangeInt (ws_ yJ23_copyOfRangeInt cJ23_copyOfRangeInt 5 (Option.some (Jvm.ClassFile.FieldType.array Jvm.ClassFile.FieldType.int))) 2 33 1 8 [.ref a, .int (jI (↑s)), .int (jI (↑e))] [aN g 0 a n f] (fun v9 Ws9 => ∃ r1 : Nat, ∃ f1 : Nat → Nat, v9 = some (.ref r1) ∧ (∀ j, j < e - s → f1 j = f (s + j)) ∧ Ws9 = [aN g 0 r1 (e - s) f1, aN g 0 a n f]) (nox) := by
  refine Ct.of (cc := cJ23_copyOfRangeInt) (nL := 5) (ret := (Option.some (Jvm.ClassFile.FieldType.array Jvm.ClassFile.FieldType.int))) (by decide) rfl (Nat.le_of_ble_eq_true rfl) ?_
  intro x hg hl hPo hPx hmc hms F
  subst hg; subst hl
  refine SW.cast (L' := [(0, .ref a), (1, .int (jI (↑s))), (2, .int (jI (↑e)))]) ?_ rfl rfl rfl
  refine sw_iload_n (n := 1) F 1 rfl rfl dJ23_copyOfRangeInt_0 rfl ?_
  refine sw_iload_n (n := 2) F 2 rfl rfl dJ23_copyOfRangeInt_1 rfl ?_
  refine sw_callS (n := 5) F (ct_J23_checkLength (g := xg x) (l := xl x) (↑s) (↑e) (by first | omega | assumption) (by first | omega | assumption) (by first | omega | assumption)) q645 q646 q131 q647 nd_J23_checkLength rfl (by decide) [0] rfl [aN (xg x) 0 a n f] rfl 1 8 ⟨by omega, by omega⟩ [] rfl (Nat.le_of_ble_eq_true rfl) dJ23_copyOfRangeInt_2 rfl (fun _ _ h => h.elim) (fun v Ws h => ?_)
  obtain ⟨rfl, rfl⟩ := h
  show SW x [aN (xg x) 0 a n f] _ _ _ _ []
  refine sw_iload_n (n := 6) F 2 rfl rfl dJ23_copyOfRangeInt_5 rfl ?_
  refine sw_iload_n (n := 7) F 1 rfl rfl dJ23_copyOfRangeInt_6 rfl ?_
  refine sw_isub (n := 8) F dJ23_copyOfRangeInt_7 rfl ?_
  refine sw_istore_n (n := 9) F (L2 := [(3, .int (jI ((↑e) - (↑s)))), (0, .ref a), (1, .int (jI (↑s))), (2, .int (jI (↑e)))]) rfl (by decide) rfl dJ23_copyOfRangeInt_8 rfl ?_
  refine sw_iload_n (n := 10) F 0 rfl rfl dJ23_copyOfRangeInt_9 rfl ?_
  refine sw_newaN (n := 12) F (e - s) (by first | omega | rfl) (by omega) 0 0 ⟨by omega, by omega⟩ dJ23_copyOfRangeInt_10 rfl (fun q_1 => ?_)
  refine sw_astore (n := 14) F (some q_1) (L2 := [(4, .ref q_1), (3, .int (jI ((↑e) - (↑s)))), (0, .ref a), (1, .int (jI (↑s))), (2, .int (jI (↑e)))]) rfl rfl (by decide) dJ23_copyOfRangeInt_12 rfl ?_
  refine sw_aload_n (n := 15) F 2 (some a) rfl rfl rfl dJ23_copyOfRangeInt_14 rfl ?_
  refine sw_iload_n (n := 16) F 3 rfl rfl dJ23_copyOfRangeInt_15 rfl ?_
  refine sw_aload (n := 18) F 0 (some q_1) rfl rfl dJ23_copyOfRangeInt_16 rfl ?_
  refine sw_iconst (n := 19) F (0) (by decide) dJ23_copyOfRangeInt_18 rfl ?_
  refine sw_aload_n (n := 20) F 2 (some a) rfl rfl rfl dJ23_copyOfRangeInt_19 rfl ?_
  refine sw_alen (n := 21) F 1 rfl (fun _ => rfl) dJ23_copyOfRangeInt_20 rfl ?_
  refine sw_iload_n (n := 22) F 3 rfl rfl dJ23_copyOfRangeInt_21 rfl ?_
  refine sw_isub (n := 23) F dJ23_copyOfRangeInt_22 rfl ?_
  refine sw_iload_n (n := 24) F 1 rfl rfl dJ23_copyOfRangeInt_23 rfl ?_
  refine sw_mmin (n := 27) F (by omega) (by omega) q527 q438 q132 q439 ⟨by decide, Nat.le_of_ble_eq_true rfl⟩ dJ23_copyOfRangeInt_24 rfl ?_
  refine sw_copyN (n := 30) F 0 (hA_ar (t0 := 0) (ty := .int) (f := fun j => .int (jI (f j : Nat))) F (i := 1) rfl (fun _ => rfl)) rfl s 0 (e - s) (by first | rfl | omega) (by first | rfl | omega) (by first | rfl | omega) (by omega) (by omega) (by omega) q528 q530 q529 q133 (by decide) [aN (xg x) 0 q_1 (e - s) (va_cpy f (fun _ => 0) s 0 (e - s)), aN (xg x) 0 a n f] rfl dJ23_copyOfRangeInt_27 rfl ?_
  refine sw_aload (n := 32) F 0 (some q_1) rfl rfl dJ23_copyOfRangeInt_30 rfl ?_
  exact sw_aret F (some q_1) _ rfl rfl (by first | exact Or.inl ⟨_, rfl⟩ | exact Or.inr ⟨_, rfl⟩) dJ23_copyOfRangeInt_32 (by rw [hPo]; exact ⟨q_1, va_cpy f (fun _ => 0) s 0 (e - s), rfl, (by intro j hj; first | (exact hf1_1 j hj) | (exact hf1_2 j hj) | (exact hf1_3 j hj) | (exact hf1_4 j hj) | (exact hf1_5 j hj) | (exact hf1_6 j hj) | (exact hf1_7 j hj) | (exact hf1_8 j hj) | (exact hf1_9 j hj) | (rw [show s + j = j by omega]) | (unfold va_cpy; rw [if_pos (by omega)]; done) | (unfold va_cpy; rw [if_pos (by omega)]; congr 1 <;> omega)), rfl⟩)
theorem nd_J23_copyOfRange_2 : yJ23_copyOfRange_2.cls ≠ "java/lang/invoke/MethodHandle" ∧ yJ23_copyOfRange_2.cls ≠ "java/lang/invoke/VarHandle" ∧ (parseMethodDescriptor yJ23_copyOfRange_2.desc).map (fun d => d.parameters.length) = some 3 := by decide +kernel
set_option maxRecDepth 100000 in
set_option maxHeartbeats 16000000 in
theorem ct_J23_copyOfRange_2 {g : GG} {l : Launch} (a : Nat) (n : Nat) (f : Nat → Nat) (s : Nat) (e : Nat) (hse : s ≤ e ∧ e ≤ n ∧ n ≤ 8) : Ct g l yJ23_copyOfRange_2 (ws_ yJ23_copyOfRange_2 cJ23_copyOfRange_2 3 (Option.some (Jvm.ClassFile.FieldType.array Jvm.ClassFile.FieldType.int))) 3 57 1 8 [.ref a, .int (jI (↑s)), .int (jI (↑e))] [aN g 0 a n f] (fun v9 Ws9 => ∃ r1 : Nat, ∃ f1 : Nat → Nat, v9 = some (.ref r1) ∧ (∀ j, j < e - s → f1 j = f (s + j)) ∧ Ws9 = [aN g 0 r1 (e - s) f1, aN g 0 a n f]) (nox) := by
  refine Ct.of (cc := cJ23_copyOfRange_2) (nL := 3) (ret := (Option.some (Jvm.ClassFile.FieldType.array Jvm.ClassFile.FieldType.int))) (by decide) rfl (Nat.le_of_ble_eq_true rfl) ?_
  intro x hg hl hPo hPx hmc hms F
  subst hg; subst hl
  refine SW.cast (L' := [(0, .ref a), (1, .int (jI (↑s))), (2, .int (jI (↑e)))]) ?_ rfl rfl rfl
  refine sw_iload_n (n := 1) F 1 rfl rfl dJ23_copyOfRange_2_0 rfl ?_
  refine sw_if_ne (n := 4) F (by omega) (tgt := 10) dJ23_copyOfRange_2_1 (by decide) rfl (fun c_1 => ?_) (fun c_1 => ?_)
  ·
    refine sw_aload_n (n := 11) F 0 (some a) rfl rfl rfl dJ23_copyOfRange_2_10 rfl ?_
    refine sw_iload_n (n := 12) F 1 rfl rfl dJ23_copyOfRange_2_11 rfl ?_
    refine sw_iload_n (n := 13) F 2 rfl rfl dJ23_copyOfRange_2_12 rfl ?_
    refine sw_callS (n := 16) F (ct_J23_copyOfRangeInt (g := xg x) (l := xl x) a n f s e hse) q1154 q1155 q131 q1156 nd_J23_copyOfRangeInt rfl (by decide) [0] rfl [] rfl 0 0 ⟨by omega, by omega⟩ [] rfl (Nat.le_of_ble_eq_true rfl) dJ23_copyOfRange_2_13 rfl (fun _ _ h => h.elim) (fun v Ws h => ?_)
    obtain ⟨r1_1, f1_2, rfl, hf1_3, rfl⟩ := h
    show SW x [aN (xg x) 0 r1_1 (e - s) f1_2, aN (xg x) 0 a n f] _ _ _ _ [.ref r1_1]
    exact sw_aret F (some r1_1) _ rfl rfl (by first | exact Or.inl ⟨_, rfl⟩ | exact Or.inr ⟨_, rfl⟩) dJ23_copyOfRange_2_16 (by rw [hPo]; exact ⟨r1_1, f1_2, rfl, (by intro j hj; first | (exact hf1_1 j hj) | (exact hf1_2 j hj) | (exact hf1_3 j hj) | (exact hf1_4 j hj) | (exact hf1_5 j hj) | (exact hf1_6 j hj) | (exact hf1_7 j hj) | (exact hf1_8 j hj) | (exact hf1_9 j hj) | (rw [show s + j = j by omega]) | (unfold va_cpy; rw [if_pos (by omega)]; done) | (unfold va_cpy; rw [if_pos (by omega)]; congr 1 <;> omega)), rfl⟩)
  ·
    refine sw_iload_n (n := 5) F 2 rfl rfl dJ23_copyOfRange_2_4 rfl ?_
    refine sw_aload_n (n := 6) F 0 (some a) rfl rfl rfl dJ23_copyOfRange_2_5 rfl ?_
    refine sw_alen (n := 7) F 0 rfl (fun _ => rfl) dJ23_copyOfRange_2_6 rfl ?_
    refine sw_icmp_eq (n := 10) F (by omega) (by omega) (tgt := 17) dJ23_copyOfRange_2_7 (by decide) rfl (fun c_7 => ?_) (fun c_7 => ?_)
    ·
      refine sw_aload_n (n := 18) F 0 (some a) rfl rfl rfl dJ23_copyOfRange_2_17 rfl ?_
      refine sw_clone (n := 21) F (hA_ar (t0 := 0) (ty := .int) (f := fun j => .int (jI (f j : Nat))) F (i := 0) rfl (fun _ => rfl)) (hX_ar F (i := 0) rfl) q1157 0 0 ⟨by omega, by omega⟩ (by decide) dJ23_copyOfRange_2_18 rfl (fun q_4 => ?_)
      show SW x [aN (xg x) 0 q_4 n f, aN (xg x) 0 a n f] _ _ _ _ [.ref q_4]
      refine sw_castI (n := 24) F 0 rfl q1161 dJ23_copyOfRange_2_21 rfl ?_
      exact sw_aret F (some q_4) _ rfl rfl (by first | exact Or.inl ⟨_, rfl⟩ | exact Or.inr ⟨_, rfl⟩) dJ23_copyOfRange_2_24 (by rw [hPo]; exact ⟨q_4, f, rfl, (by intro j hj; first | (exact hf1_1 j hj) | (exact hf1_2 j hj) | (exact hf1_3 j hj) | (exact hf1_4 j hj) | (exact hf1_5 j hj) | (exact hf1_6 j hj) | (exact hf1_7 j hj) | (exact hf1_8 j hj) | (exact hf1_9 j hj) | (rw [show s + j = j by omega]) | (unfold va_cpy; rw [if_pos (by omega)]; done) | (unfold va_cpy; rw [if_pos (by omega)]; congr 1 <;> omega)), (by rw [show e - s = n by omega])⟩)
    ·
      refine sw_aload_n (n := 11) F 0 (some a) rfl rfl rfl dJ23_copyOfRange_2_10 rfl ?_
      refine sw_iload_n (n := 12) F 1 rfl rfl dJ23_copyOfRange_2_11 rfl ?_
      refine sw_iload_n (n := 13) F 2 rfl rfl dJ23_copyOfRange_2_12 rfl ?_
      refine sw_callS (n := 16) F (ct_J23_copyOfRangeInt (g := xg x) (l := xl x) a n f s e hse) q1154 q1155 q131 q1156 nd_J23_copyOfRangeInt rfl (by decide) [0] rfl [] rfl 0 0 ⟨by omega, by omega⟩ [] rfl (Nat.le_of_ble_eq_true rfl) dJ23_copyOfRange_2_13 rfl (fun _ _ h => h.elim) (fun v Ws h => ?_)
      obtain ⟨r1_5, f1_6, rfl, hf1_7, rfl⟩ := h
      show SW x [aN (xg x) 0 r1_5 (e - s) f1_6, aN (xg x) 0 a n f] _ _ _ _ [.ref r1_5]
      exact sw_aret F (some r1_5) _ rfl rfl (by first | exact Or.inl ⟨_, rfl⟩ | exact Or.inr ⟨_, rfl⟩) dJ23_copyOfRange_2_16 (by rw [hPo]; exact ⟨r1_5, f1_6, rfl, (by intro j hj; first | (exact hf1_1 j hj) | (exact hf1_2 j hj) | (exact hf1_3 j hj) | (exact hf1_4 j hj) | (exact hf1_5 j hj) | (exact hf1_6 j hj) | (exact hf1_7 j hj) | (exact hf1_8 j hj) | (exact hf1_9 j hj) | (rw [show s + j = j by omega]) | (unfold va_cpy; rw [if_pos (by omega)]; done) | (unfold va_cpy; rw [if_pos (by omega)]; congr 1 <;> omega)), rfl⟩)
set_option maxRecDepth 100000 in
set_option maxHeartbeats 16000000 in
theorem ct_J23_copyOfRangeInt_p {g : GG} {l : Launch} (M : Nat → Option PV) (a : Nat) (n : Nat) (f : Nat → Nat) (s : Nat) (e : Nat) (hx : at_ g M a (vA n f)) (hse : s ≤ e ∧ e ≤ n ∧ n ≤ 8) : Ct g l yJ23_copyOfRangeInt (ws_ yJ23_copyOfRangeInt cJ23_copyOfRangeInt 5 (Option.some (Jvm.ClassFile.FieldType.array Jvm.ClassFile.FieldType.int))) 2 33 1 8 [.ref a, .int (jI (↑s)), .int (jI (↑e))] [pl g M] (fun v9 Ws9 => ∃ r1 : Nat, ∃ f1 : Nat → Nat, v9 = some (.ref r1) ∧ (∀ j, j < e - s → f1 j = f (s + j)) ∧ Ws9 = [aN g 0 r1 (e - s) f1, pl g M]) (nox) := by
  refine Ct.of (cc := cJ23_copyOfRangeInt) (nL := 5) (ret := (Option.some (Jvm.ClassFile.FieldType.array Jvm.ClassFile.FieldType.int))) (by decide) rfl (Nat.le_of_ble_eq_true rfl) ?_
  intro x hg hl hPo hPx hmc hms F
  subst hg; subst hl
  refine SW.cast (L' := [(0, .ref a), (1, .int (jI (↑s))), (2, .int (jI (↑e)))]) ?_ rfl rfl rfl
  refine sw_iload_n (n := 1) F 1 rfl rfl dJ23_copyOfRangeInt_0 rfl ?_
  refine sw_iload_n (n := 2) F 2 rfl rfl dJ23_copyOfRangeInt_1 rfl ?_
  refine sw_callS (n := 5) F (ct_J23_checkLength (g := xg x) (l := xl x) (↑s) (↑e) (by first | omega | assumption) (by first | omega | assumption) (by first | omega | assumption)) q645 q646 q131 q647 nd_J23_checkLength rfl (by decide) [0] rfl [pl (xg x) M] rfl 1 8 ⟨by omega, by omega⟩ [] rfl (Nat.le_of_ble_eq_true rfl) dJ23_copyOfRangeInt_2 rfl (fun _ _ h => h.elim) (fun v Ws h => ?_)
  obtain ⟨rfl, rfl⟩ := h
  show SW x [pl (xg x) M] _ _ _ _ []
  refine sw_iload_n (n := 6) F 2 rfl rfl dJ23_copyOfRangeInt_5 rfl ?_
  refine sw_iload_n (n := 7) F 1 rfl rfl dJ23_copyOfRangeInt_6 rfl ?_
  refine sw_isub (n := 8) F dJ23_copyOfRangeInt_7 rfl ?_
  refine sw_istore_n (n := 9) F (L2 := [(3, .int (jI ((↑e) - (↑s)))), (0, .ref a), (1, .int (jI (↑s))), (2, .int (jI (↑e)))]) rfl (by decide) rfl dJ23_copyOfRangeInt_8 rfl ?_
  refine sw_iload_n (n := 10) F 0 rfl rfl dJ23_copyOfRangeInt_9 rfl ?_
  refine sw_newaN (n := 12) F (e - s) (by first | omega | rfl) (by omega) 0 0 ⟨by omega, by omega⟩ dJ23_copyOfRangeInt_10 rfl (fun q_1 => ?_)
  refine sw_astore (n := 14) F (some q_1) (L2 := [(4, .ref q_1), (3, .int (jI ((↑e) - (↑s)))), (0, .ref a), (1, .int (jI (↑s))), (2, .int (jI (↑e)))]) rfl rfl (by decide) dJ23_copyOfRangeInt_12 rfl ?_
  refine sw_aload_n (n := 15) F 2 (some a) rfl rfl rfl dJ23_copyOfRangeInt_14 rfl ?_
  refine sw_iload_n (n := 16) F 3 rfl rfl dJ23_copyOfRangeInt_15 rfl ?_
  refine sw_aload (n := 18) F 0 (some q_1) rfl rfl dJ23_copyOfRangeInt_16 rfl ?_
  refine sw_iconst (n := 19) F (0) (by decide) dJ23_copyOfRangeInt_18 rfl ?_
  refine sw_aload_n (n := 20) F 2 (some a) rfl rfl rfl dJ23_copyOfRangeInt_19 rfl ?_
  refine sw_alenK (n := 21) F (plA F 1 rfl hx) dJ23_copyOfRangeInt_20 rfl ?_
  show SW x _ _ _ _ _ [.int (jI (↑n)), .int (jI 0), .ref q_1, .int (jI (↑s)), .ref a]
  refine sw_iload_n (n := 22) F 3 rfl rfl dJ23_copyOfRangeInt_21 rfl ?_
  refine sw_isub (n := 23) F dJ23_copyOfRangeInt_22 rfl ?_
  refine sw_iload_n (n := 24) F 1 rfl rfl dJ23_copyOfRangeInt_23 rfl ?_
  refine sw_mmin (n := 27) F (by omega) (by omega) q527 q438 q132 q439 ⟨by decide, Nat.le_of_ble_eq_true rfl⟩ dJ23_copyOfRangeInt_24 rfl ?_
  refine sw_copyN (n := 30) F 0 (plA F 1 rfl hx) rfl s 0 (e - s) (by first | rfl | omega) (by first | rfl | omega) (by first | rfl | omega) (by omega) (by omega) (by omega) q528 q530 q529 q133 (by decide) [aN (xg x) 0 q_1 (e - s) (va_cpy f (fun _ => 0) s 0 (e - s)), pl (xg x) M] rfl dJ23_copyOfRangeInt_27 rfl ?_
  refine sw_aload (n := 32) F 0 (some q_1) rfl rfl dJ23_copyOfRangeInt_30 rfl ?_
  exact sw_aret F (some q_1) _ rfl rfl (by first | exact Or.inl ⟨_, rfl⟩ | exact Or.inr ⟨_, rfl⟩) dJ23_copyOfRangeInt_32 (by rw [hPo]; exact ⟨q_1, va_cpy f (fun _ => 0) s 0 (e - s), rfl, (by intro j hj; first | (exact hf1_1 j hj) | (exact hf1_2 j hj) | (exact hf1_3 j hj) | (exact hf1_4 j hj) | (exact hf1_5 j hj) | (exact hf1_6 j hj) | (exact hf1_7 j hj) | (exact hf1_8 j hj) | (exact hf1_9 j hj) | (rw [show s + j = j by omega]) | (unfold va_cpy; rw [if_pos (by omega)]; done) | (unfold va_cpy; rw [if_pos (by omega)]; congr 1 <;> omega)), rfl⟩)
set_option maxRecDepth 100000 in
set_option maxHeartbeats 16000000 in
theorem ct_J23_copyOfRange_2_p {g : GG} {l : Launch} (M : Nat → Option PV) (a : Nat) (n : Nat) (f : Nat → Nat) (s : Nat) (e : Nat) (hx : at_ g M a (vA n f)) (hse : s ≤ e ∧ e ≤ n ∧ n ≤ 8) : Ct g l yJ23_copyOfRange_2 (ws_ yJ23_copyOfRange_2 cJ23_copyOfRange_2 3 (Option.some (Jvm.ClassFile.FieldType.array Jvm.ClassFile.FieldType.int))) 3 57 1 8 [.ref a, .int (jI (↑s)), .int (jI (↑e))] [pl g M] (fun v9 Ws9 => ∃ r1 : Nat, ∃ f1 : Nat → Nat, v9 = some (.ref r1) ∧ (∀ j, j < e - s → f1 j = f (s + j)) ∧ Ws9 = [aN g 0 r1 (e - s) f1, pl g M]) (nox) := by
  refine Ct.of (cc := cJ23_copyOfRange_2) (nL := 3) (ret := (Option.some (Jvm.ClassFile.FieldType.array Jvm.ClassFile.FieldType.int))) (by decide) rfl (Nat.le_of_ble_eq_true rfl) ?_
  intro x hg hl hPo hPx hmc hms F
  subst hg; subst hl
  refine SW.cast (L' := [(0, .ref a), (1, .int (jI (↑s))), (2, .int (jI (↑e)))]) ?_ rfl rfl rfl
  refine sw_iload_n (n := 1) F 1 rfl rfl dJ23_copyOfRange_2_0 rfl ?_
  refine sw_if_ne (n := 4) F (by omega) (tgt := 10) dJ23_copyOfRange_2_1 (by decide) rfl (fun c_1 => ?_) (fun c_1 => ?_)
  ·
    refine sw_aload_n (n := 11) F 0 (some a) rfl rfl rfl dJ23_copyOfRange_2_10 rfl ?_
    refine sw_iload_n (n := 12) F 1 rfl rfl dJ23_copyOfRange_2_11 rfl ?_
    refine sw_iload_n (n := 13) F 2 rfl rfl dJ23_copyOfRange_2_12 rfl ?_
    refine sw_callS (n := 16) F (ct_J23_copyOfRangeInt_p (g := xg x) (l := xl x) M a n f s e hx hse) q1154 q1155 q131 q1156 nd_J23_copyOfRangeInt rfl (by decide) [0] rfl [] rfl 0 0 ⟨by omega, by omega⟩ [] rfl (Nat.le_of_ble_eq_true rfl) dJ23_copyOfRange_2_13 rfl (fun _ _ h => h.elim) (fun v Ws h => ?_)
    obtain ⟨r1_1, f1_2, rfl, hf1_3, rfl⟩ := h
    show SW x [aN (xg x) 0 r1_1 (e - s) f1_2, pl (xg x) M] _ _ _ _ [.ref r1_1]
    exact sw_aret F (some r1_1) _ rfl rfl (by first | exact Or.inl ⟨_, rfl⟩ | exact Or.inr ⟨_, rfl⟩) dJ23_copyOfRange_2_16 (by rw [hPo]; exact ⟨r1_1, f1_2, rfl, (by intro j hj; first | (exact hf1_1 j hj) | (exact hf1_2 j hj) | (exact hf1_3 j hj) | (exact hf1_4 j hj) | (exact hf1_5 j hj) | (exact hf1_6 j hj) | (exact hf1_7 j hj) | (exact hf1_8 j hj) | (exact hf1_9 j hj) | (rw [show s + j = j by omega]) | (unfold va_cpy; rw [if_pos (by omega)]; done) | (unfold va_cpy; rw [if_pos (by omega)]; congr 1 <;> omega)), rfl⟩)
  ·
    refine sw_iload_n (n := 5) F 2 rfl rfl dJ23_copyOfRange_2_4 rfl ?_
    refine sw_aload_n (n := 6) F 0 (some a) rfl rfl rfl dJ23_copyOfRange_2_5 rfl ?_
    refine sw_alenK (n := 7) F (plA F 0 rfl hx) dJ23_copyOfRange_2_6 rfl ?_
    show SW x _ _ _ _ _ [.int (jI (↑n)), .int (jI (↑e))]
    refine sw_icmp_eq (n := 10) F (by omega) (by omega) (tgt := 17) dJ23_copyOfRange_2_7 (by decide) rfl (fun c_7 => ?_) (fun c_7 => ?_)
    ·
      refine sw_aload_n (n := 18) F 0 (some a) rfl rfl rfl dJ23_copyOfRange_2_17 rfl ?_
      refine sw_clone (n := 21) F (plA F 0 rfl hx) (plX F 0 rfl hx) q1157 0 0 ⟨by omega, by omega⟩ (by decide) dJ23_copyOfRange_2_18 rfl (fun q_4 => ?_)
      show SW x [aN (xg x) 0 q_4 n f, pl (xg x) M] _ _ _ _ [.ref q_4]
      refine sw_castI (n := 24) F 0 rfl q1161 dJ23_copyOfRange_2_21 rfl ?_
      exact sw_aret F (some q_4) _ rfl rfl (by first | exact Or.inl ⟨_, rfl⟩ | exact Or.inr ⟨_, rfl⟩) dJ23_copyOfRange_2_24 (by rw [hPo]; exact ⟨q_4, f, rfl, (by intro j hj; first | (exact hf1_1 j hj) | (exact hf1_2 j hj) | (exact hf1_3 j hj) | (exact hf1_4 j hj) | (exact hf1_5 j hj) | (exact hf1_6 j hj) | (exact hf1_7 j hj) | (exact hf1_8 j hj) | (exact hf1_9 j hj) | (rw [show s + j = j by omega]) | (unfold va_cpy; rw [if_pos (by omega)]; done) | (unfold va_cpy; rw [if_pos (by omega)]; congr 1 <;> omega)), (by rw [show e - s = n by omega])⟩)
    ·
      refine sw_aload_n (n := 11) F 0 (some a) rfl rfl rfl dJ23_copyOfRange_2_10 rfl ?_
      refine sw_iload_n (n := 12) F 1 rfl rfl dJ23_copyOfRange_2_11 rfl ?_
      refine sw_iload_n (n := 13) F 2 rfl rfl dJ23_copyOfRange_2_12 rfl ?_
      refine sw_callS (n := 16) F (ct_J23_copyOfRangeInt_p (g := xg x) (l := xl x) M a n f s e hx hse) q1154 q1155 q131 q1156 nd_J23_copyOfRangeInt rfl (by decide) [0] rfl [] rfl 0 0 ⟨by omega, by omega⟩ [] rfl (Nat.le_of_ble_eq_true rfl) dJ23_copyOfRange_2_13 rfl (fun _ _ h => h.elim) (fun v Ws h => ?_)
      obtain ⟨r1_5, f1_6, rfl, hf1_7, rfl⟩ := h
      show SW x [aN (xg x) 0 r1_5 (e - s) f1_6, pl (xg x) M] _ _ _ _ [.ref r1_5]
      exact sw_aret F (some r1_5) _ rfl rfl (by first | exact Or.inl ⟨_, rfl⟩ | exact Or.inr ⟨_, rfl⟩) dJ23_copyOfRange_2_16 (by rw [hPo]; exact ⟨r1_5, f1_6, rfl, (by intro j hj; first | (exact hf1_1 j hj) | (exact hf1_2 j hj) | (exact hf1_3 j hj) | (exact hf1_4 j hj) | (exact hf1_5 j hj) | (exact hf1_6 j hj) | (exact hf1_7 j hj) | (exact hf1_8 j hj) | (exact hf1_9 j hj) | (rw [show s + j = j by omega]) | (unfold va_cpy; rw [if_pos (by omega)]; done) | (unfold va_cpy; rw [if_pos (by omega)]; congr 1 <;> omega)), rfl⟩)
theorem nd_J23_copyOf_2 : yJ23_copyOf_2.cls ≠ "java/lang/invoke/MethodHandle" ∧ yJ23_copyOf_2.cls ≠ "java/lang/invoke/VarHandle" ∧ (parseMethodDescriptor yJ23_copyOf_2.desc).map (fun d => d.parameters.length) = some 2 := by decide +kernel
set_option maxRecDepth 100000 in
set_option maxHeartbeats 16000000 in
theorem ct_J23_copyOf_2 {g : GG} {l : Launch} (M : Nat → Option PV) (a : Nat) (n : Nat) (f : Nat → Nat) (hx : at_ g M a (vA n f)) (hn : n ≤ 8) : Ct g l yJ23_copyOf_2 (ws_ yJ23_copyOf_2 cJ23_copyOf_2 3 (Option.some (Jvm.ClassFile.FieldType.array Jvm.ClassFile.FieldType.int))) 1 14 1 8 [.ref a, .int (jI (↑n))] [pl g M] (fun v9 Ws9 => ∃ r1 : Nat, v9 = some (.ref r1) ∧ Ws9 = [aN g 0 r1 n f, pl g M]) (nox) := by
  refine Ct.of (cc := cJ23_copyOf_2) (nL := 3) (ret := (Option.some (Jvm.ClassFile.FieldType.array Jvm.ClassFile.FieldType.int))) (by decide) rfl (Nat.le_of_ble_eq_true rfl) ?_
  intro x hg hl hPo hPx hmc hms F
  subst hg; subst hl
  refine SW.cast (L' := [(0, .ref a), (1, .int (jI (↑n)))]) ?_ rfl rfl rfl
  refine sw_iload_n (n := 1) F 1 rfl rfl dJ23_copyOf_2_0 rfl ?_
  refine sw_aload_n (n := 2) F 0 (some a) rfl rfl rfl dJ23_copyOf_2_1 rfl ?_
  refine sw_alenK (n := 3) F (plA F 0 rfl hx) dJ23_copyOf_2_2 rfl ?_
  show SW x _ _ _ _ _ [.int (jI (↑n)), .int (jI (↑n))]
  refine sw_icmp_ne (n := 6) F (by omega) (by omega) (tgt := 14) dJ23_copyOf_2_3 (by decide) rfl (fun c_3 => ?_) (fun c_3 => ?_)
  · exfalso; omega
  ·
    refine sw_aload_n (n := 7) F 0 (some a) rfl rfl rfl dJ23_copyOf_2_6 rfl ?_
    refine sw_clone (n := 10) F (plA F 0 rfl hx) (plX F 0 rfl hx) q1157 0 0 ⟨by omega, by omega⟩ (by decide) dJ23_copyOf_2_7 rfl (fun q_1 => ?_)
    show SW x [aN (xg x) 0 q_1 n f, pl (xg x) M] _ _ _ _ [.ref q_1]
    refine sw_castI (n := 13) F 0 rfl q1161 dJ23_copyOf_2_10 rfl ?_
    exact sw_aret F (some q_1) _ rfl rfl (by first | exact Or.inl ⟨_, rfl⟩ | exact Or.inr ⟨_, rfl⟩) dJ23_copyOf_2_13 (by rw [hPo]; exact ⟨q_1, rfl, rfl⟩)
theorem strip_same {f : Nat → Nat} {n m : Nat} (hf : ∀ k, k < n → f k < 4294967296) (hm : m = 0) (h : n ≤ m ∨ f m ≠ 0) : wOK n f := ⟨hf, fun hn => by subst hm; exact h.resolve_left (by omega)⟩
theorem strip_cut {f g : Nat → Nat} {n m : Nat} (hf : ∀ k, k < n → f k < 4294967296) (hm : m ≤ n) (hz : ∀ j, j < m → f j = 0) (h : n ≤ m ∨ f m ≠ 0) (hg : ∀ j, j < n - m → g j = f (m + j)) : wOK (n - m) g ∧ wv g (n - m) = wv f n := by
  refine ⟨⟨fun k hk => by rw [hg k hk]; exact hf _ (by omega), fun hn => by rw [hg 0 hn]; exact h.resolve_left (by omega)⟩, ?_⟩
  rw [wv_cong hg, ← wv_drop hz hm]
  exact wv_cong fun j _ => by rw [Nat.add_comm]
theorem nd_J19_trustedStripLeadingZeroInts : yJ19_trustedStripLeadingZeroInts.cls ≠ "java/lang/invoke/MethodHandle" ∧ yJ19_trustedStripLeadingZeroInts.cls ≠ "java/lang/invoke/VarHandle" ∧ (parseMethodDescriptor yJ19_trustedStripLeadingZeroInts.desc).map (fun d => d.parameters.length) = some 1 := by decide +kernel
set_option maxRecDepth 100000 in
set_option maxHeartbeats 16000000 in
theorem ct_J19_trustedStripLeadingZeroInts {g : GG} {l : Launch} (a : Nat) (n : Nat) (f : Nat → Nat) (hn : n ≤ 8) (hf : ∀ k, k < n → f k < 4294967296) : Ct g l yJ19_trustedStripLeadingZeroInts (ws_ yJ19_trustedStripLeadingZeroInts cJ19_trustedStripLeadingZeroInts 3 (Option.some (Jvm.ClassFile.FieldType.array Jvm.ClassFile.FieldType.int))) 4 79 1 8 [.ref a] [aN g 0 a n f] (fun v9 Ws9 => ∃ r1 : Nat, ∃ n1 : Nat, ∃ f1 : Nat → Nat, v9 = some (.ref r1) ∧ (n1 ≤ n) ∧ (wOK n1 f1) ∧ (wv f1 n1 = wv f n) ∧ Ws9 = [aN g 0 r1 n1 f1]) (nox) := by
  refine Ct.of (cc := cJ19_trustedStripLeadingZeroInts) (nL := 3) (ret := (Option.some (Jvm.ClassFile.FieldType.array Jvm.ClassFile.FieldType.int))) (by decide) rfl (Nat.le_of_ble_eq_true rfl) ?_
  intro x hg hl hPo hPx hmc hms F
  subst hg; subst hl
  refine SW.cast (L' := [(0, .ref a)]) ?_ rfl rfl rfl
  refine sw_aload_n (n := 1) F 0 (some a) rfl rfl rfl dJ19_trustedStripLeadingZeroInts_0 rfl ?_
  refine sw_alen (n := 2) F 0 rfl (fun _ => rfl) dJ19_trustedStripLeadingZeroInts_1 rfl ?_
  refine sw_istore_n (n := 3) F (L2 := [(1, .int (jI (↑n))), (0, .ref a)]) rfl (by decide) rfl dJ19_trustedStripLeadingZeroInts_2 rfl ?_
  have K22 : ∀ (m : Nat), (m ≤ n) → (∀ j, j < m → f j = 0) → (n ≤ m ∨ f m ≠ 0) → SW x [aN (xg x) 0 a n f] 1 8 22 [(0, .ref a), (1, .int (jI (↑n))), (2, .int (jI (↑m)))] [] := by
    intro m hm hz hq
    refine sw_iload_n (n := 23) F 2 rfl rfl dJ19_trustedStripLeadingZeroInts_22 rfl ?_
    refine sw_if_ne (n := 26) F (by omega) (tgt := 30) dJ19_trustedStripLeadingZeroInts_23 (by decide) rfl (fun c_23 => ?_) (fun c_23 => ?_)
    ·
      refine sw_aload_n (n := 31) F 0 (some a) rfl rfl rfl dJ19_trustedStripLeadingZeroInts_30 rfl ?_
      refine sw_iload_n (n := 32) F 2 rfl rfl dJ19_trustedStripLeadingZeroInts_31 rfl ?_
      refine sw_iload_n (n := 33) F 1 rfl rfl dJ19_trustedStripLeadingZeroInts_32 rfl ?_
      refine sw_callS (n := 36) F (ct_J23_copyOfRange_2 (g := xg x) (l := xl x) a n f m n (by first | omega | assumption)) q1151 q1152 q131 q1153 nd_J23_copyOfRange_2 rfl (by decide) [0] rfl [] rfl 0 0 ⟨by omega, by omega⟩ [] rfl (Nat.le_of_ble_eq_true rfl) dJ19_trustedStripLeadingZeroInts_33 rfl (fun _ _ h => h.elim) (fun v Ws h => ?_)
      obtain ⟨r1_1, f1_2, rfl, hf1_3, rfl⟩ := h
      show SW x [aN (xg x) 0 r1_1 (n - m) f1_2, aN (xg x) 0 a n f] _ _ _ _ [.ref r1_1]
      refine sw_drop [0, 1] 1 rfl [aN (xg x) 0 r1_1 (n - m) f1_2] rfl ?_
      exact sw_aret F (some r1_1) _ rfl rfl (by first | exact Or.inl ⟨_, rfl⟩ | exact Or.inr ⟨_, rfl⟩) dJ19_trustedStripLeadingZeroInts_36 (by rw [hPo]; exact ⟨r1_1, n - m, f1_2, rfl, (by omega), (by first | exact strip_same hf (by omega) hq | exact (strip_cut hf hm hz hq (by assumption)).1), (by first | rfl | exact (strip_cut hf hm hz hq (by assumption)).2), rfl⟩)
    ·
      refine sw_aload_n (n := 27) F 0 (some a) rfl rfl rfl dJ19_trustedStripLeadingZeroInts_26 rfl ?_
      refine sw_goto F (n := 36) dJ19_trustedStripLeadingZeroInts_27 (by decide) ?_
      exact sw_aret F (some a) _ rfl rfl (by first | exact Or.inl ⟨_, rfl⟩ | exact Or.inr ⟨_, rfl⟩) dJ19_trustedStripLeadingZeroInts_36 (by rw [hPo]; exact ⟨a, n, f, rfl, (by omega), (by first | exact strip_same hf (by omega) hq | exact (strip_cut hf hm hz hq (by assumption)).1), (by first | rfl | exact (strip_cut hf hm hz hq (by assumption)).2), rfl⟩)
  refine sw_iconst (n := 4) F (0) (by decide) dJ19_trustedStripLeadingZeroInts_3 rfl ?_
  refine sw_istore_n (n := 5) F (L2 := [(2, .int (jI 0)), (1, .int (jI (↑n))), (0, .ref a)]) rfl (by decide) rfl dJ19_trustedStripLeadingZeroInts_4 rfl ?_
  have K5 : ∀ N5 : Nat, ∀ (m : Nat), (m ≤ n) → (∀ j, j < m → f j = 0) → ((n - m) < N5) → SW x [aN (xg x) 0 a n f] 1 8 5 [(0, .ref a), (1, .int (jI (↑n))), (2, .int (jI (↑m)))] [] := by
    intro N5; induction N5 with
    | zero => intro m hm hz hmu5; omega
    | succ N5 ih5 =>
      intro m hm hz hmu5
      refine sw_iload_n (n := 6) F 2 rfl rfl dJ19_trustedStripLeadingZeroInts_5 rfl ?_
      refine sw_iload_n (n := 7) F 1 rfl rfl dJ19_trustedStripLeadingZeroInts_6 rfl ?_
      refine sw_icmp_ge (n := 10) F (by omega) (by omega) (tgt := 22) dJ19_trustedStripLeadingZeroInts_7 (by decide) rfl (fun c_7 => ?_) (fun c_7 => ?_)
      ·
        exact K22 m hm (by first | (intro j hj; omega) | assumption | (intro j hj; rcases Nat.lt_or_ge j m with c | c; exact hz j c; rw [show j = m by omega]; omega)) (by first | (left; omega) | (right; omega))
      ·
        refine sw_aload_n (n := 11) F 0 (some a) rfl rfl rfl dJ19_trustedStripLeadingZeroInts_10 rfl ?_
        refine sw_iload_n (n := 12) F 2 rfl rfl dJ19_trustedStripLeadingZeroInts_11 rfl ?_
        refine sw_ialoadN (n := 13) F 0 rfl (fun _ => rfl) m rfl (by omega) dJ19_trustedStripLeadingZeroInts_12 rfl ?_
        have hb_x : f m < 4294967296 := hf _ (by omega)
        refine sw_if_neU (n := 16) F (by omega) (tgt := 22) dJ19_trustedStripLeadingZeroInts_13 (by decide) rfl (fun c_13 => ?_) (fun c_13 => ?_)
        ·
          exact K22 m hm (by first | (intro j hj; omega) | assumption | (intro j hj; rcases Nat.lt_or_ge j m with c | c; exact hz j c; rw [show j = m by omega]; omega)) (by first | (left; omega) | (right; omega))
        ·
          refine sw_iinc (n := 19) F 2 (L2 := [(2, .int (jI (↑m + 1))), (0, .ref a), (1, .int (jI (↑n)))]) rfl rfl (by decide) dJ19_trustedStripLeadingZeroInts_16 rfl ?_
          refine sw_goto F (n := 5) dJ19_trustedStripLeadingZeroInts_19 (by decide) ?_
          refine sw_loc [1, 2, 0] (L2 := [(0, .ref a), (1, .int (jI (↑n))), (2, .int (jI (↑m + 1)))]) rfl ?_
          rw [show (↑m + 1 : Int) = ↑(m + 1) by omega]
          exact ih5 (m + 1) (by first | omega | assumption) (by first | (intro j hj; omega) | assumption | (intro j hj; rcases Nat.lt_or_ge j m with c | c; exact hz j c; rw [show j = m by omega]; omega)) (by omega)
  refine sw_loc [2, 1, 0] (L2 := [(0, .ref a), (1, .int (jI (↑n))), (2, .int (jI 0))]) rfl ?_
  exact K5 _ 0 (by first | omega | assumption) (by first | (intro j hj; omega) | assumption | (intro j hj; rcases Nat.lt_or_ge j m with c | c; exact hz j c; rw [show j = m by omega]; omega)) (Nat.lt_succ_self _)
theorem nd_J19_multiply_3 : yJ19_multiply_3.cls ≠ "java/lang/invoke/MethodHandle" ∧ yJ19_multiply_3.cls ≠ "java/lang/invoke/VarHandle" ∧ (parseMethodDescriptor yJ19_multiply_3.desc).map (fun d => d.parameters.length) = some 1 := by decide +kernel
set_option maxRecDepth 100000 in
set_option maxHeartbeats 16000000 in
theorem ct_J19_multiply_3 {g : GG} {l : Launch} (M : Nat → Option PV) (q : Nat) (v : Int) (a : Nat) (d : Int) (hx : at_ g M q (vI v a)) (hd : -9223372036854775807 ≤ d ∧ d ≤ 9223372036854775807) (hb : v.natAbs < bw 4) : Ct g l yJ19_multiply_3 (ws_ yJ19_multiply_3 cJ19_multiply_3 17 (Option.some (Jvm.ClassFile.FieldType.object "java/math/BigInteger"))) 4 79 3 20 [.ref q, .long (jL d)] [pl g M] (fun v9 Ws9 => ∃ M1 : Nat → Option PV, ∃ r1 : Nat, ∃ a1 : Nat, v9 = some (.ref r1) ∧ (le_ M M1) ∧ (at_ g M1 r1 (vI (v * d) a1)) ∧ Ws9 = [pl g M1]) (nox) := by
  refine Ct.of (cc := cJ19_multiply_3) (nL := 17) (ret := (Option.some (Jvm.ClassFile.FieldType.object "java/math/BigInteger"))) (by decide) rfl (Nat.le_of_ble_eq_true rfl) ?_
  intro x hg hl hPo hPx hmc hms F
  subst hg; subst hl
  refine SW.cast (L' := [(0, .ref q), (1, .long (jL d))]) ?_ rfl rfl rfl
  refine sw_factI 0 rfl hx (fun n9 f9 ha9 hw9 hv9 => ?_)
  have hn9 : n9 ≤ 4 := wOK_len hw9 (by rw [hv9]; exact hb)
  refine sw_lload_n (n := 1) F 1 rfl rfl dJ19_multiply_3_0 rfl ?_
  refine sw_lconst (n := 2) F 0 (by decide) dJ19_multiply_3_1 rfl ?_
  refine sw_lcmp (n := 3) F (by omega) (by decide) dJ19_multiply_3_2 rfl ?_
  refine sw_if_eq (n := 6) F (by omega) (tgt := 13) dJ19_multiply_3_3 (by decide) rfl (fun c_3 => ?_) (fun c_3 => ?_)
  ·
    have c_3 : d = 0 := by revert c_3; (repeat' split) <;> omega
    refine sw_gets (n := 16) F (kBZ F.gx.1).1 q1057 (Or.inl rfl) dJ19_multiply_3_13 rfl ?_
    have hk_1 : at_ (xg x) M (tR (xg x) (Jvm.Term.static "java/math/BigInteger" "ZERO" "Ljava/math/BigInteger;")) (vI 0 (tR (xg x) (.field (Jvm.Term.static "java/math/BigInteger" "ZERO" "Ljava/math/BigInteger;") "java/math/BigInteger" "mag" "[I"))) := Or.inr (kBZ F.gx.1).2
    exact sw_aret F (some (tR (xg x) (Jvm.Term.static "java/math/BigInteger" "ZERO" "Ljava/math/BigInteger;"))) _ rfl rfl (by first | exact Or.inl ⟨_, rfl⟩ | exact Or.inr ⟨_, rfl⟩) dJ19_multiply_3_16 (by rw [hPo]; exact ⟨M, tR (xg x) (Jvm.Term.static "java/math/BigInteger" "ZERO" "Ljava/math/BigInteger;"), tR (xg x) (.field (Jvm.Term.static "java/math/BigInteger" "ZERO" "Ljava/math/BigInteger;") "java/math/BigInteger" "mag" "[I"), rfl, le_.rf, (by first | (rw [show v * d = 0 by rw [show d = 0 by omega]; exact Int.mul_zero v]; assumption) | (rw [show v * d = 0 by rw [show v = 0 by omega]; exact Int.zero_mul d]; assumption)), rfl⟩)
  ·
    have c_3 : d ≠ 0 := by revert c_3; (repeat' split) <;> omega
    have hs9 := sgI_cases v
    refine sw_aload_n (n := 7) F 0 (some q) rfl rfl rfl dJ19_multiply_3_6 rfl ?_
    refine sw_getI (n := 10) F 0 rfl hx (k := 0) ⟨(RJ19, TJ19, 6), rfl, by decide, q1070, in_J19, Or.inl rfl⟩ (.int (jI (sgI v))) (fun _ _ _ _ => rfl) dJ19_multiply_3_7 rfl ?_
    refine sw_if_ne (n := 13) F (by omega) (tgt := 17) dJ19_multiply_3_10 (by decide) rfl (fun c_10 => ?_) (fun c_10 => ?_)
    ·
      have K62 : ∀ (m : Int) (sg : Int), (v ≠ 0) → ((m = d ∧ 0 < d ∧ sg = sgI v) ∨ (m = -d ∧ d < 0 ∧ sg = -sgI v)) → SW x [pl (xg x) M] 3 20 62 [(0, .ref q), (1, .long (jL m)), (3, .int (jI sg))] [] := by
        intro m sg hvn hm
        have hp9 : 0 < n9 := wv_pos (f := f9) (by omega)
        refine sw_lload_n (n := 63) F 1 rfl rfl dJ19_multiply_3_62 rfl ?_
        refine sw_bipush (n := 65) F (32) (by decide) dJ19_multiply_3_63 rfl ?_
        refine sw_lushr (n := 66) F _ (jL_ushr32 _) dJ19_multiply_3_65 rfl ?_
        refine sw_lstore (n := 68) F (L2 := [(4, .long (jL (m % 18446744073709551616 / 4294967296))), (0, .ref q), (1, .long (jL m)), (3, .int (jI sg))]) rfl (by decide) dJ19_multiply_3_66 rfl ?_
        refine sw_lload_n (n := 69) F 2 rfl rfl dJ19_multiply_3_68 rfl ?_
        refine sw_ldc2 (n := 72) F (4294967295) q1106 (by decide) dJ19_multiply_3_69 rfl ?_
        refine sw_land (n := 73) F (jL (m % 4294967296)) (jL_and 32 (by decide) (by rfl)) dJ19_multiply_3_72 rfl ?_
        refine sw_lstore (n := 75) F (L2 := [(6, .long (jL (m % 4294967296))), (4, .long (jL (m % 18446744073709551616 / 4294967296))), (0, .ref q), (1, .long (jL m)), (3, .int (jI sg))]) rfl (by decide) dJ19_multiply_3_73 rfl ?_
        obtain ⟨dl, hdl⟩ : ∃ z : Nat, (z : Int) = m % 4294967296 := ⟨(m % 4294967296).toNat, by omega⟩
        obtain ⟨dh, hdh⟩ : ∃ z : Nat, (z : Int) = m / 4294967296 := ⟨(m / 4294967296).toNat, by omega⟩
        refine SW.cast (L' := [(6, .long (jL (↑dl))), (4, .long (jL (m % 18446744073709551616 / 4294967296))), (0, .ref q), (1, .long (jL m)), (3, .int (jI sg))]) ?_ rfl (by rw [show Value.long (jL (m % 4294967296)) = Value.long (jL (↑dl)) from topL (by omega)]) rfl
        refine SW.cast (L' := [(6, .long (jL (↑dl))), (4, .long (jL (↑dh))), (0, .ref q), (1, .long (jL m)), (3, .int (jI sg))]) ?_ rfl (by rw [show Value.long (jL (m % 18446744073709551616 / 4294967296)) = Value.long (jL (↑dh)) from topL (by omega)]) rfl
        have hmd : m.natAbs = dh * 4294967296 + dl := by omega
        refine sw_aload_n (n := 76) F 2 (some q) rfl rfl rfl dJ19_multiply_3_75 rfl ?_
        refine sw_getI (n := 79) F 0 rfl hx (k := 1) ⟨(RJ19, TJ19, 6), rfl, by decide, q1072, in_J19, Or.inl rfl⟩ (.ref a) (fun _ _ _ _ => rfl) dJ19_multiply_3_76 rfl ?_
        refine sw_alenK (n := 80) F (plA F 0 rfl ha9) dJ19_multiply_3_79 rfl ?_
        show SW x _ _ _ _ _ [.int (jI (↑n9))]
        refine sw_istore (n := 82) F (L2 := [(8, .int (jI (↑n9))), (6, .long (jL (↑dl))), (4, .long (jL (↑dh))), (0, .ref q), (1, .long (jL m)), (3, .int (jI sg))]) rfl (by decide) dJ19_multiply_3_80 rfl ?_
        refine sw_aload_n (n := 83) F 3 (some q) rfl rfl rfl dJ19_multiply_3_82 rfl ?_
        refine sw_getI (n := 86) F 0 rfl hx (k := 1) ⟨(RJ19, TJ19, 6), rfl, by decide, q1072, in_J19, Or.inl rfl⟩ (.ref a) (fun _ _ _ _ => rfl) dJ19_multiply_3_83 rfl ?_
        refine sw_astore (n := 88) F (some a) (L2 := [(9, .ref a), (8, .int (jI (↑n9))), (6, .long (jL (↑dl))), (4, .long (jL (↑dh))), (0, .ref q), (1, .long (jL m)), (3, .int (jI sg))]) rfl rfl (by decide) dJ19_multiply_3_86 rfl ?_
        have K115 : ∀ (R : Nat) (rr : Nat), ((R = n9 + 1 ∧ dh = 0) ∨ (R = n9 + 2 ∧ dh ≠ 0)) → SW x [aN (xg x) 0 rr R (fun _ => 0), pl (xg x) M] 2 14 115 [(0, .ref q), (3, .int (jI sg)), (4, .long (jL (↑dh))), (6, .long (jL (↑dl))), (8, .int (jI (↑n9))), (9, .ref a), (10, .ref rr), (11, .long (jL 0))] [] := by
          intro R rr hR
          refine sw_aload (n := 117) F 6 (some rr) rfl rfl dJ19_multiply_3_115 rfl ?_
          refine sw_alen (n := 118) F 0 rfl (fun _ => rfl) dJ19_multiply_3_117 rfl ?_
          refine sw_iconst (n := 119) F (1) (by decide) dJ19_multiply_3_118 rfl ?_
          refine sw_isub (n := 120) F dJ19_multiply_3_119 rfl ?_
          refine sw_istore (n := 122) F (L2 := [(13, .int (jI ((↑R) - 1))), (0, .ref q), (3, .int (jI sg)), (4, .long (jL (↑dh))), (6, .long (jL (↑dl))), (8, .int (jI (↑n9))), (9, .ref a), (10, .ref rr), (11, .long (jL 0))]) rfl (by decide) dJ19_multiply_3_120 rfl ?_
          refine sw_iload (n := 124) F 5 rfl dJ19_multiply_3_122 rfl ?_
          refine sw_iconst (n := 125) F (1) (by decide) dJ19_multiply_3_124 rfl ?_
          refine sw_isub (n := 126) F dJ19_multiply_3_125 rfl ?_
          refine sw_istore (n := 128) F (L2 := [(14, .int (jI ((↑n9) - 1))), (13, .int (jI ((↑R) - 1))), (0, .ref q), (3, .int (jI sg)), (4, .long (jL (↑dh))), (6, .long (jL (↑dl))), (8, .int (jI (↑n9))), (9, .ref a), (10, .ref rr), (11, .long (jL 0))]) rfl (by decide) dJ19_multiply_3_126 rfl ?_
          have K128 : ∀ N128 : Nat, ∀ (m_ : Nat) (rf : Nat → Nat) (c : Nat), (m_ ≤ n9) → (c < 4294967296) → (∀ k, k < R → rf k < 4294967296) → (sm rf R m_ + c * bw m_ = sm f9 n9 m_ * dl) → (∀ j, j < R - m_ → rf j = 0) → ((n9 - m_) < N128) → SW x [aN (xg x) 0 rr R rf, pl (xg x) M] 2 14 128 [(0, .ref q), (3, .int (jI sg)), (4, .long (jL (↑dh))), (6, .long (jL (↑dl))), (8, .int (jI (↑n9))), (9, .ref a), (10, .ref rr), (11, .long (jL (↑c))), (13, .int (jI (↑R - 1 - ↑m_))), (14, .int (jI (↑n9 - 1 - ↑m_)))] [] := by
            intro N128; induction N128 with
            | zero => intro m_ rf c hm_ hc hrf hri hrz hmu128; omega
            | succ N128 ih128 =>
              intro m_ rf c hm_ hc hrf hri hrz hmu128
              refine sw_iload (n := 130) F 9 rfl dJ19_multiply_3_128 rfl ?_
              refine sw_if_lt (n := 133) F (by omega) (tgt := 175) dJ19_multiply_3_130 (by decide) rfl (fun c_130 => ?_) (fun c_130 => ?_)
              ·
                have hX : wv f9 n9 * dl = c * bw n9 + sm rf R n9 := by rw [wv_sm]; have := hri; rw [show m_ = n9 by omega] at this; omega
                refine sw_aload (n := 177) F 6 (some rr) rfl rfl dJ19_multiply_3_175 rfl ?_
                refine sw_iload (n := 179) F 8 rfl dJ19_multiply_3_177 rfl ?_
                refine sw_lload (n := 181) F 7 rfl dJ19_multiply_3_179 rfl ?_
                refine sw_l2i (n := 182) F dJ19_multiply_3_181 rfl ?_
                refine sw_iastoreW (n := 183) F 0 rfl (fun _ => rfl) (R - 1 - m_) (by omega) (by omega) c (by first | omega | rfl) [aN (xg x) 0 rr R (va_up rf (R - 1 - m_) c), pl (xg x) M] (by rfl) dJ19_multiply_3_182 rfl ?_
                have K271 : ∀ (r3 : Nat → Nat) (c3 : Nat), (c3 < 4294967296) → (∀ k, k < R → r3 k < 4294967296) → (wv r3 R = wv f9 n9 * m.natAbs) → (r3 0 = c3) → SW x [aN (xg x) 0 rr R r3, pl (xg x) M] 2 14 271 [(0, .ref q), (3, .int (jI sg)), (10, .ref rr), (11, .long (jL (↑c3)))] [] := by
                  intro r3 c3 hc3 hr3 hv3 h03
                  have K289 : ∀ (R4 : Nat) (r4 : Nat → Nat) (rr4 : Nat), (wOK R4 r4) → (wv r4 R4 = wv f9 n9 * m.natAbs) → (0 < R4 ∧ R4 ≤ 8) → SW x [aN (xg x) 0 rr4 R4 r4, pl (xg x) M] 1 6 289 [(0, .ref q), (3, .int (jI sg)), (10, .ref rr4)] [] := by
                    intro R4 r4 rr4 hw4 hv4 hR4
                    have hvf : wv r4 R4 = (v * d).natAbs := by rw [hv4, hv9, Int.natAbs_mul, show m.natAbs = d.natAbs by omega]
                    refine sw_absA F (fun M_2 hle_3 hat_4 => ?_)
                    show SW x [pl (xg x) M_2] _ _ _ _ []
                    refine sw_new (n := 292) F (ci := 16) (N := 6) RJ19 TJ19 tyJ19 rfl q1064 q1065 q127 in_J19 tyJ19_ok (fs := [.int (jI 0), .null, .int (jI 0), .int (jI 0), .int (jI 0), .int (jI 0)]) rfl 0 0 ⟨by omega, by omega⟩ dJ19_multiply_3_289 rfl (fun q_5 => ?_)
                    refine sw_dup (n := 293) F rfl dJ19_multiply_3_292 rfl ?_
                    refine sw_aload (n := 295) F 2 (some rr4) rfl rfl dJ19_multiply_3_293 rfl ?_
                    refine sw_iload_n (n := 296) F 1 rfl rfl dJ19_multiply_3_295 rfl ?_
                    refine sw_callI (n := 299) F (ct_J19_init_2 (g := xg x) (l := xl x) M_2 q_5 rr4 R4 r4 sg hat_4 (by first | omega | assumption)) q1108 q1109 q127 q1110 rfl nd_J19_init_2 rfl (by decide) [0, 1] rfl [] rfl 0 0 ⟨by omega, by omega⟩ [.ref q_5] rfl (Nat.le_of_ble_eq_true rfl) dJ19_multiply_3_296 rfl (fun _ _ h => h.elim) (fun v Ws h => ?_)
                    obtain ⟨rfl, rfl⟩ := h
                    show SW x [ob (xg x) q_5 16 [.int (jI sg), .ref rr4, .int (jI 0), .int (jI 0), .int (jI 0), .int (jI 0)], pl (xg x) M_2] _ _ _ _ [.ref q_5]
                    refine SW.cast (Ps' := ob (xg x) q_5 16 (flI (v * d) rr4 0 0 0 0) :: [pl (xg x) M_2]) ?_ (by rw [show sg = sgI (v * d) by rcases hm with ⟨_, e, e2⟩ | ⟨_, e, e2⟩; rw [e2, sgI_mp e]; rw [e2, sgI_mn e]]; rfl) rfl rfl
                    refine sw_absI F (Or.inr rfl) hat_4 hw4 hvf (fun M_6 hle_7 hat_8 => ?_)
                    show SW x [pl (xg x) M_6] _ _ _ _ [.ref q_5]
                    exact sw_aret F (some q_5) _ rfl rfl (by first | exact Or.inl ⟨_, rfl⟩ | exact Or.inr ⟨_, rfl⟩) dJ19_multiply_3_299 (by rw [hPo]; exact ⟨M_6, q_5, rr4, rfl, (le_.tr hle_3 hle_7), hat_8, rfl⟩)
                  refine sw_lload (n := 273) F 3 rfl dJ19_multiply_3_271 rfl ?_
                  refine sw_lconst (n := 274) F 0 (by decide) dJ19_multiply_3_273 rfl ?_
                  refine sw_lcmp (n := 275) F (by omega) (by decide) dJ19_multiply_3_274 rfl ?_
                  refine sw_if_ne (n := 278) F (by omega) (tgt := 289) dJ19_multiply_3_275 (by decide) rfl (fun c_275 => ?_) (fun c_275 => ?_)
                  ·
                    have c_275 : ↑c3 ≠ 0 := by revert c_275; (repeat' split) <;> omega
                    refine sw_room (bc2 := 1) (bs2 := 6) ⟨by omega, by omega⟩ ?_
                    refine sw_loc [0, 1, 2] (L2 := [(0, .ref q), (3, .int (jI sg)), (10, .ref rr)]) rfl ?_
                    exact K289 R r3 rr (by exact wOK_nz hr3 (by rw [h03]; omega)) hv3 (by first | omega | assumption)
                  ·
                    have c_275 : ↑c3 = 0 := by revert c_275; (repeat' split) <;> omega
                    refine sw_aload (n := 280) F 2 (some rr) rfl rfl dJ19_multiply_3_278 rfl ?_
                    refine sw_iconst (n := 281) F (1) (by decide) dJ19_multiply_3_280 rfl ?_
                    refine sw_aload (n := 283) F 2 (some rr) rfl rfl dJ19_multiply_3_281 rfl ?_
                    refine sw_alen (n := 284) F 0 rfl (fun _ => rfl) dJ19_multiply_3_283 rfl ?_
                    refine sw_top (topI (show (↑R : Int) = ↑R by rfl)) ?_
                    refine sw_callS (n := 287) F (ct_J23_copyOfRange_2 (g := xg x) (l := xl x) rr R r3 1 R (by first | omega | assumption)) q1151 q1152 q131 q1153 nd_J23_copyOfRange_2 rfl (by decide) [0, 1] rfl [pl (xg x) M] rfl 1 6 ⟨by omega, by omega⟩ [] rfl (Nat.le_of_ble_eq_true rfl) dJ19_multiply_3_284 rfl (fun _ _ h => h.elim) (fun v Ws h => ?_)
                    obtain ⟨r1_9, f1_10, rfl, hf1_11, rfl⟩ := h
                    show SW x [aN (xg x) 0 r1_9 (R - 1) f1_10, aN (xg x) 0 rr R r3, pl (xg x) M] _ _ _ _ [.ref r1_9]
                    refine sw_astore (n := 289) F (some r1_9) (L2 := [(10, .ref r1_9), (0, .ref q), (3, .int (jI sg)), (11, .long (jL (↑c3)))]) rfl rfl (by decide) dJ19_multiply_3_287 rfl ?_
                    refine sw_drop [0, 2, 1] 2 rfl [aN (xg x) 0 r1_9 (R - 1) f1_10, pl (xg x) M] rfl ?_
                    refine sw_loc [1, 2, 0] (L2 := [(0, .ref q), (3, .int (jI sg)), (10, .ref r1_9)]) rfl ?_
                    exact K289 (R - 1) f1_10 r1_9 (by exact (mul_top hw9 hp9 (by omega) hr3 hv3 (by rw [h03]; omega) (by assumption)).1) (by exact (mul_top hw9 hp9 (by omega) hr3 hv3 (by rw [h03]; omega) (by assumption)).2) (by first | omega | assumption)
                obtain ⟨r1, hr1⟩ : ∃ z : Nat → Nat, z = va_up rf (R - 1 - n9) c := ⟨_, rfl⟩
                have hrX : sm r1 R (n9 + 1) = wv f9 n9 * dl := by rw [hr1, sm_lay (by omega) rfl, hX]
                have hrB : ∀ k, k < R → r1 k < 4294967296 := by rw [hr1]; exact up_lt hrf hc
                have hmn : m_ = n9 := by omega
                refine SW.cast (Ps' := [aN (xg x) 0 rr R r1, pl (xg x) M]) ?_ (by rw [hr1, hmn]) rfl rfl
                refine sw_lload (n := 185) F 2 rfl dJ19_multiply_3_183 rfl ?_
                refine sw_lconst (n := 186) F 0 (by decide) dJ19_multiply_3_185 rfl ?_
                refine sw_lcmp (n := 187) F (by omega) (by decide) dJ19_multiply_3_186 rfl ?_
                refine sw_if_eq (n := 190) F (by omega) (tgt := 271) dJ19_multiply_3_187 (by decide) rfl (fun c_187 => ?_) (fun c_187 => ?_)
                ·
                  have c_187 : ↑dh = 0 := by revert c_187; (repeat' split) <;> omega
                  have K289 : ∀ (R4 : Nat) (r4 : Nat → Nat) (rr4 : Nat), (wOK R4 r4) → (wv r4 R4 = wv f9 n9 * m.natAbs) → (0 < R4 ∧ R4 ≤ 8) → SW x [aN (xg x) 0 rr4 R4 r4, pl (xg x) M] 1 6 289 [(0, .ref q), (3, .int (jI sg)), (10, .ref rr4)] [] := by
                    intro R4 r4 rr4 hw4 hv4 hR4
                    have hvf : wv r4 R4 = (v * d).natAbs := by rw [hv4, hv9, Int.natAbs_mul, show m.natAbs = d.natAbs by omega]
                    refine sw_absA F (fun M_12 hle_13 hat_14 => ?_)
                    show SW x [pl (xg x) M_12] _ _ _ _ []
                    refine sw_new (n := 292) F (ci := 16) (N := 6) RJ19 TJ19 tyJ19 rfl q1064 q1065 q127 in_J19 tyJ19_ok (fs := [.int (jI 0), .null, .int (jI 0), .int (jI 0), .int (jI 0), .int (jI 0)]) rfl 0 0 ⟨by omega, by omega⟩ dJ19_multiply_3_289 rfl (fun q_15 => ?_)
                    refine sw_dup (n := 293) F rfl dJ19_multiply_3_292 rfl ?_
                    refine sw_aload (n := 295) F 2 (some rr4) rfl rfl dJ19_multiply_3_293 rfl ?_
                    refine sw_iload_n (n := 296) F 1 rfl rfl dJ19_multiply_3_295 rfl ?_
                    refine sw_callI (n := 299) F (ct_J19_init_2 (g := xg x) (l := xl x) M_12 q_15 rr4 R4 r4 sg hat_14 (by first | omega | assumption)) q1108 q1109 q127 q1110 rfl nd_J19_init_2 rfl (by decide) [0, 1] rfl [] rfl 0 0 ⟨by omega, by omega⟩ [.ref q_15] rfl (Nat.le_of_ble_eq_true rfl) dJ19_multiply_3_296 rfl (fun _ _ h => h.elim) (fun v Ws h => ?_)
                    obtain ⟨rfl, rfl⟩ := h
                    show SW x [ob (xg x) q_15 16 [.int (jI sg), .ref rr4, .int (jI 0), .int (jI 0), .int (jI 0), .int (jI 0)], pl (xg x) M_12] _ _ _ _ [.ref q_15]
                    refine SW.cast (Ps' := ob (xg x) q_15 16 (flI (v * d) rr4 0 0 0 0) :: [pl (xg x) M_12]) ?_ (by rw [show sg = sgI (v * d) by rcases hm with ⟨_, e, e2⟩ | ⟨_, e, e2⟩; rw [e2, sgI_mp e]; rw [e2, sgI_mn e]]; rfl) rfl rfl
                    refine sw_absI F (Or.inr rfl) hat_14 hw4 hvf (fun M_16 hle_17 hat_18 => ?_)
                    show SW x [pl (xg x) M_16] _ _ _ _ [.ref q_15]
                    exact sw_aret F (some q_15) _ rfl rfl (by first | exact Or.inl ⟨_, rfl⟩ | exact Or.inr ⟨_, rfl⟩) dJ19_multiply_3_299 (by rw [hPo]; exact ⟨M_16, q_15, rr4, rfl, (le_.tr hle_13 hle_17), hat_18, rfl⟩)
                  refine sw_loc [0, 1, 6, 7] (L2 := [(0, .ref q), (3, .int (jI sg)), (10, .ref rr), (11, .long (jL (↑c)))]) rfl ?_
                  exact K271 r1 c hc (by exact hrB) (by rw [wv_sm, hmd, show dh = 0 by omega]; have h2 := hrX; rw [show n9 + 1 = R by omega] at h2; rw [h2, Nat.zero_mul, Nat.zero_add]) (by rw [hr1, vu_eq (by omega)])
                ·
                  have c_187 : ↑dh ≠ 0 := by revert c_187; (repeat' split) <;> omega
                  refine sw_lconst (n := 191) F 0 (by decide) dJ19_multiply_3_190 rfl ?_
                  refine sw_lstore (n := 193) F (L2 := [(11, .long (jL 0)), (0, .ref q), (3, .int (jI sg)), (4, .long (jL (↑dh))), (6, .long (jL (↑dl))), (8, .int (jI (↑n9))), (9, .ref a), (10, .ref rr), (13, .int (jI (↑R - 1 - ↑m_))), (14, .int (jI (↑n9 - 1 - ↑m_)))]) rfl (by decide) dJ19_multiply_3_191 rfl ?_
                  refine sw_aload (n := 195) F 7 (some rr) rfl rfl dJ19_multiply_3_193 rfl ?_
                  refine sw_alen (n := 196) F 0 rfl (fun _ => rfl) dJ19_multiply_3_195 rfl ?_
                  refine sw_iconst (n := 197) F (2) (by decide) dJ19_multiply_3_196 rfl ?_
                  refine sw_isub (n := 198) F dJ19_multiply_3_197 rfl ?_
                  refine sw_istore (n := 200) F (L2 := [(13, .int (jI ((↑R) - 2))), (11, .long (jL 0)), (0, .ref q), (3, .int (jI sg)), (4, .long (jL (↑dh))), (6, .long (jL (↑dl))), (8, .int (jI (↑n9))), (9, .ref a), (10, .ref rr), (14, .int (jI (↑n9 - 1 - ↑m_)))]) rfl (by decide) dJ19_multiply_3_198 rfl ?_
                  refine sw_iload (n := 202) F 6 rfl dJ19_multiply_3_200 rfl ?_
                  refine sw_iconst (n := 203) F (1) (by decide) dJ19_multiply_3_202 rfl ?_
                  refine sw_isub (n := 204) F dJ19_multiply_3_203 rfl ?_
                  refine sw_istore (n := 206) F (L2 := [(14, .int (jI ((↑n9) - 1))), (13, .int (jI ((↑R) - 2))), (11, .long (jL 0)), (0, .ref q), (3, .int (jI sg)), (4, .long (jL (↑dh))), (6, .long (jL (↑dl))), (8, .int (jI (↑n9))), (9, .ref a), (10, .ref rr)]) rfl (by decide) dJ19_multiply_3_204 rfl ?_
                  have K206 : ∀ N206 : Nat, ∀ (m_ : Nat) (rf2 : Nat → Nat) (c2 : Nat), (m_ ≤ n9) → (c2 < 4294967296) → (∀ k, k < R → rf2 k < 4294967296) → (sm rf2 R (m_ + 1) + c2 * bw (m_ + 1) = sm r1 R (m_ + 1) + sm f9 n9 m_ * dh * 4294967296) → (∀ j, j < R - 1 - m_ → rf2 j = r1 j) → ((n9 - m_) < N206) → SW x [aN (xg x) 0 rr R rf2, pl (xg x) M] 2 14 206 [(0, .ref q), (3, .int (jI sg)), (4, .long (jL (↑dh))), (8, .int (jI (↑n9))), (9, .ref a), (10, .ref rr), (11, .long (jL (↑c2))), (13, .int (jI (↑R - 2 - ↑m_))), (14, .int (jI (↑n9 - 1 - ↑m_)))] [] := by
                    intro N206; induction N206 with
                    | zero => intro m_ rf2 c2 hm_ hc hrf hri hrz hmu206; omega
                    | succ N206 ih206 =>
                      intro m_ rf2 c2 hm_ hc hrf hri hrz hmu206
                      refine sw_iload (n := 208) F 8 rfl dJ19_multiply_3_206 rfl ?_
                      refine sw_if_lt (n := 211) F (by omega) (tgt := 264) dJ19_multiply_3_208 (by decide) rfl (fun c_208 => ?_) (fun c_208 => ?_)
                      ·
                        refine sw_aload (n := 266) F 5 (some rr) rfl rfl dJ19_multiply_3_264 rfl ?_
                        refine sw_iconst (n := 267) F (0) (by decide) dJ19_multiply_3_266 rfl ?_
                        refine sw_lload (n := 269) F 6 rfl dJ19_multiply_3_267 rfl ?_
                        refine sw_l2i (n := 270) F dJ19_multiply_3_269 rfl ?_
                        refine sw_iastoreW (n := 271) F 0 rfl (fun _ => rfl) 0 rfl (by omega) c2 (by first | omega | rfl) [aN (xg x) 0 rr R (va_up rf2 0 c2), pl (xg x) M] (by rfl) dJ19_multiply_3_270 rfl ?_
                        have K289 : ∀ (R4 : Nat) (r4 : Nat → Nat) (rr4 : Nat), (wOK R4 r4) → (wv r4 R4 = wv f9 n9 * m.natAbs) → (0 < R4 ∧ R4 ≤ 8) → SW x [aN (xg x) 0 rr4 R4 r4, pl (xg x) M] 1 6 289 [(0, .ref q), (3, .int (jI sg)), (10, .ref rr4)] [] := by
                          intro R4 r4 rr4 hw4 hv4 hR4
                          have hvf : wv r4 R4 = (v * d).natAbs := by rw [hv4, hv9, Int.natAbs_mul, show m.natAbs = d.natAbs by omega]
                          refine sw_absA F (fun M_19 hle_20 hat_21 => ?_)
                          show SW x [pl (xg x) M_19] _ _ _ _ []
                          refine sw_new (n := 292) F (ci := 16) (N := 6) RJ19 TJ19 tyJ19 rfl q1064 q1065 q127 in_J19 tyJ19_ok (fs := [.int (jI 0), .null, .int (jI 0), .int (jI 0), .int (jI 0), .int (jI 0)]) rfl 0 0 ⟨by omega, by omega⟩ dJ19_multiply_3_289 rfl (fun q_22 => ?_)
                          refine sw_dup (n := 293) F rfl dJ19_multiply_3_292 rfl ?_
                          refine sw_aload (n := 295) F 2 (some rr4) rfl rfl dJ19_multiply_3_293 rfl ?_
                          refine sw_iload_n (n := 296) F 1 rfl rfl dJ19_multiply_3_295 rfl ?_
                          refine sw_callI (n := 299) F (ct_J19_init_2 (g := xg x) (l := xl x) M_19 q_22 rr4 R4 r4 sg hat_21 (by first | omega | assumption)) q1108 q1109 q127 q1110 rfl nd_J19_init_2 rfl (by decide) [0, 1] rfl [] rfl 0 0 ⟨by omega, by omega⟩ [.ref q_22] rfl (Nat.le_of_ble_eq_true rfl) dJ19_multiply_3_296 rfl (fun _ _ h => h.elim) (fun v Ws h => ?_)
                          obtain ⟨rfl, rfl⟩ := h
                          show SW x [ob (xg x) q_22 16 [.int (jI sg), .ref rr4, .int (jI 0), .int (jI 0), .int (jI 0), .int (jI 0)], pl (xg x) M_19] _ _ _ _ [.ref q_22]
                          refine SW.cast (Ps' := ob (xg x) q_22 16 (flI (v * d) rr4 0 0 0 0) :: [pl (xg x) M_19]) ?_ (by rw [show sg = sgI (v * d) by rcases hm with ⟨_, e, e2⟩ | ⟨_, e, e2⟩; rw [e2, sgI_mp e]; rw [e2, sgI_mn e]]; rfl) rfl rfl
                          refine sw_absI F (Or.inr rfl) hat_21 hw4 hvf (fun M_23 hle_24 hat_25 => ?_)
                          show SW x [pl (xg x) M_23] _ _ _ _ [.ref q_22]
                          exact sw_aret F (some q_22) _ rfl rfl (by first | exact Or.inl ⟨_, rfl⟩ | exact Or.inr ⟨_, rfl⟩) dJ19_multiply_3_299 (by rw [hPo]; exact ⟨M_23, q_22, rr4, rfl, (le_.tr hle_20 hle_24), hat_25, rfl⟩)
                        refine sw_loc [0, 1, 5, 6] (L2 := [(0, .ref q), (3, .int (jI sg)), (10, .ref rr), (11, .long (jL (↑c2)))]) rfl ?_
                        exact K271 (va_up rf2 0 c2) c2 hc (by exact up_lt hrf hc) (by rw [wv_sm, hmd]; have e := sm_lay (f := rf2) (n := R) (m := n9 + 1) (j := 0) (v := c2) (by omega) (by omega); rw [show n9 + 1 + 1 = R by omega] at e; rw [e]; have h2 := hri; rw [show m_ = n9 by omega, hrX, ← wv_sm] at h2; rw [Nat.mul_add, ← Nat.mul_assoc]; omega) (by exact vu_eq rfl)
                      ·
                        refine sw_aload (n := 213) F 4 (some a) rfl rfl dJ19_multiply_3_211 rfl ?_
                        refine sw_iload (n := 215) F 8 rfl dJ19_multiply_3_213 rfl ?_
                        refine sw_ialoadK (n := 216) F (plA F 1 rfl ha9) (n9 - 1 - m_) (by omega) (by omega) dJ19_multiply_3_215 rfl ?_
                        show SW x _ _ _ _ _ [.int (jI (↑(f9 (n9 - 1 - m_))))]
                        have hb_26 : f9 (n9 - 1 - m_) < 4294967296 := hw9.1 _ (by omega)
                        refine sw_i2lr (n := 217) F dJ19_multiply_3_216 rfl ?_
                        refine sw_ldc2 (n := 220) F (4294967295) q1106 (by decide) dJ19_multiply_3_217 rfl ?_
                        refine sw_land (n := 221) F (jL (↑(f9 (n9 - 1 - m_)))) (jI_wordE (by omega)) dJ19_multiply_3_220 rfl ?_
                        refine sw_lload (n := 223) F 2 rfl dJ19_multiply_3_221 rfl ?_
                        have hb_x : f9 (n9 - 1 - m_) < 4294967296 := hw9.1 _ (by omega)
                        refine sw_lmul (n := 224) F dJ19_multiply_3_223 rfl ?_
                        refine sw_aload (n := 226) F 5 (some rr) rfl rfl dJ19_multiply_3_224 rfl ?_
                        refine sw_iload (n := 228) F 7 rfl dJ19_multiply_3_226 rfl ?_
                        refine sw_ialoadN (n := 229) F 0 rfl (fun _ => rfl) (R - 2 - m_) (by omega) (by omega) dJ19_multiply_3_228 rfl ?_
                        have hb_27 : rf2 (R - 2 - m_) < 4294967296 := hrf _ (by omega)
                        refine sw_i2lr (n := 230) F dJ19_multiply_3_229 rfl ?_
                        refine sw_ldc2 (n := 233) F (4294967295) q1106 (by decide) dJ19_multiply_3_230 rfl ?_
                        refine sw_land (n := 234) F (jL (↑(rf2 (R - 2 - m_)))) (jI_wordE (by omega)) dJ19_multiply_3_233 rfl ?_
                        refine sw_ladd (n := 235) F dJ19_multiply_3_234 rfl ?_
                        refine sw_lload (n := 237) F 6 rfl dJ19_multiply_3_235 rfl ?_
                        refine sw_ladd (n := 238) F dJ19_multiply_3_237 rfl ?_
                        obtain ⟨p, hp⟩ : ∃ z : Nat, z = f9 (n9 - 1 - m_) * dh + rf2 (R - 2 - m_) + c2 := ⟨_, rfl⟩
                        refine sw_top (topL (show ((((↑(f9 (n9 - 1 - m_))) * (↑dh)) + (↑(rf2 (R - 2 - m_)))) + (↑c2) : Int) = ↑p by rw [hp, Int.natCast_add, Int.natCast_add, Int.natCast_mul])) ?_
                        have hpf := mul_fit2 (d := dh) hb_x (by omega) (hrf (R - 2 - m_) (by omega)) hc
                        rw [← hp] at hpf
                        refine sw_lstore (n := 240) F (L2 := [(15, .long (jL (↑p))), (0, .ref q), (3, .int (jI sg)), (4, .long (jL (↑dh))), (8, .int (jI (↑n9))), (9, .ref a), (10, .ref rr), (11, .long (jL (↑c2))), (13, .int (jI (↑R - 2 - ↑m_))), (14, .int (jI (↑n9 - 1 - ↑m_)))]) rfl (by decide) dJ19_multiply_3_238 rfl ?_
                        refine sw_aload (n := 242) F 6 (some rr) rfl rfl dJ19_multiply_3_240 rfl ?_
                        refine sw_iload (n := 244) F 8 rfl dJ19_multiply_3_242 rfl ?_
                        refine sw_iinc (n := 247) F 8 (L2 := [(13, .int (jI (↑R - 2 - ↑m_ + (-1)))), (15, .long (jL (↑p))), (0, .ref q), (3, .int (jI sg)), (4, .long (jL (↑dh))), (8, .int (jI (↑n9))), (9, .ref a), (10, .ref rr), (11, .long (jL (↑c2))), (14, .int (jI (↑n9 - 1 - ↑m_)))]) rfl rfl (by decide) dJ19_multiply_3_244 rfl ?_
                        refine sw_lload (n := 249) F 1 rfl dJ19_multiply_3_247 rfl ?_
                        refine sw_l2i (n := 250) F dJ19_multiply_3_249 rfl ?_
                        refine sw_iastoreW (n := 251) F 0 rfl (fun _ => rfl) (R - 2 - m_) (by omega) (by omega) (p % 4294967296) (by first | omega | rfl) [aN (xg x) 0 rr R (va_up rf2 (R - 2 - m_) (p % 4294967296)), pl (xg x) M] (by rfl) dJ19_multiply_3_250 rfl ?_
                        refine sw_lload (n := 253) F 1 rfl dJ19_multiply_3_251 rfl ?_
                        refine sw_bipush (n := 255) F (32) (by decide) dJ19_multiply_3_253 rfl ?_
                        refine sw_lushr (n := 256) F _ (jL_ushr32 _) dJ19_multiply_3_255 rfl ?_
                        refine sw_top (topL (show ((↑p) % 18446744073709551616 / 4294967296 : Int) = ↑(p / 4294967296) by omega)) ?_
                        refine sw_lstore (n := 258) F (L2 := [(11, .long (jL (↑(p / 4294967296)))), (13, .int (jI (↑R - 2 - ↑m_ + (-1)))), (15, .long (jL (↑p))), (0, .ref q), (3, .int (jI sg)), (4, .long (jL (↑dh))), (8, .int (jI (↑n9))), (9, .ref a), (10, .ref rr), (14, .int (jI (↑n9 - 1 - ↑m_)))]) rfl (by decide) dJ19_multiply_3_256 rfl ?_
                        refine sw_iinc (n := 261) F 9 (L2 := [(14, .int (jI (↑n9 - 1 - ↑m_ + (-1)))), (11, .long (jL (↑(p / 4294967296)))), (13, .int (jI (↑R - 2 - ↑m_ + (-1)))), (15, .long (jL (↑p))), (0, .ref q), (3, .int (jI sg)), (4, .long (jL (↑dh))), (8, .int (jI (↑n9))), (9, .ref a), (10, .ref rr)]) rfl rfl (by decide) dJ19_multiply_3_258 rfl ?_
                        refine sw_goto F (n := 206) dJ19_multiply_3_261 (by decide) ?_
                        refine sw_loc [4, 5, 6, 7, 8, 9, 1, 2, 0] (L2 := [(0, .ref q), (3, .int (jI sg)), (4, .long (jL (↑dh))), (8, .int (jI (↑n9))), (9, .ref a), (10, .ref rr), (11, .long (jL (↑(p / 4294967296)))), (13, .int (jI (↑R - 2 - ↑m_ + (-1)))), (14, .int (jI (↑n9 - 1 - ↑m_ + (-1))))]) rfl ?_
                        rw [show (↑R - 2 - ↑m_ + (-1) : Int) = ↑R - 2 - ↑(m_ + 1) by omega]
                        rw [show (↑n9 - 1 - ↑m_ + (-1) : Int) = ↑n9 - 1 - ↑(m_ + 1) by omega]
                        exact ih206 (m_ + 1) (va_up rf2 (R - 2 - m_) (p % 4294967296)) (p / 4294967296) (by first | omega | assumption) (by exact hpf.2) (by first | assumption | (intro k _; decide) | exact up_lt hrf (by omega)) (by rw [show R - 2 - m_ = R - 1 - (m_ + 1) by omega]; rw [show R - 2 - m_ = R - 1 - (m_ + 1) by omega] at hp; exact mul_step2 hri (hrz _ (by omega)) hp (by omega)) (by intro j hj; rw [vu_ne (by omega)]; exact hrz j (by omega)) (by omega)
                  refine sw_loc [3, 4, 5, 7, 8, 9, 2, 1, 0] (L2 := [(0, .ref q), (3, .int (jI sg)), (4, .long (jL (↑dh))), (8, .int (jI (↑n9))), (9, .ref a), (10, .ref rr), (11, .long (jL 0)), (13, .int (jI ((↑R) - 2))), (14, .int (jI ((↑n9) - 1)))]) rfl ?_
                  rw [show ((↑R) - 2 : Int) = ↑R - 2 - 0 by omega]
                  rw [show ((↑n9) - 1 : Int) = ↑n9 - 1 - 0 by omega]
                  exact K206 _ 0 r1 0 (by first | omega | assumption) (by decide) (by exact hrB) (by rw [sm_0]; omega) (by intro j _; rfl) (Nat.lt_succ_self _)
              ·
                refine sw_aload (n := 135) F 5 (some a) rfl rfl dJ19_multiply_3_133 rfl ?_
                refine sw_iload (n := 137) F 9 rfl dJ19_multiply_3_135 rfl ?_
                refine sw_ialoadK (n := 138) F (plA F 1 rfl ha9) (n9 - 1 - m_) (by omega) (by omega) dJ19_multiply_3_137 rfl ?_
                show SW x _ _ _ _ _ [.int (jI (↑(f9 (n9 - 1 - m_))))]
                have hb_28 : f9 (n9 - 1 - m_) < 4294967296 := hw9.1 _ (by omega)
                refine sw_i2lr (n := 139) F dJ19_multiply_3_138 rfl ?_
                refine sw_ldc2 (n := 142) F (4294967295) q1106 (by decide) dJ19_multiply_3_139 rfl ?_
                refine sw_land (n := 143) F (jL (↑(f9 (n9 - 1 - m_)))) (jI_wordE (by omega)) dJ19_multiply_3_142 rfl ?_
                refine sw_lload (n := 145) F 3 rfl dJ19_multiply_3_143 rfl ?_
                have hb_x : f9 (n9 - 1 - m_) < 4294967296 := hw9.1 _ (by omega)
                refine sw_lmul (n := 146) F dJ19_multiply_3_145 rfl ?_
                refine sw_lload (n := 148) F 7 rfl dJ19_multiply_3_146 rfl ?_
                refine sw_ladd (n := 149) F dJ19_multiply_3_148 rfl ?_
                obtain ⟨p, hp⟩ : ∃ z : Nat, z = f9 (n9 - 1 - m_) * dl + c := ⟨_, rfl⟩
                refine sw_top (topL (show (((↑(f9 (n9 - 1 - m_))) * (↑dl)) + (↑c) : Int) = ↑p by rw [hp, Int.natCast_add, Int.natCast_mul])) ?_
                have hpf := mul_fit (d := dl) hb_x (by omega) hc
                rw [← hp] at hpf
                refine sw_lstore (n := 151) F (L2 := [(15, .long (jL (↑p))), (0, .ref q), (3, .int (jI sg)), (4, .long (jL (↑dh))), (6, .long (jL (↑dl))), (8, .int (jI (↑n9))), (9, .ref a), (10, .ref rr), (11, .long (jL (↑c))), (13, .int (jI (↑R - 1 - ↑m_))), (14, .int (jI (↑n9 - 1 - ↑m_)))]) rfl (by decide) dJ19_multiply_3_149 rfl ?_
                refine sw_aload (n := 153) F 7 (some rr) rfl rfl dJ19_multiply_3_151 rfl ?_
                refine sw_iload (n := 155) F 9 rfl dJ19_multiply_3_153 rfl ?_
                refine sw_iinc (n := 158) F 9 (L2 := [(13, .int (jI (↑R - 1 - ↑m_ + (-1)))), (15, .long (jL (↑p))), (0, .ref q), (3, .int (jI sg)), (4, .long (jL (↑dh))), (6, .long (jL (↑dl))), (8, .int (jI (↑n9))), (9, .ref a), (10, .ref rr), (11, .long (jL (↑c))), (14, .int (jI (↑n9 - 1 - ↑m_)))]) rfl rfl (by decide) dJ19_multiply_3_155 rfl ?_
                refine sw_lload (n := 160) F 1 rfl dJ19_multiply_3_158 rfl ?_
                refine sw_l2i (n := 161) F dJ19_multiply_3_160 rfl ?_
                refine sw_iastoreW (n := 162) F 0 rfl (fun _ => rfl) (R - 1 - m_) (by omega) (by omega) (p % 4294967296) (by first | omega | rfl) [aN (xg x) 0 rr R (va_up rf (R - 1 - m_) (p % 4294967296)), pl (xg x) M] (by rfl) dJ19_multiply_3_161 rfl ?_
                refine sw_lload (n := 164) F 1 rfl dJ19_multiply_3_162 rfl ?_
                refine sw_bipush (n := 166) F (32) (by decide) dJ19_multiply_3_164 rfl ?_
                refine sw_lushr (n := 167) F _ (jL_ushr32 _) dJ19_multiply_3_166 rfl ?_
                refine sw_top (topL (show ((↑p) % 18446744073709551616 / 4294967296 : Int) = ↑(p / 4294967296) by omega)) ?_
                refine sw_lstore (n := 169) F (L2 := [(11, .long (jL (↑(p / 4294967296)))), (13, .int (jI (↑R - 1 - ↑m_ + (-1)))), (15, .long (jL (↑p))), (0, .ref q), (3, .int (jI sg)), (4, .long (jL (↑dh))), (6, .long (jL (↑dl))), (8, .int (jI (↑n9))), (9, .ref a), (10, .ref rr), (14, .int (jI (↑n9 - 1 - ↑m_)))]) rfl (by decide) dJ19_multiply_3_167 rfl ?_
                refine sw_iinc (n := 172) F 10 (L2 := [(14, .int (jI (↑n9 - 1 - ↑m_ + (-1)))), (11, .long (jL (↑(p / 4294967296)))), (13, .int (jI (↑R - 1 - ↑m_ + (-1)))), (15, .long (jL (↑p))), (0, .ref q), (3, .int (jI sg)), (4, .long (jL (↑dh))), (6, .long (jL (↑dl))), (8, .int (jI (↑n9))), (9, .ref a), (10, .ref rr)]) rfl rfl (by decide) dJ19_multiply_3_169 rfl ?_
                refine sw_goto F (n := 128) dJ19_multiply_3_172 (by decide) ?_
                refine sw_loc [4, 5, 6, 7, 8, 9, 10, 1, 2, 0] (L2 := [(0, .ref q), (3, .int (jI sg)), (4, .long (jL (↑dh))), (6, .long (jL (↑dl))), (8, .int (jI (↑n9))), (9, .ref a), (10, .ref rr), (11, .long (jL (↑(p / 4294967296)))), (13, .int (jI (↑R - 1 - ↑m_ + (-1)))), (14, .int (jI (↑n9 - 1 - ↑m_ + (-1))))]) rfl ?_
                rw [show (↑R - 1 - ↑m_ + (-1) : Int) = ↑R - 1 - ↑(m_ + 1) by omega]
                rw [show (↑n9 - 1 - ↑m_ + (-1) : Int) = ↑n9 - 1 - ↑(m_ + 1) by omega]
                exact ih128 (m_ + 1) (va_up rf (R - 1 - m_) (p % 4294967296)) (p / 4294967296) (by first | omega | assumption) (by exact hpf.2) (by first | assumption | (intro k _; decide) | exact up_lt hrf (by omega)) (by exact mul_step hri hp (by omega)) (by intro j hj; rw [vu_ne (by omega)]; exact hrz j (by omega)) (by omega)
          refine sw_loc [2, 3, 4, 5, 6, 7, 8, 9, 1, 0] (L2 := [(0, .ref q), (3, .int (jI sg)), (4, .long (jL (↑dh))), (6, .long (jL (↑dl))), (8, .int (jI (↑n9))), (9, .ref a), (10, .ref rr), (11, .long (jL 0)), (13, .int (jI ((↑R) - 1))), (14, .int (jI ((↑n9) - 1)))]) rfl ?_
          rw [show ((↑R) - 1 : Int) = ↑R - 1 - 0 by omega]
          rw [show ((↑n9) - 1 : Int) = ↑n9 - 1 - 0 by omega]
          exact K128 _ 0 (fun _ => 0) 0 (by first | omega | assumption) (by decide) (by first | assumption | (intro k _; decide) | exact up_lt hrf (by omega)) (by rw [sm_0, sm_0]; omega) (by intro j _; rfl) (Nat.lt_succ_self _)
        refine sw_lload (n := 90) F 3 rfl dJ19_multiply_3_88 rfl ?_
        refine sw_lconst (n := 91) F 0 (by decide) dJ19_multiply_3_90 rfl ?_
        refine sw_lcmp (n := 92) F (by omega) (by decide) dJ19_multiply_3_91 rfl ?_
        refine sw_if_ne (n := 95) F (by omega) (tgt := 104) dJ19_multiply_3_92 (by decide) rfl (fun c_92 => ?_) (fun c_92 => ?_)
        ·
          have c_92 : ↑dh ≠ 0 := by revert c_92; (repeat' split) <;> omega
          refine sw_iload (n := 106) F 1 rfl dJ19_multiply_3_104 rfl ?_
          refine sw_iconst (n := 107) F (2) (by decide) dJ19_multiply_3_106 rfl ?_
          refine sw_iadd (n := 108) F dJ19_multiply_3_107 rfl ?_
          refine sw_newaN (n := 110) F (n9 + 2) (by first | omega | rfl) (by omega) 2 14 ⟨by omega, by omega⟩ dJ19_multiply_3_108 rfl (fun q_29 => ?_)
          refine sw_astore (n := 112) F (some q_29) (L2 := [(10, .ref q_29), (9, .ref a), (8, .int (jI (↑n9))), (6, .long (jL (↑dl))), (4, .long (jL (↑dh))), (0, .ref q), (1, .long (jL m)), (3, .int (jI sg))]) rfl rfl (by decide) dJ19_multiply_3_110 rfl ?_
          refine sw_lconst (n := 113) F 0 (by decide) dJ19_multiply_3_112 rfl ?_
          refine sw_lstore (n := 115) F (L2 := [(11, .long (jL 0)), (10, .ref q_29), (9, .ref a), (8, .int (jI (↑n9))), (6, .long (jL (↑dl))), (4, .long (jL (↑dh))), (0, .ref q), (1, .long (jL m)), (3, .int (jI sg))]) rfl (by decide) dJ19_multiply_3_113 rfl ?_
          refine sw_loc [6, 8, 5, 4, 3, 2, 1, 0] (L2 := [(0, .ref q), (3, .int (jI sg)), (4, .long (jL (↑dh))), (6, .long (jL (↑dl))), (8, .int (jI (↑n9))), (9, .ref a), (10, .ref q_29), (11, .long (jL 0))]) rfl ?_
          exact K115 (n9 + 2) q_29 (by first | omega | assumption)
        ·
          have c_92 : ↑dh = 0 := by revert c_92; (repeat' split) <;> omega
          refine sw_iload (n := 97) F 1 rfl dJ19_multiply_3_95 rfl ?_
          refine sw_iconst (n := 98) F (1) (by decide) dJ19_multiply_3_97 rfl ?_
          refine sw_iadd (n := 99) F dJ19_multiply_3_98 rfl ?_
          refine sw_newaN (n := 101) F (n9 + 1) (by first | omega | rfl) (by omega) 2 15 ⟨by omega, by omega⟩ dJ19_multiply_3_99 rfl (fun q_30 => ?_)
          refine sw_goto F (n := 110) dJ19_multiply_3_101 (by decide) ?_
          refine sw_astore (n := 112) F (some q_30) (L2 := [(10, .ref q_30), (9, .ref a), (8, .int (jI (↑n9))), (6, .long (jL (↑dl))), (4, .long (jL (↑dh))), (0, .ref q), (1, .long (jL m)), (3, .int (jI sg))]) rfl rfl (by decide) dJ19_multiply_3_110 rfl ?_
          refine sw_lconst (n := 113) F 0 (by decide) dJ19_multiply_3_112 rfl ?_
          refine sw_lstore (n := 115) F (L2 := [(11, .long (jL 0)), (10, .ref q_30), (9, .ref a), (8, .int (jI (↑n9))), (6, .long (jL (↑dl))), (4, .long (jL (↑dh))), (0, .ref q), (1, .long (jL m)), (3, .int (jI sg))]) rfl (by decide) dJ19_multiply_3_113 rfl ?_
          refine sw_room (bc2 := 2) (bs2 := 14) ⟨by omega, by omega⟩ ?_
          refine sw_loc [6, 8, 5, 4, 3, 2, 1, 0] (L2 := [(0, .ref q), (3, .int (jI sg)), (4, .long (jL (↑dh))), (6, .long (jL (↑dl))), (8, .int (jI (↑n9))), (9, .ref a), (10, .ref q_30), (11, .long (jL 0))]) rfl ?_
          exact K115 (n9 + 1) q_30 (by first | omega | assumption)
      have hvn : v ≠ 0 := by omega
      refine sw_lload_n (n := 18) F 1 rfl rfl dJ19_multiply_3_17 rfl ?_
      refine sw_ldc2 (n := 21) F (-9223372036854775808) q1141 (by decide) dJ19_multiply_3_18 rfl ?_
      refine sw_lcmp (n := 22) F (by omega) (by decide) dJ19_multiply_3_21 rfl ?_
      refine sw_if_ne (n := 25) F (by omega) (tgt := 34) dJ19_multiply_3_22 (by decide) rfl (fun c_22 => ?_) (fun c_22 => ?_)
      ·
        have c_22 : d ≠ -9223372036854775808 := by revert c_22; (repeat' split) <;> omega
        refine sw_lload_n (n := 35) F 1 rfl rfl dJ19_multiply_3_34 rfl ?_
        refine sw_lconst (n := 36) F 0 (by decide) dJ19_multiply_3_35 rfl ?_
        refine sw_lcmp (n := 37) F (by omega) (by decide) dJ19_multiply_3_36 rfl ?_
        refine sw_if_le (n := 40) F (by omega) (tgt := 47) dJ19_multiply_3_37 (by decide) rfl (fun c_37 => ?_) (fun c_37 => ?_)
        ·
          have c_37 : d ≤ 0 := by revert c_37; (repeat' split) <;> omega
          refine sw_aload_n (n := 48) F 0 (some q) rfl rfl rfl dJ19_multiply_3_47 rfl ?_
          refine sw_getI (n := 51) F 0 rfl hx (k := 0) ⟨(RJ19, TJ19, 6), rfl, by decide, q1070, in_J19, Or.inl rfl⟩ (.int (jI (sgI v))) (fun _ _ _ _ => rfl) dJ19_multiply_3_48 rfl ?_
          refine sw_ineg (n := 52) F dJ19_multiply_3_51 rfl ?_
          refine sw_istore_n (n := 53) F (L2 := [(3, .int (jI (-(sgI v)))), (0, .ref q), (1, .long (jL d))]) rfl (by decide) rfl dJ19_multiply_3_52 rfl ?_
          refine sw_lload_n (n := 54) F 2 rfl rfl dJ19_multiply_3_53 rfl ?_
          refine sw_lconst (n := 55) F 0 (by decide) dJ19_multiply_3_54 rfl ?_
          refine sw_lcmp (n := 56) F (by omega) (by decide) dJ19_multiply_3_55 rfl ?_
          refine sw_if_ge (n := 59) F (by omega) (tgt := 62) dJ19_multiply_3_56 (by decide) rfl (fun c_56 => ?_) (fun c_56 => ?_)
          ·
            have c_56 : d ≥ 0 := by revert c_56; (repeat' split) <;> omega
            refine sw_loc [1, 2, 0] (L2 := [(0, .ref q), (1, .long (jL d)), (3, .int (jI (-(sgI v))))]) rfl ?_
            exact K62 d (-(sgI v)) hvn (by first | omega | assumption)
          ·
            have c_56 : d < 0 := by revert c_56; (repeat' split) <;> omega
            refine sw_lload_n (n := 60) F 2 rfl rfl dJ19_multiply_3_59 rfl ?_
            refine sw_lneg (n := 61) F dJ19_multiply_3_60 rfl ?_
            refine sw_lstore_n (n := 62) F (L2 := [(1, .long (jL (-d))), (3, .int (jI (-(sgI v)))), (0, .ref q)]) rfl (by decide) rfl dJ19_multiply_3_61 rfl ?_
            refine sw_loc [2, 0, 1] (L2 := [(0, .ref q), (1, .long (jL (-d))), (3, .int (jI (-(sgI v))))]) rfl ?_
            exact K62 (-d) (-(sgI v)) hvn (by first | omega | assumption)
        ·
          have c_37 : d > 0 := by revert c_37; (repeat' split) <;> omega
          refine sw_aload_n (n := 41) F 0 (some q) rfl rfl rfl dJ19_multiply_3_40 rfl ?_
          refine sw_getI (n := 44) F 0 rfl hx (k := 0) ⟨(RJ19, TJ19, 6), rfl, by decide, q1070, in_J19, Or.inl rfl⟩ (.int (jI (sgI v))) (fun _ _ _ _ => rfl) dJ19_multiply_3_41 rfl ?_
          refine sw_goto F (n := 52) dJ19_multiply_3_44 (by decide) ?_
          refine sw_istore_n (n := 53) F (L2 := [(3, .int (jI (sgI v))), (0, .ref q), (1, .long (jL d))]) rfl (by decide) rfl dJ19_multiply_3_52 rfl ?_
          refine sw_lload_n (n := 54) F 2 rfl rfl dJ19_multiply_3_53 rfl ?_
          refine sw_lconst (n := 55) F 0 (by decide) dJ19_multiply_3_54 rfl ?_
          refine sw_lcmp (n := 56) F (by omega) (by decide) dJ19_multiply_3_55 rfl ?_
          refine sw_if_ge (n := 59) F (by omega) (tgt := 62) dJ19_multiply_3_56 (by decide) rfl (fun c_56 => ?_) (fun c_56 => ?_)
          ·
            have c_56 : d ≥ 0 := by revert c_56; (repeat' split) <;> omega
            refine sw_loc [1, 2, 0] (L2 := [(0, .ref q), (1, .long (jL d)), (3, .int (jI (sgI v)))]) rfl ?_
            exact K62 d (sgI v) hvn (by first | omega | assumption)
          ·
            have c_56 : d < 0 := by revert c_56; (repeat' split) <;> omega
            refine sw_lload_n (n := 60) F 2 rfl rfl dJ19_multiply_3_59 rfl ?_
            refine sw_lneg (n := 61) F dJ19_multiply_3_60 rfl ?_
            refine sw_lstore_n (n := 62) F (L2 := [(1, .long (jL (-d))), (3, .int (jI (sgI v))), (0, .ref q)]) rfl (by decide) rfl dJ19_multiply_3_61 rfl ?_
            refine sw_loc [2, 0, 1] (L2 := [(0, .ref q), (1, .long (jL (-d))), (3, .int (jI (sgI v)))]) rfl ?_
            exact K62 (-d) (sgI v) hvn (by first | omega | assumption)
      · exfalso; omega
    ·
      refine sw_gets (n := 16) F (kBZ F.gx.1).1 q1057 (Or.inl rfl) dJ19_multiply_3_13 rfl ?_
      have hk_31 : at_ (xg x) M (tR (xg x) (Jvm.Term.static "java/math/BigInteger" "ZERO" "Ljava/math/BigInteger;")) (vI 0 (tR (xg x) (.field (Jvm.Term.static "java/math/BigInteger" "ZERO" "Ljava/math/BigInteger;") "java/math/BigInteger" "mag" "[I"))) := Or.inr (kBZ F.gx.1).2
      exact sw_aret F (some (tR (xg x) (Jvm.Term.static "java/math/BigInteger" "ZERO" "Ljava/math/BigInteger;"))) _ rfl rfl (by first | exact Or.inl ⟨_, rfl⟩ | exact Or.inr ⟨_, rfl⟩) dJ19_multiply_3_16 (by rw [hPo]; exact ⟨M, tR (xg x) (Jvm.Term.static "java/math/BigInteger" "ZERO" "Ljava/math/BigInteger;"), tR (xg x) (.field (Jvm.Term.static "java/math/BigInteger" "ZERO" "Ljava/math/BigInteger;") "java/math/BigInteger" "mag" "[I"), rfl, le_.rf, (by first | (rw [show v * d = 0 by rw [show d = 0 by omega]; exact Int.mul_zero v]; assumption) | (rw [show v * d = 0 by rw [show v = 0 by omega]; exact Int.zero_mul d]; assumption)), rfl⟩)
