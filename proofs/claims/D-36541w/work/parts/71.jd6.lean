set_option maxRecDepth 100000
def dkwJ8_add_4 : List UInt8 := [180, 0, 28, 42, 180, 0, 17, 43, 180, 0, 28, 43, 180, 0, 17, 184, 1, 8, 176]
abbrev dktJ8_add_4 : List UInt8 := dkwJ8_add_4 ++ []
def dkwJ8_add_3 : List UInt8 := [153, 0, 23, 43, 180, 0, 24, 43, 180, 0, 17, 42, 180, 0, 28, 42, 180, 0, 17, 184, 1, 5, 176, 42]
abbrev dktJ8_add_3 : List UInt8 := dkwJ8_add_3 ++ dktJ8_add_4
def dkwJ8_add_2 : List UInt8 := [180, 0, 17, 43, 180, 0, 28, 43, 180, 0, 17, 184, 1, 5, 176, 43, 180, 0, 24, 20, 0, 125, 148]
abbrev dktJ8_add_2 : List UInt8 := dkwJ8_add_2 ++ dktJ8_add_3
def dkwJ8_add_1 : List UInt8 := [180, 0, 24, 42, 180, 0, 17, 43, 180, 0, 24, 43, 180, 0, 17, 184, 1, 1, 176, 42, 180, 0, 24, 42]
abbrev dktJ8_add_1 : List UInt8 := dkwJ8_add_1 ++ dktJ8_add_2
def dkwJ8_add_0 : List UInt8 := [42, 180, 0, 24, 20, 0, 125, 148, 153, 0, 54, 43, 180, 0, 24, 20, 0, 125, 148, 153, 0, 23, 42]
abbrev dktJ8_add_0 : List UInt8 := dkwJ8_add_0 ++ dktJ8_add_1
theorem dksJ8_add_0 : cJ8_add.data.toList.drop 0 = dktJ8_add_0 := by decide +kernel
theorem dksJ8_add_1 : cJ8_add.data.toList.drop 23 = dktJ8_add_1 := dk_seg dksJ8_add_0 23 rfl rfl
theorem dksJ8_add_2 : cJ8_add.data.toList.drop 47 = dktJ8_add_2 := dk_seg dksJ8_add_1 24 rfl rfl
theorem dksJ8_add_3 : cJ8_add.data.toList.drop 70 = dktJ8_add_3 := dk_seg dksJ8_add_2 23 rfl rfl
theorem dksJ8_add_4 : cJ8_add.data.toList.drop 94 = dktJ8_add_4 := dk_seg dksJ8_add_3 24 rfl rfl
theorem dJ8_add_0 : decode cJ8_add 0 = .ok (.aload_n 0, 1) := dk_42 (dk_at dksJ8_add_0 0 rfl rfl)
theorem dJ8_add_1 : decode cJ8_add 1 = .ok (.getfield 24, 3) := dk_180 0 24 (dk_at dksJ8_add_0 1 rfl rfl)
theorem dJ8_add_4 : decode cJ8_add 4 = .ok (.ldc2_w 125, 3) := dk_20 0 125 (dk_at dksJ8_add_0 4 rfl rfl)
theorem dJ8_add_7 : decode cJ8_add 7 = .ok (.lcmp, 1) := dk_148 (dk_at dksJ8_add_0 7 rfl rfl)
theorem dJ8_add_8 : decode cJ8_add 8 = .ok (.ifCond .eq 54, 3) := dk_153 0 54 (dk_at dksJ8_add_0 8 rfl rfl)
theorem dJ8_add_11 : decode cJ8_add 11 = .ok (.aload_n 1, 1) := dk_43 (dk_at dksJ8_add_0 11 rfl rfl)
theorem dJ8_add_12 : decode cJ8_add 12 = .ok (.getfield 24, 3) := dk_180 0 24 (dk_at dksJ8_add_0 12 rfl rfl)
theorem dJ8_add_15 : decode cJ8_add 15 = .ok (.ldc2_w 125, 3) := dk_20 0 125 (dk_at dksJ8_add_0 15 rfl rfl)
theorem dJ8_add_18 : decode cJ8_add 18 = .ok (.lcmp, 1) := dk_148 (dk_at dksJ8_add_0 18 rfl rfl)
theorem dJ8_add_19 : decode cJ8_add 19 = .ok (.ifCond .eq 23, 3) := dk_153 0 23 (dk_at dksJ8_add_0 19 rfl rfl)
theorem dJ8_add_22 : decode cJ8_add 22 = .ok (.aload_n 0, 1) := dk_42 (dk_at dksJ8_add_0 22 rfl rfl)
theorem dJ8_add_23 : decode cJ8_add 23 = .ok (.getfield 24, 3) := dk_180 0 24 (dk_at dksJ8_add_1 0 rfl rfl)
theorem dJ8_add_26 : decode cJ8_add 26 = .ok (.aload_n 0, 1) := dk_42 (dk_at dksJ8_add_1 3 rfl rfl)
theorem dJ8_add_27 : decode cJ8_add 27 = .ok (.getfield 17, 3) := dk_180 0 17 (dk_at dksJ8_add_1 4 rfl rfl)
theorem dJ8_add_30 : decode cJ8_add 30 = .ok (.aload_n 1, 1) := dk_43 (dk_at dksJ8_add_1 7 rfl rfl)
theorem dJ8_add_31 : decode cJ8_add 31 = .ok (.getfield 24, 3) := dk_180 0 24 (dk_at dksJ8_add_1 8 rfl rfl)
theorem dJ8_add_34 : decode cJ8_add 34 = .ok (.aload_n 1, 1) := dk_43 (dk_at dksJ8_add_1 11 rfl rfl)
theorem dJ8_add_35 : decode cJ8_add 35 = .ok (.getfield 17, 3) := dk_180 0 17 (dk_at dksJ8_add_1 12 rfl rfl)
theorem dJ8_add_38 : decode cJ8_add 38 = .ok (.invokestatic 257, 3) := dk_184 1 1 (dk_at dksJ8_add_1 15 rfl rfl)
theorem dJ8_add_41 : decode cJ8_add 41 = .ok (.areturn, 1) := dk_176 (dk_at dksJ8_add_1 18 rfl rfl)
theorem dJ8_add_42 : decode cJ8_add 42 = .ok (.aload_n 0, 1) := dk_42 (dk_at dksJ8_add_1 19 rfl rfl)
theorem dJ8_add_43 : decode cJ8_add 43 = .ok (.getfield 24, 3) := dk_180 0 24 (dk_at dksJ8_add_1 20 rfl rfl)
theorem dJ8_add_46 : decode cJ8_add 46 = .ok (.aload_n 0, 1) := dk_42 (dk_at dksJ8_add_1 23 rfl rfl)
theorem dJ8_add_47 : decode cJ8_add 47 = .ok (.getfield 17, 3) := dk_180 0 17 (dk_at dksJ8_add_2 0 rfl rfl)
theorem dJ8_add_50 : decode cJ8_add 50 = .ok (.aload_n 1, 1) := dk_43 (dk_at dksJ8_add_2 3 rfl rfl)
theorem dJ8_add_51 : decode cJ8_add 51 = .ok (.getfield 28, 3) := dk_180 0 28 (dk_at dksJ8_add_2 4 rfl rfl)
theorem dJ8_add_54 : decode cJ8_add 54 = .ok (.aload_n 1, 1) := dk_43 (dk_at dksJ8_add_2 7 rfl rfl)
theorem dJ8_add_55 : decode cJ8_add 55 = .ok (.getfield 17, 3) := dk_180 0 17 (dk_at dksJ8_add_2 8 rfl rfl)
theorem dJ8_add_58 : decode cJ8_add 58 = .ok (.invokestatic 261, 3) := dk_184 1 5 (dk_at dksJ8_add_2 11 rfl rfl)
theorem dJ8_add_61 : decode cJ8_add 61 = .ok (.areturn, 1) := dk_176 (dk_at dksJ8_add_2 14 rfl rfl)
theorem dJ8_add_62 : decode cJ8_add 62 = .ok (.aload_n 1, 1) := dk_43 (dk_at dksJ8_add_2 15 rfl rfl)
theorem dJ8_add_63 : decode cJ8_add 63 = .ok (.getfield 24, 3) := dk_180 0 24 (dk_at dksJ8_add_2 16 rfl rfl)
theorem dJ8_add_66 : decode cJ8_add 66 = .ok (.ldc2_w 125, 3) := dk_20 0 125 (dk_at dksJ8_add_2 19 rfl rfl)
theorem dJ8_add_69 : decode cJ8_add 69 = .ok (.lcmp, 1) := dk_148 (dk_at dksJ8_add_2 22 rfl rfl)
theorem dJ8_add_70 : decode cJ8_add 70 = .ok (.ifCond .eq 23, 3) := dk_153 0 23 (dk_at dksJ8_add_3 0 rfl rfl)
theorem dJ8_add_73 : decode cJ8_add 73 = .ok (.aload_n 1, 1) := dk_43 (dk_at dksJ8_add_3 3 rfl rfl)
theorem dJ8_add_74 : decode cJ8_add 74 = .ok (.getfield 24, 3) := dk_180 0 24 (dk_at dksJ8_add_3 4 rfl rfl)
theorem dJ8_add_77 : decode cJ8_add 77 = .ok (.aload_n 1, 1) := dk_43 (dk_at dksJ8_add_3 7 rfl rfl)
theorem dJ8_add_78 : decode cJ8_add 78 = .ok (.getfield 17, 3) := dk_180 0 17 (dk_at dksJ8_add_3 8 rfl rfl)
theorem dJ8_add_81 : decode cJ8_add 81 = .ok (.aload_n 0, 1) := dk_42 (dk_at dksJ8_add_3 11 rfl rfl)
theorem dJ8_add_82 : decode cJ8_add 82 = .ok (.getfield 28, 3) := dk_180 0 28 (dk_at dksJ8_add_3 12 rfl rfl)
theorem dJ8_add_85 : decode cJ8_add 85 = .ok (.aload_n 0, 1) := dk_42 (dk_at dksJ8_add_3 15 rfl rfl)
theorem dJ8_add_86 : decode cJ8_add 86 = .ok (.getfield 17, 3) := dk_180 0 17 (dk_at dksJ8_add_3 16 rfl rfl)
theorem dJ8_add_89 : decode cJ8_add 89 = .ok (.invokestatic 261, 3) := dk_184 1 5 (dk_at dksJ8_add_3 19 rfl rfl)
theorem dJ8_add_92 : decode cJ8_add 92 = .ok (.areturn, 1) := dk_176 (dk_at dksJ8_add_3 22 rfl rfl)
theorem dJ8_add_93 : decode cJ8_add 93 = .ok (.aload_n 0, 1) := dk_42 (dk_at dksJ8_add_3 23 rfl rfl)
theorem dJ8_add_94 : decode cJ8_add 94 = .ok (.getfield 28, 3) := dk_180 0 28 (dk_at dksJ8_add_4 0 rfl rfl)
theorem dJ8_add_97 : decode cJ8_add 97 = .ok (.aload_n 0, 1) := dk_42 (dk_at dksJ8_add_4 3 rfl rfl)
theorem dJ8_add_98 : decode cJ8_add 98 = .ok (.getfield 17, 3) := dk_180 0 17 (dk_at dksJ8_add_4 4 rfl rfl)
theorem dJ8_add_101 : decode cJ8_add 101 = .ok (.aload_n 1, 1) := dk_43 (dk_at dksJ8_add_4 7 rfl rfl)
theorem dJ8_add_102 : decode cJ8_add 102 = .ok (.getfield 28, 3) := dk_180 0 28 (dk_at dksJ8_add_4 8 rfl rfl)
theorem dJ8_add_105 : decode cJ8_add 105 = .ok (.aload_n 1, 1) := dk_43 (dk_at dksJ8_add_4 11 rfl rfl)
theorem dJ8_add_106 : decode cJ8_add 106 = .ok (.getfield 17, 3) := dk_180 0 17 (dk_at dksJ8_add_4 12 rfl rfl)
theorem dJ8_add_109 : decode cJ8_add 109 = .ok (.invokestatic 264, 3) := dk_184 1 8 (dk_at dksJ8_add_4 15 rfl rfl)
theorem dJ8_add_112 : decode cJ8_add 112 = .ok (.areturn, 1) := dk_176 (dk_at dksJ8_add_4 18 rfl rfl)
def dkwJ8_add_2_7 : List UInt8 := [89, 25, 11, 20, 0, 125, 28, 3, 183, 0, 243, 167, 0, 10, 25, 11, 28, 3, 184, 3, 223, 176]
abbrev dktJ8_add_2_7 : List UInt8 := dkwJ8_add_2_7 ++ []
def dkwJ8_add_2_6 : List UInt8 := [176, 33, 21, 8, 184, 3, 234, 30, 182, 3, 230, 58, 11, 30, 33, 131, 9, 148, 155, 0, 20, 187, 0, 3]
abbrev dktJ8_add_2_6 : List UInt8 := dkwJ8_add_2_6 ++ dktJ8_add_2_7
def dkwJ8_add_2_5 : List UInt8 := [33, 21, 8, 184, 2, 87, 55, 9, 22, 9, 20, 0, 125, 148, 153, 0, 11, 30, 22, 9, 28, 184, 3, 232]
abbrev dktJ8_add_2_5 : List UInt8 := dkwJ8_add_2_5 ++ dktJ8_add_2_6
def dkwJ8_add_2_4 : List UInt8 := [3, 183, 0, 243, 167, 0, 11, 25, 11, 21, 5, 3, 184, 3, 223, 176, 33, 22, 6, 184, 3, 226, 54, 8]
abbrev dktJ8_add_2_4 : List UInt8 := dkwJ8_add_2_4 ++ dktJ8_add_2_5
def dkwJ8_add_2_3 : List UInt8 := [182, 3, 230, 58, 11, 30, 33, 131, 9, 148, 155, 0, 21, 187, 0, 3, 89, 25, 11, 20, 0, 125, 21, 5]
abbrev dktJ8_add_2_3 : List UInt8 := dkwJ8_add_2_3 ++ dktJ8_add_2_4
def dkwJ8_add_2_2 : List UInt8 := [20, 0, 125, 148, 153, 0, 12, 22, 9, 33, 21, 5, 184, 3, 232, 176, 30, 21, 8, 184, 3, 234, 33]
abbrev dktJ8_add_2_2 : List UInt8 := dkwJ8_add_2_2 ++ dktJ8_add_2_3
def dkwJ8_add_2_1 : List UInt8 := [9, 148, 156, 0, 85, 30, 22, 6, 117, 184, 3, 226, 54, 8, 30, 21, 8, 184, 2, 87, 55, 9, 22, 9]
abbrev dktJ8_add_2_1 : List UInt8 := dkwJ8_add_2_1 ++ dktJ8_add_2_2
def dkwJ8_add_2_0 : List UInt8 := [28, 133, 21, 5, 133, 101, 55, 6, 22, 6, 9, 148, 154, 0, 10, 30, 33, 28, 184, 3, 232, 176, 22, 6]
abbrev dktJ8_add_2_0 : List UInt8 := dkwJ8_add_2_0 ++ dktJ8_add_2_1
theorem dksJ8_add_2_0 : cJ8_add_2.data.toList.drop 0 = dktJ8_add_2_0 := by decide +kernel
theorem dksJ8_add_2_1 : cJ8_add_2.data.toList.drop 24 = dktJ8_add_2_1 := dk_seg dksJ8_add_2_0 24 rfl rfl
theorem dksJ8_add_2_2 : cJ8_add_2.data.toList.drop 48 = dktJ8_add_2_2 := dk_seg dksJ8_add_2_1 24 rfl rfl
theorem dksJ8_add_2_3 : cJ8_add_2.data.toList.drop 71 = dktJ8_add_2_3 := dk_seg dksJ8_add_2_2 23 rfl rfl
theorem dksJ8_add_2_4 : cJ8_add_2.data.toList.drop 95 = dktJ8_add_2_4 := dk_seg dksJ8_add_2_3 24 rfl rfl
theorem dksJ8_add_2_5 : cJ8_add_2.data.toList.drop 119 = dktJ8_add_2_5 := dk_seg dksJ8_add_2_4 24 rfl rfl
theorem dksJ8_add_2_6 : cJ8_add_2.data.toList.drop 143 = dktJ8_add_2_6 := dk_seg dksJ8_add_2_5 24 rfl rfl
theorem dksJ8_add_2_7 : cJ8_add_2.data.toList.drop 167 = dktJ8_add_2_7 := dk_seg dksJ8_add_2_6 24 rfl rfl
theorem dJ8_add_2_0 : decode cJ8_add_2 0 = .ok (.iload_n 2, 1) := dk_28 (dk_at dksJ8_add_2_0 0 rfl rfl)
theorem dJ8_add_2_1 : decode cJ8_add_2 1 = .ok (.i2l, 1) := dk_133 (dk_at dksJ8_add_2_0 1 rfl rfl)
theorem dJ8_add_2_2 : decode cJ8_add_2 2 = .ok (.iload 5, 2) := dk_21 5 (dk_at dksJ8_add_2_0 2 rfl rfl)
theorem dJ8_add_2_4 : decode cJ8_add_2 4 = .ok (.i2l, 1) := dk_133 (dk_at dksJ8_add_2_0 4 rfl rfl)
theorem dJ8_add_2_5 : decode cJ8_add_2 5 = .ok (.lsub, 1) := dk_101 (dk_at dksJ8_add_2_0 5 rfl rfl)
theorem dJ8_add_2_6 : decode cJ8_add_2 6 = .ok (.lstore 6, 2) := dk_55 6 (dk_at dksJ8_add_2_0 6 rfl rfl)
theorem dJ8_add_2_8 : decode cJ8_add_2 8 = .ok (.lload 6, 2) := dk_22 6 (dk_at dksJ8_add_2_0 8 rfl rfl)
theorem dJ8_add_2_10 : decode cJ8_add_2 10 = .ok (.lconst 0, 1) := dk_9 (dk_at dksJ8_add_2_0 10 rfl rfl)
theorem dJ8_add_2_11 : decode cJ8_add_2 11 = .ok (.lcmp, 1) := dk_148 (dk_at dksJ8_add_2_0 11 rfl rfl)
theorem dJ8_add_2_12 : decode cJ8_add_2 12 = .ok (.ifCond .ne 10, 3) := dk_154 0 10 (dk_at dksJ8_add_2_0 12 rfl rfl)
theorem dJ8_add_2_15 : decode cJ8_add_2 15 = .ok (.lload_n 0, 1) := dk_30 (dk_at dksJ8_add_2_0 15 rfl rfl)
theorem dJ8_add_2_16 : decode cJ8_add_2 16 = .ok (.lload_n 3, 1) := dk_33 (dk_at dksJ8_add_2_0 16 rfl rfl)
theorem dJ8_add_2_17 : decode cJ8_add_2 17 = .ok (.iload_n 2, 1) := dk_28 (dk_at dksJ8_add_2_0 17 rfl rfl)
theorem dJ8_add_2_18 : decode cJ8_add_2 18 = .ok (.invokestatic 1000, 3) := dk_184 3 232 (dk_at dksJ8_add_2_0 18 rfl rfl)
theorem dJ8_add_2_21 : decode cJ8_add_2 21 = .ok (.areturn, 1) := dk_176 (dk_at dksJ8_add_2_0 21 rfl rfl)
theorem dJ8_add_2_22 : decode cJ8_add_2 22 = .ok (.lload 6, 2) := dk_22 6 (dk_at dksJ8_add_2_0 22 rfl rfl)
theorem dJ8_add_2_24 : decode cJ8_add_2 24 = .ok (.lconst 0, 1) := dk_9 (dk_at dksJ8_add_2_1 0 rfl rfl)
theorem dJ8_add_2_25 : decode cJ8_add_2 25 = .ok (.lcmp, 1) := dk_148 (dk_at dksJ8_add_2_1 1 rfl rfl)
theorem dJ8_add_2_26 : decode cJ8_add_2 26 = .ok (.ifCond .ge 85, 3) := dk_156 0 85 (dk_at dksJ8_add_2_1 2 rfl rfl)
theorem dJ8_add_2_29 : decode cJ8_add_2 29 = .ok (.lload_n 0, 1) := dk_30 (dk_at dksJ8_add_2_1 5 rfl rfl)
theorem dJ8_add_2_30 : decode cJ8_add_2 30 = .ok (.lload 6, 2) := dk_22 6 (dk_at dksJ8_add_2_1 6 rfl rfl)
theorem dJ8_add_2_32 : decode cJ8_add_2 32 = .ok (.lneg, 1) := dk_117 (dk_at dksJ8_add_2_1 8 rfl rfl)
theorem dJ8_add_2_33 : decode cJ8_add_2 33 = .ok (.invokestatic 994, 3) := dk_184 3 226 (dk_at dksJ8_add_2_1 9 rfl rfl)
theorem dJ8_add_2_36 : decode cJ8_add_2 36 = .ok (.istore 8, 2) := dk_54 8 (dk_at dksJ8_add_2_1 12 rfl rfl)
theorem dJ8_add_2_38 : decode cJ8_add_2 38 = .ok (.lload_n 0, 1) := dk_30 (dk_at dksJ8_add_2_1 14 rfl rfl)
theorem dJ8_add_2_39 : decode cJ8_add_2 39 = .ok (.iload 8, 2) := dk_21 8 (dk_at dksJ8_add_2_1 15 rfl rfl)
theorem dJ8_add_2_41 : decode cJ8_add_2 41 = .ok (.invokestatic 599, 3) := dk_184 2 87 (dk_at dksJ8_add_2_1 17 rfl rfl)
theorem dJ8_add_2_44 : decode cJ8_add_2 44 = .ok (.lstore 9, 2) := dk_55 9 (dk_at dksJ8_add_2_1 20 rfl rfl)
theorem dJ8_add_2_46 : decode cJ8_add_2 46 = .ok (.lload 9, 2) := dk_22 9 (dk_at dksJ8_add_2_1 22 rfl rfl)
theorem dJ8_add_2_48 : decode cJ8_add_2 48 = .ok (.ldc2_w 125, 3) := dk_20 0 125 (dk_at dksJ8_add_2_2 0 rfl rfl)
theorem dJ8_add_2_51 : decode cJ8_add_2 51 = .ok (.lcmp, 1) := dk_148 (dk_at dksJ8_add_2_2 3 rfl rfl)
theorem dJ8_add_2_52 : decode cJ8_add_2 52 = .ok (.ifCond .eq 12, 3) := dk_153 0 12 (dk_at dksJ8_add_2_2 4 rfl rfl)
theorem dJ8_add_2_55 : decode cJ8_add_2 55 = .ok (.lload 9, 2) := dk_22 9 (dk_at dksJ8_add_2_2 7 rfl rfl)
theorem dJ8_add_2_57 : decode cJ8_add_2 57 = .ok (.lload_n 3, 1) := dk_33 (dk_at dksJ8_add_2_2 9 rfl rfl)
theorem dJ8_add_2_58 : decode cJ8_add_2 58 = .ok (.iload 5, 2) := dk_21 5 (dk_at dksJ8_add_2_2 10 rfl rfl)
theorem dJ8_add_2_60 : decode cJ8_add_2 60 = .ok (.invokestatic 1000, 3) := dk_184 3 232 (dk_at dksJ8_add_2_2 12 rfl rfl)
theorem dJ8_add_2_63 : decode cJ8_add_2 63 = .ok (.areturn, 1) := dk_176 (dk_at dksJ8_add_2_2 15 rfl rfl)
theorem dJ8_add_2_64 : decode cJ8_add_2 64 = .ok (.lload_n 0, 1) := dk_30 (dk_at dksJ8_add_2_2 16 rfl rfl)
theorem dJ8_add_2_65 : decode cJ8_add_2 65 = .ok (.iload 8, 2) := dk_21 8 (dk_at dksJ8_add_2_2 17 rfl rfl)
theorem dJ8_add_2_67 : decode cJ8_add_2 67 = .ok (.invokestatic 1002, 3) := dk_184 3 234 (dk_at dksJ8_add_2_2 19 rfl rfl)
theorem dJ8_add_2_70 : decode cJ8_add_2 70 = .ok (.lload_n 3, 1) := dk_33 (dk_at dksJ8_add_2_2 22 rfl rfl)
theorem dJ8_add_2_71 : decode cJ8_add_2 71 = .ok (.invokevirtual 998, 3) := dk_182 3 230 (dk_at dksJ8_add_2_3 0 rfl rfl)
theorem dJ8_add_2_74 : decode cJ8_add_2 74 = .ok (.astore 11, 2) := dk_58 11 (dk_at dksJ8_add_2_3 3 rfl rfl)
theorem dJ8_add_2_76 : decode cJ8_add_2 76 = .ok (.lload_n 0, 1) := dk_30 (dk_at dksJ8_add_2_3 5 rfl rfl)
theorem dJ8_add_2_77 : decode cJ8_add_2 77 = .ok (.lload_n 3, 1) := dk_33 (dk_at dksJ8_add_2_3 6 rfl rfl)
theorem dJ8_add_2_78 : decode cJ8_add_2 78 = .ok (.lxor, 1) := dk_131 (dk_at dksJ8_add_2_3 7 rfl rfl)
theorem dJ8_add_2_79 : decode cJ8_add_2 79 = .ok (.lconst 0, 1) := dk_9 (dk_at dksJ8_add_2_3 8 rfl rfl)
theorem dJ8_add_2_80 : decode cJ8_add_2 80 = .ok (.lcmp, 1) := dk_148 (dk_at dksJ8_add_2_3 9 rfl rfl)
theorem dJ8_add_2_81 : decode cJ8_add_2 81 = .ok (.ifCond .lt 21, 3) := dk_155 0 21 (dk_at dksJ8_add_2_3 10 rfl rfl)
theorem dJ8_add_2_84 : decode cJ8_add_2 84 = .ok (.new 3, 3) := dk_187 0 3 (dk_at dksJ8_add_2_3 13 rfl rfl)
theorem dJ8_add_2_87 : decode cJ8_add_2 87 = .ok (.dup, 1) := dk_89 (dk_at dksJ8_add_2_3 16 rfl rfl)
theorem dJ8_add_2_88 : decode cJ8_add_2 88 = .ok (.aload 11, 2) := dk_25 11 (dk_at dksJ8_add_2_3 17 rfl rfl)
theorem dJ8_add_2_90 : decode cJ8_add_2 90 = .ok (.ldc2_w 125, 3) := dk_20 0 125 (dk_at dksJ8_add_2_3 19 rfl rfl)
theorem dJ8_add_2_93 : decode cJ8_add_2 93 = .ok (.iload 5, 2) := dk_21 5 (dk_at dksJ8_add_2_3 22 rfl rfl)
theorem dJ8_add_2_95 : decode cJ8_add_2 95 = .ok (.iconst 0, 1) := dk_3 (dk_at dksJ8_add_2_4 0 rfl rfl)
theorem dJ8_add_2_96 : decode cJ8_add_2 96 = .ok (.invokespecial 243, 3) := dk_183 0 243 (dk_at dksJ8_add_2_4 1 rfl rfl)
theorem dJ8_add_2_99 : decode cJ8_add_2 99 = .ok (.goto 11, 3) := dk_167 0 11 (dk_at dksJ8_add_2_4 4 rfl rfl)
theorem dJ8_add_2_102 : decode cJ8_add_2 102 = .ok (.aload 11, 2) := dk_25 11 (dk_at dksJ8_add_2_4 7 rfl rfl)
theorem dJ8_add_2_104 : decode cJ8_add_2 104 = .ok (.iload 5, 2) := dk_21 5 (dk_at dksJ8_add_2_4 9 rfl rfl)
theorem dJ8_add_2_106 : decode cJ8_add_2 106 = .ok (.iconst 0, 1) := dk_3 (dk_at dksJ8_add_2_4 11 rfl rfl)
theorem dJ8_add_2_107 : decode cJ8_add_2 107 = .ok (.invokestatic 991, 3) := dk_184 3 223 (dk_at dksJ8_add_2_4 12 rfl rfl)
theorem dJ8_add_2_110 : decode cJ8_add_2 110 = .ok (.areturn, 1) := dk_176 (dk_at dksJ8_add_2_4 15 rfl rfl)
theorem dJ8_add_2_111 : decode cJ8_add_2 111 = .ok (.lload_n 3, 1) := dk_33 (dk_at dksJ8_add_2_4 16 rfl rfl)
theorem dJ8_add_2_112 : decode cJ8_add_2 112 = .ok (.lload 6, 2) := dk_22 6 (dk_at dksJ8_add_2_4 17 rfl rfl)
theorem dJ8_add_2_114 : decode cJ8_add_2 114 = .ok (.invokestatic 994, 3) := dk_184 3 226 (dk_at dksJ8_add_2_4 19 rfl rfl)
theorem dJ8_add_2_117 : decode cJ8_add_2 117 = .ok (.istore 8, 2) := dk_54 8 (dk_at dksJ8_add_2_4 22 rfl rfl)
theorem dJ8_add_2_119 : decode cJ8_add_2 119 = .ok (.lload_n 3, 1) := dk_33 (dk_at dksJ8_add_2_5 0 rfl rfl)
theorem dJ8_add_2_120 : decode cJ8_add_2 120 = .ok (.iload 8, 2) := dk_21 8 (dk_at dksJ8_add_2_5 1 rfl rfl)
theorem dJ8_add_2_122 : decode cJ8_add_2 122 = .ok (.invokestatic 599, 3) := dk_184 2 87 (dk_at dksJ8_add_2_5 3 rfl rfl)
theorem dJ8_add_2_125 : decode cJ8_add_2 125 = .ok (.lstore 9, 2) := dk_55 9 (dk_at dksJ8_add_2_5 6 rfl rfl)
theorem dJ8_add_2_127 : decode cJ8_add_2 127 = .ok (.lload 9, 2) := dk_22 9 (dk_at dksJ8_add_2_5 8 rfl rfl)
theorem dJ8_add_2_129 : decode cJ8_add_2 129 = .ok (.ldc2_w 125, 3) := dk_20 0 125 (dk_at dksJ8_add_2_5 10 rfl rfl)
theorem dJ8_add_2_132 : decode cJ8_add_2 132 = .ok (.lcmp, 1) := dk_148 (dk_at dksJ8_add_2_5 13 rfl rfl)
theorem dJ8_add_2_133 : decode cJ8_add_2 133 = .ok (.ifCond .eq 11, 3) := dk_153 0 11 (dk_at dksJ8_add_2_5 14 rfl rfl)
theorem dJ8_add_2_136 : decode cJ8_add_2 136 = .ok (.lload_n 0, 1) := dk_30 (dk_at dksJ8_add_2_5 17 rfl rfl)
theorem dJ8_add_2_137 : decode cJ8_add_2 137 = .ok (.lload 9, 2) := dk_22 9 (dk_at dksJ8_add_2_5 18 rfl rfl)
theorem dJ8_add_2_139 : decode cJ8_add_2 139 = .ok (.iload_n 2, 1) := dk_28 (dk_at dksJ8_add_2_5 20 rfl rfl)
theorem dJ8_add_2_140 : decode cJ8_add_2 140 = .ok (.invokestatic 1000, 3) := dk_184 3 232 (dk_at dksJ8_add_2_5 21 rfl rfl)
theorem dJ8_add_2_143 : decode cJ8_add_2 143 = .ok (.areturn, 1) := dk_176 (dk_at dksJ8_add_2_6 0 rfl rfl)
theorem dJ8_add_2_144 : decode cJ8_add_2 144 = .ok (.lload_n 3, 1) := dk_33 (dk_at dksJ8_add_2_6 1 rfl rfl)
theorem dJ8_add_2_145 : decode cJ8_add_2 145 = .ok (.iload 8, 2) := dk_21 8 (dk_at dksJ8_add_2_6 2 rfl rfl)
theorem dJ8_add_2_147 : decode cJ8_add_2 147 = .ok (.invokestatic 1002, 3) := dk_184 3 234 (dk_at dksJ8_add_2_6 4 rfl rfl)
theorem dJ8_add_2_150 : decode cJ8_add_2 150 = .ok (.lload_n 0, 1) := dk_30 (dk_at dksJ8_add_2_6 7 rfl rfl)
theorem dJ8_add_2_151 : decode cJ8_add_2 151 = .ok (.invokevirtual 998, 3) := dk_182 3 230 (dk_at dksJ8_add_2_6 8 rfl rfl)
theorem dJ8_add_2_154 : decode cJ8_add_2 154 = .ok (.astore 11, 2) := dk_58 11 (dk_at dksJ8_add_2_6 11 rfl rfl)
theorem dJ8_add_2_156 : decode cJ8_add_2 156 = .ok (.lload_n 0, 1) := dk_30 (dk_at dksJ8_add_2_6 13 rfl rfl)
theorem dJ8_add_2_157 : decode cJ8_add_2 157 = .ok (.lload_n 3, 1) := dk_33 (dk_at dksJ8_add_2_6 14 rfl rfl)
theorem dJ8_add_2_158 : decode cJ8_add_2 158 = .ok (.lxor, 1) := dk_131 (dk_at dksJ8_add_2_6 15 rfl rfl)
theorem dJ8_add_2_159 : decode cJ8_add_2 159 = .ok (.lconst 0, 1) := dk_9 (dk_at dksJ8_add_2_6 16 rfl rfl)
theorem dJ8_add_2_160 : decode cJ8_add_2 160 = .ok (.lcmp, 1) := dk_148 (dk_at dksJ8_add_2_6 17 rfl rfl)
theorem dJ8_add_2_161 : decode cJ8_add_2 161 = .ok (.ifCond .lt 20, 3) := dk_155 0 20 (dk_at dksJ8_add_2_6 18 rfl rfl)
theorem dJ8_add_2_164 : decode cJ8_add_2 164 = .ok (.new 3, 3) := dk_187 0 3 (dk_at dksJ8_add_2_6 21 rfl rfl)
theorem dJ8_add_2_167 : decode cJ8_add_2 167 = .ok (.dup, 1) := dk_89 (dk_at dksJ8_add_2_7 0 rfl rfl)
theorem dJ8_add_2_168 : decode cJ8_add_2 168 = .ok (.aload 11, 2) := dk_25 11 (dk_at dksJ8_add_2_7 1 rfl rfl)
theorem dJ8_add_2_170 : decode cJ8_add_2 170 = .ok (.ldc2_w 125, 3) := dk_20 0 125 (dk_at dksJ8_add_2_7 3 rfl rfl)
theorem dJ8_add_2_173 : decode cJ8_add_2 173 = .ok (.iload_n 2, 1) := dk_28 (dk_at dksJ8_add_2_7 6 rfl rfl)
theorem dJ8_add_2_174 : decode cJ8_add_2 174 = .ok (.iconst 0, 1) := dk_3 (dk_at dksJ8_add_2_7 7 rfl rfl)
theorem dJ8_add_2_175 : decode cJ8_add_2 175 = .ok (.invokespecial 243, 3) := dk_183 0 243 (dk_at dksJ8_add_2_7 8 rfl rfl)
theorem dJ8_add_2_178 : decode cJ8_add_2 178 = .ok (.goto 10, 3) := dk_167 0 10 (dk_at dksJ8_add_2_7 11 rfl rfl)
theorem dJ8_add_2_181 : decode cJ8_add_2 181 = .ok (.aload 11, 2) := dk_25 11 (dk_at dksJ8_add_2_7 14 rfl rfl)
theorem dJ8_add_2_183 : decode cJ8_add_2 183 = .ok (.iload_n 2, 1) := dk_28 (dk_at dksJ8_add_2_7 16 rfl rfl)
theorem dJ8_add_2_184 : decode cJ8_add_2 184 = .ok (.iconst 0, 1) := dk_3 (dk_at dksJ8_add_2_7 17 rfl rfl)
theorem dJ8_add_2_185 : decode cJ8_add_2 185 = .ok (.invokestatic 991, 3) := dk_184 3 223 (dk_at dksJ8_add_2_7 18 rfl rfl)
theorem dJ8_add_2_188 : decode cJ8_add_2 188 = .ok (.areturn, 1) := dk_176 (dk_at dksJ8_add_2_7 21 rfl rfl)
def dkwJ8_add_3_1 : List UInt8 := [187, 0, 3, 89, 30, 184, 0, 193, 32, 182, 3, 230, 21, 4, 183, 2, 65, 176]
abbrev dktJ8_add_3_1 : List UInt8 := dkwJ8_add_3_1 ++ []
def dkwJ8_add_3_0 : List UInt8 := [30, 32, 184, 3, 228, 55, 5, 22, 5, 20, 0, 125, 148, 153, 0, 11, 22, 5, 21, 4, 184, 1, 72, 176]
abbrev dktJ8_add_3_0 : List UInt8 := dkwJ8_add_3_0 ++ dktJ8_add_3_1
theorem dksJ8_add_3_0 : cJ8_add_3.data.toList.drop 0 = dktJ8_add_3_0 := by decide +kernel
theorem dksJ8_add_3_1 : cJ8_add_3.data.toList.drop 24 = dktJ8_add_3_1 := dk_seg dksJ8_add_3_0 24 rfl rfl
theorem dJ8_add_3_0 : decode cJ8_add_3 0 = .ok (.lload_n 0, 1) := dk_30 (dk_at dksJ8_add_3_0 0 rfl rfl)
theorem dJ8_add_3_1 : decode cJ8_add_3 1 = .ok (.lload_n 2, 1) := dk_32 (dk_at dksJ8_add_3_0 1 rfl rfl)
theorem dJ8_add_3_2 : decode cJ8_add_3 2 = .ok (.invokestatic 996, 3) := dk_184 3 228 (dk_at dksJ8_add_3_0 2 rfl rfl)
theorem dJ8_add_3_5 : decode cJ8_add_3 5 = .ok (.lstore 5, 2) := dk_55 5 (dk_at dksJ8_add_3_0 5 rfl rfl)
theorem dJ8_add_3_7 : decode cJ8_add_3 7 = .ok (.lload 5, 2) := dk_22 5 (dk_at dksJ8_add_3_0 7 rfl rfl)
theorem dJ8_add_3_9 : decode cJ8_add_3 9 = .ok (.ldc2_w 125, 3) := dk_20 0 125 (dk_at dksJ8_add_3_0 9 rfl rfl)
theorem dJ8_add_3_12 : decode cJ8_add_3 12 = .ok (.lcmp, 1) := dk_148 (dk_at dksJ8_add_3_0 12 rfl rfl)
theorem dJ8_add_3_13 : decode cJ8_add_3 13 = .ok (.ifCond .eq 11, 3) := dk_153 0 11 (dk_at dksJ8_add_3_0 13 rfl rfl)
theorem dJ8_add_3_16 : decode cJ8_add_3 16 = .ok (.lload 5, 2) := dk_22 5 (dk_at dksJ8_add_3_0 16 rfl rfl)
theorem dJ8_add_3_18 : decode cJ8_add_3 18 = .ok (.iload 4, 2) := dk_21 4 (dk_at dksJ8_add_3_0 18 rfl rfl)
theorem dJ8_add_3_20 : decode cJ8_add_3 20 = .ok (.invokestatic 328, 3) := dk_184 1 72 (dk_at dksJ8_add_3_0 20 rfl rfl)
theorem dJ8_add_3_23 : decode cJ8_add_3 23 = .ok (.areturn, 1) := dk_176 (dk_at dksJ8_add_3_0 23 rfl rfl)
theorem dJ8_add_3_24 : decode cJ8_add_3 24 = .ok (.new 3, 3) := dk_187 0 3 (dk_at dksJ8_add_3_1 0 rfl rfl)
theorem dJ8_add_3_27 : decode cJ8_add_3 27 = .ok (.dup, 1) := dk_89 (dk_at dksJ8_add_3_1 3 rfl rfl)
theorem dJ8_add_3_28 : decode cJ8_add_3 28 = .ok (.lload_n 0, 1) := dk_30 (dk_at dksJ8_add_3_1 4 rfl rfl)
theorem dJ8_add_3_29 : decode cJ8_add_3 29 = .ok (.invokestatic 193, 3) := dk_184 0 193 (dk_at dksJ8_add_3_1 5 rfl rfl)
theorem dJ8_add_3_32 : decode cJ8_add_3 32 = .ok (.lload_n 2, 1) := dk_32 (dk_at dksJ8_add_3_1 8 rfl rfl)
theorem dJ8_add_3_33 : decode cJ8_add_3 33 = .ok (.invokevirtual 998, 3) := dk_182 3 230 (dk_at dksJ8_add_3_1 9 rfl rfl)
theorem dJ8_add_3_36 : decode cJ8_add_3 36 = .ok (.iload 4, 2) := dk_21 4 (dk_at dksJ8_add_3_1 12 rfl rfl)
theorem dJ8_add_3_38 : decode cJ8_add_3 38 = .ok (.invokespecial 577, 3) := dk_183 2 65 (dk_at dksJ8_add_3_1 14 rfl rfl)
theorem dJ8_add_3_41 : decode cJ8_add_3 41 = .ok (.areturn, 1) := dk_176 (dk_at dksJ8_add_3_1 17 rfl rfl)
def dkwJ8_add_4_1 : List UInt8 := [20, 0, 125, 173]
abbrev dktJ8_add_4_1 : List UInt8 := dkwJ8_add_4_1 ++ []
def dkwJ8_add_4_0 : List UInt8 := [30, 32, 97, 55, 4, 22, 4, 30, 131, 22, 4, 32, 131, 127, 9, 148, 155, 0, 6, 22, 4, 173]
abbrev dktJ8_add_4_0 : List UInt8 := dkwJ8_add_4_0 ++ dktJ8_add_4_1
theorem dksJ8_add_4_0 : cJ8_add_4.data.toList.drop 0 = dktJ8_add_4_0 := by decide +kernel
theorem dksJ8_add_4_1 : cJ8_add_4.data.toList.drop 22 = dktJ8_add_4_1 := dk_seg dksJ8_add_4_0 22 rfl rfl
theorem dJ8_add_4_0 : decode cJ8_add_4 0 = .ok (.lload_n 0, 1) := dk_30 (dk_at dksJ8_add_4_0 0 rfl rfl)
theorem dJ8_add_4_1 : decode cJ8_add_4 1 = .ok (.lload_n 2, 1) := dk_32 (dk_at dksJ8_add_4_0 1 rfl rfl)
theorem dJ8_add_4_2 : decode cJ8_add_4 2 = .ok (.ladd, 1) := dk_97 (dk_at dksJ8_add_4_0 2 rfl rfl)
theorem dJ8_add_4_3 : decode cJ8_add_4 3 = .ok (.lstore 4, 2) := dk_55 4 (dk_at dksJ8_add_4_0 3 rfl rfl)
theorem dJ8_add_4_5 : decode cJ8_add_4 5 = .ok (.lload 4, 2) := dk_22 4 (dk_at dksJ8_add_4_0 5 rfl rfl)
theorem dJ8_add_4_7 : decode cJ8_add_4 7 = .ok (.lload_n 0, 1) := dk_30 (dk_at dksJ8_add_4_0 7 rfl rfl)
theorem dJ8_add_4_8 : decode cJ8_add_4 8 = .ok (.lxor, 1) := dk_131 (dk_at dksJ8_add_4_0 8 rfl rfl)
theorem dJ8_add_4_9 : decode cJ8_add_4 9 = .ok (.lload 4, 2) := dk_22 4 (dk_at dksJ8_add_4_0 9 rfl rfl)
theorem dJ8_add_4_11 : decode cJ8_add_4 11 = .ok (.lload_n 2, 1) := dk_32 (dk_at dksJ8_add_4_0 11 rfl rfl)
theorem dJ8_add_4_12 : decode cJ8_add_4 12 = .ok (.lxor, 1) := dk_131 (dk_at dksJ8_add_4_0 12 rfl rfl)
theorem dJ8_add_4_13 : decode cJ8_add_4 13 = .ok (.land, 1) := dk_127 (dk_at dksJ8_add_4_0 13 rfl rfl)
theorem dJ8_add_4_14 : decode cJ8_add_4 14 = .ok (.lconst 0, 1) := dk_9 (dk_at dksJ8_add_4_0 14 rfl rfl)
theorem dJ8_add_4_15 : decode cJ8_add_4 15 = .ok (.lcmp, 1) := dk_148 (dk_at dksJ8_add_4_0 15 rfl rfl)
theorem dJ8_add_4_16 : decode cJ8_add_4 16 = .ok (.ifCond .lt 6, 3) := dk_155 0 6 (dk_at dksJ8_add_4_0 16 rfl rfl)
theorem dJ8_add_4_19 : decode cJ8_add_4 19 = .ok (.lload 4, 2) := dk_22 4 (dk_at dksJ8_add_4_0 19 rfl rfl)
theorem dJ8_add_4_21 : decode cJ8_add_4 21 = .ok (.lreturn, 1) := dk_173 (dk_at dksJ8_add_4_0 21 rfl rfl)
theorem dJ8_add_4_22 : decode cJ8_add_4 22 = .ok (.ldc2_w 125, 3) := dk_20 0 125 (dk_at dksJ8_add_4_1 0 rfl rfl)
theorem dJ8_add_4_25 : decode cJ8_add_4 25 = .ok (.lreturn, 1) := dk_173 (dk_at dksJ8_add_4_1 3 rfl rfl)
def dkwJ8_init_2_1 : List UInt8 := [28, 181, 0, 17, 177]
abbrev dktJ8_init_2_1 : List UInt8 := dkwJ8_init_2_1 ++ []
def dkwJ8_init_2_0 : List UInt8 := [42, 183, 0, 11, 42, 43, 184, 0, 229, 181, 0, 28, 42, 42, 180, 0, 28, 184, 0, 121, 181, 0, 24, 42]
abbrev dktJ8_init_2_0 : List UInt8 := dkwJ8_init_2_0 ++ dktJ8_init_2_1
theorem dksJ8_init_2_0 : cJ8_init_2.data.toList.drop 0 = dktJ8_init_2_0 := by decide +kernel
theorem dksJ8_init_2_1 : cJ8_init_2.data.toList.drop 24 = dktJ8_init_2_1 := dk_seg dksJ8_init_2_0 24 rfl rfl
theorem dJ8_init_2_0 : decode cJ8_init_2 0 = .ok (.aload_n 0, 1) := dk_42 (dk_at dksJ8_init_2_0 0 rfl rfl)
theorem dJ8_init_2_1 : decode cJ8_init_2 1 = .ok (.invokespecial 11, 3) := dk_183 0 11 (dk_at dksJ8_init_2_0 1 rfl rfl)
theorem dJ8_init_2_4 : decode cJ8_init_2 4 = .ok (.aload_n 0, 1) := dk_42 (dk_at dksJ8_init_2_0 4 rfl rfl)
theorem dJ8_init_2_5 : decode cJ8_init_2 5 = .ok (.aload_n 1, 1) := dk_43 (dk_at dksJ8_init_2_0 5 rfl rfl)
theorem dJ8_init_2_6 : decode cJ8_init_2 6 = .ok (.invokestatic 229, 3) := dk_184 0 229 (dk_at dksJ8_init_2_0 6 rfl rfl)
theorem dJ8_init_2_9 : decode cJ8_init_2 9 = .ok (.putfield 28, 3) := dk_181 0 28 (dk_at dksJ8_init_2_0 9 rfl rfl)
theorem dJ8_init_2_12 : decode cJ8_init_2 12 = .ok (.aload_n 0, 1) := dk_42 (dk_at dksJ8_init_2_0 12 rfl rfl)
theorem dJ8_init_2_13 : decode cJ8_init_2 13 = .ok (.aload_n 0, 1) := dk_42 (dk_at dksJ8_init_2_0 13 rfl rfl)
theorem dJ8_init_2_14 : decode cJ8_init_2 14 = .ok (.getfield 28, 3) := dk_180 0 28 (dk_at dksJ8_init_2_0 14 rfl rfl)
theorem dJ8_init_2_17 : decode cJ8_init_2 17 = .ok (.invokestatic 121, 3) := dk_184 0 121 (dk_at dksJ8_init_2_0 17 rfl rfl)
theorem dJ8_init_2_20 : decode cJ8_init_2 20 = .ok (.putfield 24, 3) := dk_181 0 24 (dk_at dksJ8_init_2_0 20 rfl rfl)
theorem dJ8_init_2_23 : decode cJ8_init_2 23 = .ok (.aload_n 0, 1) := dk_42 (dk_at dksJ8_init_2_0 23 rfl rfl)
theorem dJ8_init_2_24 : decode cJ8_init_2 24 = .ok (.iload_n 2, 1) := dk_28 (dk_at dksJ8_init_2_1 0 rfl rfl)
theorem dJ8_init_2_25 : decode cJ8_init_2 25 = .ok (.putfield 17, 3) := dk_181 0 17 (dk_at dksJ8_init_2_1 1 rfl rfl)
theorem dJ8_init_2_28 : decode cJ8_init_2 28 = .ok (.return_, 1) := dk_177 (dk_at dksJ8_init_2_1 4 rfl rfl)
def dkwJ8_toStrictBigInteger_1 : List UInt8 := [192, 0, 221, 183, 0, 226, 176]
abbrev dktJ8_toStrictBigInteger_1 : List UInt8 := dkwJ8_toStrictBigInteger_1 ++ []
def dkwJ8_toStrictBigInteger_0 : List UInt8 := [42, 182, 0, 210, 18, 9, 166, 0, 7, 42, 167, 0, 20, 187, 0, 9, 89, 42, 182, 0, 216, 182, 0, 220]
abbrev dktJ8_toStrictBigInteger_0 : List UInt8 := dkwJ8_toStrictBigInteger_0 ++ dktJ8_toStrictBigInteger_1
theorem dksJ8_toStrictBigInteger_0 : cJ8_toStrictBigInteger.data.toList.drop 0 = dktJ8_toStrictBigInteger_0 := by decide +kernel
theorem dksJ8_toStrictBigInteger_1 : cJ8_toStrictBigInteger.data.toList.drop 24 = dktJ8_toStrictBigInteger_1 := dk_seg dksJ8_toStrictBigInteger_0 24 rfl rfl
theorem dJ8_toStrictBigInteger_0 : decode cJ8_toStrictBigInteger 0 = .ok (.aload_n 0, 1) := dk_42 (dk_at dksJ8_toStrictBigInteger_0 0 rfl rfl)
theorem dJ8_toStrictBigInteger_1 : decode cJ8_toStrictBigInteger 1 = .ok (.invokevirtual 210, 3) := dk_182 0 210 (dk_at dksJ8_toStrictBigInteger_0 1 rfl rfl)
theorem dJ8_toStrictBigInteger_4 : decode cJ8_toStrictBigInteger 4 = .ok (.ldc 9, 2) := dk_18 9 (dk_at dksJ8_toStrictBigInteger_0 4 rfl rfl)
theorem dJ8_toStrictBigInteger_6 : decode cJ8_toStrictBigInteger 6 = .ok (.if_acmp .ne 7, 3) := dk_166 0 7 (dk_at dksJ8_toStrictBigInteger_0 6 rfl rfl)
theorem dJ8_toStrictBigInteger_9 : decode cJ8_toStrictBigInteger 9 = .ok (.aload_n 0, 1) := dk_42 (dk_at dksJ8_toStrictBigInteger_0 9 rfl rfl)
theorem dJ8_toStrictBigInteger_10 : decode cJ8_toStrictBigInteger 10 = .ok (.goto 20, 3) := dk_167 0 20 (dk_at dksJ8_toStrictBigInteger_0 10 rfl rfl)
theorem dJ8_toStrictBigInteger_13 : decode cJ8_toStrictBigInteger 13 = .ok (.new 9, 3) := dk_187 0 9 (dk_at dksJ8_toStrictBigInteger_0 13 rfl rfl)
theorem dJ8_toStrictBigInteger_16 : decode cJ8_toStrictBigInteger 16 = .ok (.dup, 1) := dk_89 (dk_at dksJ8_toStrictBigInteger_0 16 rfl rfl)
theorem dJ8_toStrictBigInteger_17 : decode cJ8_toStrictBigInteger 17 = .ok (.aload_n 0, 1) := dk_42 (dk_at dksJ8_toStrictBigInteger_0 17 rfl rfl)
theorem dJ8_toStrictBigInteger_18 : decode cJ8_toStrictBigInteger 18 = .ok (.invokevirtual 216, 3) := dk_182 0 216 (dk_at dksJ8_toStrictBigInteger_0 18 rfl rfl)
theorem dJ8_toStrictBigInteger_21 : decode cJ8_toStrictBigInteger 21 = .ok (.invokevirtual 220, 3) := dk_182 0 220 (dk_at dksJ8_toStrictBigInteger_0 21 rfl rfl)
theorem dJ8_toStrictBigInteger_24 : decode cJ8_toStrictBigInteger 24 = .ok (.checkcast 221, 3) := dk_192 0 221 (dk_at dksJ8_toStrictBigInteger_1 0 rfl rfl)
theorem dJ8_toStrictBigInteger_27 : decode cJ8_toStrictBigInteger 27 = .ok (.invokespecial 226, 3) := dk_183 0 226 (dk_at dksJ8_toStrictBigInteger_1 3 rfl rfl)
theorem dJ8_toStrictBigInteger_30 : decode cJ8_toStrictBigInteger 30 = .ok (.areturn, 1) := dk_176 (dk_at dksJ8_toStrictBigInteger_1 6 rfl rfl)
def dkwJ8_compactValFor_3 : List UInt8 := [156, 0, 9, 22, 4, 117, 167, 0, 5, 22, 4, 173]
abbrev dktJ8_compactValFor_3 : List UInt8 := dkwJ8_compactValFor_3 ++ []
def dkwJ8_compactValFor_2 : List UInt8 := [127, 29, 133, 16, 32, 121, 97, 167, 0, 9, 29, 133, 20, 2, 124, 127, 55, 4, 42, 180, 3, 102]
abbrev dktJ8_compactValFor_2 : List UInt8 := dkwJ8_compactValFor_2 ++ dktJ8_compactValFor_3
def dkwJ8_compactValFor_1 : List UInt8 := [5, 160, 0, 11, 29, 156, 0, 7, 20, 0, 125, 173, 28, 5, 160, 0, 20, 43, 4, 46, 133, 20, 2, 124]
abbrev dktJ8_compactValFor_1 : List UInt8 := dkwJ8_compactValFor_1 ++ dktJ8_compactValFor_2
def dkwJ8_compactValFor_0 : List UInt8 := [42, 180, 3, 110, 76, 43, 190, 61, 28, 154, 0, 5, 9, 173, 43, 3, 46, 62, 28, 5, 163, 0, 12, 28]
abbrev dktJ8_compactValFor_0 : List UInt8 := dkwJ8_compactValFor_0 ++ dktJ8_compactValFor_1
theorem dksJ8_compactValFor_0 : cJ8_compactValFor.data.toList.drop 0 = dktJ8_compactValFor_0 := by decide +kernel
theorem dksJ8_compactValFor_1 : cJ8_compactValFor.data.toList.drop 24 = dktJ8_compactValFor_1 := dk_seg dksJ8_compactValFor_0 24 rfl rfl
theorem dksJ8_compactValFor_2 : cJ8_compactValFor.data.toList.drop 48 = dktJ8_compactValFor_2 := dk_seg dksJ8_compactValFor_1 24 rfl rfl
theorem dksJ8_compactValFor_3 : cJ8_compactValFor.data.toList.drop 70 = dktJ8_compactValFor_3 := dk_seg dksJ8_compactValFor_2 22 rfl rfl
theorem dJ8_compactValFor_0 : decode cJ8_compactValFor 0 = .ok (.aload_n 0, 1) := dk_42 (dk_at dksJ8_compactValFor_0 0 rfl rfl)
theorem dJ8_compactValFor_1 : decode cJ8_compactValFor 1 = .ok (.getfield 878, 3) := dk_180 3 110 (dk_at dksJ8_compactValFor_0 1 rfl rfl)
theorem dJ8_compactValFor_4 : decode cJ8_compactValFor 4 = .ok (.astore_n 1, 1) := dk_76 (dk_at dksJ8_compactValFor_0 4 rfl rfl)
theorem dJ8_compactValFor_5 : decode cJ8_compactValFor 5 = .ok (.aload_n 1, 1) := dk_43 (dk_at dksJ8_compactValFor_0 5 rfl rfl)
theorem dJ8_compactValFor_6 : decode cJ8_compactValFor 6 = .ok (.arraylength, 1) := dk_190 (dk_at dksJ8_compactValFor_0 6 rfl rfl)
theorem dJ8_compactValFor_7 : decode cJ8_compactValFor 7 = .ok (.istore_n 2, 1) := dk_61 (dk_at dksJ8_compactValFor_0 7 rfl rfl)
theorem dJ8_compactValFor_8 : decode cJ8_compactValFor 8 = .ok (.iload_n 2, 1) := dk_28 (dk_at dksJ8_compactValFor_0 8 rfl rfl)
theorem dJ8_compactValFor_9 : decode cJ8_compactValFor 9 = .ok (.ifCond .ne 5, 3) := dk_154 0 5 (dk_at dksJ8_compactValFor_0 9 rfl rfl)
theorem dJ8_compactValFor_12 : decode cJ8_compactValFor 12 = .ok (.lconst 0, 1) := dk_9 (dk_at dksJ8_compactValFor_0 12 rfl rfl)
theorem dJ8_compactValFor_13 : decode cJ8_compactValFor 13 = .ok (.lreturn, 1) := dk_173 (dk_at dksJ8_compactValFor_0 13 rfl rfl)
theorem dJ8_compactValFor_14 : decode cJ8_compactValFor 14 = .ok (.aload_n 1, 1) := dk_43 (dk_at dksJ8_compactValFor_0 14 rfl rfl)
theorem dJ8_compactValFor_15 : decode cJ8_compactValFor 15 = .ok (.iconst 0, 1) := dk_3 (dk_at dksJ8_compactValFor_0 15 rfl rfl)
theorem dJ8_compactValFor_16 : decode cJ8_compactValFor 16 = .ok (.iaload, 1) := dk_46 (dk_at dksJ8_compactValFor_0 16 rfl rfl)
theorem dJ8_compactValFor_17 : decode cJ8_compactValFor 17 = .ok (.istore_n 3, 1) := dk_62 (dk_at dksJ8_compactValFor_0 17 rfl rfl)
theorem dJ8_compactValFor_18 : decode cJ8_compactValFor 18 = .ok (.iload_n 2, 1) := dk_28 (dk_at dksJ8_compactValFor_0 18 rfl rfl)
theorem dJ8_compactValFor_19 : decode cJ8_compactValFor 19 = .ok (.iconst 2, 1) := dk_5 (dk_at dksJ8_compactValFor_0 19 rfl rfl)
theorem dJ8_compactValFor_20 : decode cJ8_compactValFor 20 = .ok (.if_icmp .gt 12, 3) := dk_163 0 12 (dk_at dksJ8_compactValFor_0 20 rfl rfl)
theorem dJ8_compactValFor_23 : decode cJ8_compactValFor 23 = .ok (.iload_n 2, 1) := dk_28 (dk_at dksJ8_compactValFor_0 23 rfl rfl)
theorem dJ8_compactValFor_24 : decode cJ8_compactValFor 24 = .ok (.iconst 2, 1) := dk_5 (dk_at dksJ8_compactValFor_1 0 rfl rfl)
theorem dJ8_compactValFor_25 : decode cJ8_compactValFor 25 = .ok (.if_icmp .ne 11, 3) := dk_160 0 11 (dk_at dksJ8_compactValFor_1 1 rfl rfl)
theorem dJ8_compactValFor_28 : decode cJ8_compactValFor 28 = .ok (.iload_n 3, 1) := dk_29 (dk_at dksJ8_compactValFor_1 4 rfl rfl)
theorem dJ8_compactValFor_29 : decode cJ8_compactValFor 29 = .ok (.ifCond .ge 7, 3) := dk_156 0 7 (dk_at dksJ8_compactValFor_1 5 rfl rfl)
theorem dJ8_compactValFor_32 : decode cJ8_compactValFor 32 = .ok (.ldc2_w 125, 3) := dk_20 0 125 (dk_at dksJ8_compactValFor_1 8 rfl rfl)
theorem dJ8_compactValFor_35 : decode cJ8_compactValFor 35 = .ok (.lreturn, 1) := dk_173 (dk_at dksJ8_compactValFor_1 11 rfl rfl)
theorem dJ8_compactValFor_36 : decode cJ8_compactValFor 36 = .ok (.iload_n 2, 1) := dk_28 (dk_at dksJ8_compactValFor_1 12 rfl rfl)
theorem dJ8_compactValFor_37 : decode cJ8_compactValFor 37 = .ok (.iconst 2, 1) := dk_5 (dk_at dksJ8_compactValFor_1 13 rfl rfl)
theorem dJ8_compactValFor_38 : decode cJ8_compactValFor 38 = .ok (.if_icmp .ne 20, 3) := dk_160 0 20 (dk_at dksJ8_compactValFor_1 14 rfl rfl)
theorem dJ8_compactValFor_41 : decode cJ8_compactValFor 41 = .ok (.aload_n 1, 1) := dk_43 (dk_at dksJ8_compactValFor_1 17 rfl rfl)
theorem dJ8_compactValFor_42 : decode cJ8_compactValFor 42 = .ok (.iconst 1, 1) := dk_4 (dk_at dksJ8_compactValFor_1 18 rfl rfl)
theorem dJ8_compactValFor_43 : decode cJ8_compactValFor 43 = .ok (.iaload, 1) := dk_46 (dk_at dksJ8_compactValFor_1 19 rfl rfl)
theorem dJ8_compactValFor_44 : decode cJ8_compactValFor 44 = .ok (.i2l, 1) := dk_133 (dk_at dksJ8_compactValFor_1 20 rfl rfl)
theorem dJ8_compactValFor_45 : decode cJ8_compactValFor 45 = .ok (.ldc2_w 636, 3) := dk_20 2 124 (dk_at dksJ8_compactValFor_1 21 rfl rfl)
theorem dJ8_compactValFor_48 : decode cJ8_compactValFor 48 = .ok (.land, 1) := dk_127 (dk_at dksJ8_compactValFor_2 0 rfl rfl)
theorem dJ8_compactValFor_49 : decode cJ8_compactValFor 49 = .ok (.iload_n 3, 1) := dk_29 (dk_at dksJ8_compactValFor_2 1 rfl rfl)
theorem dJ8_compactValFor_50 : decode cJ8_compactValFor 50 = .ok (.i2l, 1) := dk_133 (dk_at dksJ8_compactValFor_2 2 rfl rfl)
theorem dJ8_compactValFor_51 : decode cJ8_compactValFor 51 = .ok (.bipush 32, 2) := dk_16 32 (dk_at dksJ8_compactValFor_2 3 rfl rfl)
theorem dJ8_compactValFor_53 : decode cJ8_compactValFor 53 = .ok (.lshl, 1) := dk_121 (dk_at dksJ8_compactValFor_2 5 rfl rfl)
theorem dJ8_compactValFor_54 : decode cJ8_compactValFor 54 = .ok (.ladd, 1) := dk_97 (dk_at dksJ8_compactValFor_2 6 rfl rfl)
theorem dJ8_compactValFor_55 : decode cJ8_compactValFor 55 = .ok (.goto 9, 3) := dk_167 0 9 (dk_at dksJ8_compactValFor_2 7 rfl rfl)
theorem dJ8_compactValFor_58 : decode cJ8_compactValFor 58 = .ok (.iload_n 3, 1) := dk_29 (dk_at dksJ8_compactValFor_2 10 rfl rfl)
theorem dJ8_compactValFor_59 : decode cJ8_compactValFor 59 = .ok (.i2l, 1) := dk_133 (dk_at dksJ8_compactValFor_2 11 rfl rfl)
theorem dJ8_compactValFor_60 : decode cJ8_compactValFor 60 = .ok (.ldc2_w 636, 3) := dk_20 2 124 (dk_at dksJ8_compactValFor_2 12 rfl rfl)
theorem dJ8_compactValFor_63 : decode cJ8_compactValFor 63 = .ok (.land, 1) := dk_127 (dk_at dksJ8_compactValFor_2 15 rfl rfl)
theorem dJ8_compactValFor_64 : decode cJ8_compactValFor 64 = .ok (.lstore 4, 2) := dk_55 4 (dk_at dksJ8_compactValFor_2 16 rfl rfl)
theorem dJ8_compactValFor_66 : decode cJ8_compactValFor 66 = .ok (.aload_n 0, 1) := dk_42 (dk_at dksJ8_compactValFor_2 18 rfl rfl)
theorem dJ8_compactValFor_67 : decode cJ8_compactValFor 67 = .ok (.getfield 870, 3) := dk_180 3 102 (dk_at dksJ8_compactValFor_2 19 rfl rfl)
theorem dJ8_compactValFor_70 : decode cJ8_compactValFor 70 = .ok (.ifCond .ge 9, 3) := dk_156 0 9 (dk_at dksJ8_compactValFor_3 0 rfl rfl)
theorem dJ8_compactValFor_73 : decode cJ8_compactValFor 73 = .ok (.lload 4, 2) := dk_22 4 (dk_at dksJ8_compactValFor_3 3 rfl rfl)
theorem dJ8_compactValFor_75 : decode cJ8_compactValFor 75 = .ok (.lneg, 1) := dk_117 (dk_at dksJ8_compactValFor_3 5 rfl rfl)
theorem dJ8_compactValFor_76 : decode cJ8_compactValFor 76 = .ok (.goto 5, 3) := dk_167 0 5 (dk_at dksJ8_compactValFor_3 6 rfl rfl)
theorem dJ8_compactValFor_79 : decode cJ8_compactValFor 79 = .ok (.lload 4, 2) := dk_22 4 (dk_at dksJ8_compactValFor_3 9 rfl rfl)
theorem dJ8_compactValFor_81 : decode cJ8_compactValFor 81 = .ok (.lreturn, 1) := dk_173 (dk_at dksJ8_compactValFor_3 11 rfl rfl)
def dkwJ8_bigMultiplyPowerTen_0 : List UInt8 := [28, 157, 0, 8, 30, 184, 0, 193, 176, 28, 184, 2, 97, 30, 182, 0, 201, 176]
abbrev dktJ8_bigMultiplyPowerTen_0 : List UInt8 := dkwJ8_bigMultiplyPowerTen_0 ++ []
theorem dksJ8_bigMultiplyPowerTen_0 : cJ8_bigMultiplyPowerTen.data.toList.drop 0 = dktJ8_bigMultiplyPowerTen_0 := by decide +kernel
theorem dJ8_bigMultiplyPowerTen_0 : decode cJ8_bigMultiplyPowerTen 0 = .ok (.iload_n 2, 1) := dk_28 (dk_at dksJ8_bigMultiplyPowerTen_0 0 rfl rfl)
theorem dJ8_bigMultiplyPowerTen_1 : decode cJ8_bigMultiplyPowerTen 1 = .ok (.ifCond .gt 8, 3) := dk_157 0 8 (dk_at dksJ8_bigMultiplyPowerTen_0 1 rfl rfl)
theorem dJ8_bigMultiplyPowerTen_4 : decode cJ8_bigMultiplyPowerTen 4 = .ok (.lload_n 0, 1) := dk_30 (dk_at dksJ8_bigMultiplyPowerTen_0 4 rfl rfl)
theorem dJ8_bigMultiplyPowerTen_5 : decode cJ8_bigMultiplyPowerTen 5 = .ok (.invokestatic 193, 3) := dk_184 0 193 (dk_at dksJ8_bigMultiplyPowerTen_0 5 rfl rfl)
theorem dJ8_bigMultiplyPowerTen_8 : decode cJ8_bigMultiplyPowerTen 8 = .ok (.areturn, 1) := dk_176 (dk_at dksJ8_bigMultiplyPowerTen_0 8 rfl rfl)
theorem dJ8_bigMultiplyPowerTen_9 : decode cJ8_bigMultiplyPowerTen 9 = .ok (.iload_n 2, 1) := dk_28 (dk_at dksJ8_bigMultiplyPowerTen_0 9 rfl rfl)
theorem dJ8_bigMultiplyPowerTen_10 : decode cJ8_bigMultiplyPowerTen 10 = .ok (.invokestatic 609, 3) := dk_184 2 97 (dk_at dksJ8_bigMultiplyPowerTen_0 10 rfl rfl)
theorem dJ8_bigMultiplyPowerTen_13 : decode cJ8_bigMultiplyPowerTen 13 = .ok (.lload_n 0, 1) := dk_30 (dk_at dksJ8_bigMultiplyPowerTen_0 13 rfl rfl)
theorem dJ8_bigMultiplyPowerTen_14 : decode cJ8_bigMultiplyPowerTen 14 = .ok (.invokevirtual 201, 3) := dk_182 0 201 (dk_at dksJ8_bigMultiplyPowerTen_0 14 rfl rfl)
theorem dJ8_bigMultiplyPowerTen_17 : decode cJ8_bigMultiplyPowerTen 17 = .ok (.areturn, 1) := dk_176 (dk_at dksJ8_bigMultiplyPowerTen_0 17 rfl rfl)
def dkwJ8_bigTenToThe_1 : List UInt8 := [162, 0, 7, 43, 26, 50, 176, 26, 184, 3, 45, 176, 178, 3, 48, 26, 182, 0, 197, 176]
abbrev dktJ8_bigTenToThe_1 : List UInt8 := dkwJ8_bigTenToThe_1 ++ []
def dkwJ8_bigTenToThe_0 : List UInt8 := [26, 156, 0, 7, 178, 0, 185, 176, 26, 178, 3, 38, 162, 0, 22, 178, 3, 41, 76, 26, 43, 190]
abbrev dktJ8_bigTenToThe_0 : List UInt8 := dkwJ8_bigTenToThe_0 ++ dktJ8_bigTenToThe_1
theorem dksJ8_bigTenToThe_0 : cJ8_bigTenToThe.data.toList.drop 0 = dktJ8_bigTenToThe_0 := by decide +kernel
theorem dksJ8_bigTenToThe_1 : cJ8_bigTenToThe.data.toList.drop 22 = dktJ8_bigTenToThe_1 := dk_seg dksJ8_bigTenToThe_0 22 rfl rfl
theorem dJ8_bigTenToThe_0 : decode cJ8_bigTenToThe 0 = .ok (.iload_n 0, 1) := dk_26 (dk_at dksJ8_bigTenToThe_0 0 rfl rfl)
theorem dJ8_bigTenToThe_1 : decode cJ8_bigTenToThe 1 = .ok (.ifCond .ge 7, 3) := dk_156 0 7 (dk_at dksJ8_bigTenToThe_0 1 rfl rfl)
theorem dJ8_bigTenToThe_4 : decode cJ8_bigTenToThe 4 = .ok (.getstatic 185, 3) := dk_178 0 185 (dk_at dksJ8_bigTenToThe_0 4 rfl rfl)
theorem dJ8_bigTenToThe_7 : decode cJ8_bigTenToThe 7 = .ok (.areturn, 1) := dk_176 (dk_at dksJ8_bigTenToThe_0 7 rfl rfl)
theorem dJ8_bigTenToThe_8 : decode cJ8_bigTenToThe 8 = .ok (.iload_n 0, 1) := dk_26 (dk_at dksJ8_bigTenToThe_0 8 rfl rfl)
theorem dJ8_bigTenToThe_9 : decode cJ8_bigTenToThe 9 = .ok (.getstatic 806, 3) := dk_178 3 38 (dk_at dksJ8_bigTenToThe_0 9 rfl rfl)
theorem dJ8_bigTenToThe_12 : decode cJ8_bigTenToThe 12 = .ok (.if_icmp .ge 22, 3) := dk_162 0 22 (dk_at dksJ8_bigTenToThe_0 12 rfl rfl)
theorem dJ8_bigTenToThe_15 : decode cJ8_bigTenToThe 15 = .ok (.getstatic 809, 3) := dk_178 3 41 (dk_at dksJ8_bigTenToThe_0 15 rfl rfl)
theorem dJ8_bigTenToThe_18 : decode cJ8_bigTenToThe 18 = .ok (.astore_n 1, 1) := dk_76 (dk_at dksJ8_bigTenToThe_0 18 rfl rfl)
theorem dJ8_bigTenToThe_19 : decode cJ8_bigTenToThe 19 = .ok (.iload_n 0, 1) := dk_26 (dk_at dksJ8_bigTenToThe_0 19 rfl rfl)
theorem dJ8_bigTenToThe_20 : decode cJ8_bigTenToThe 20 = .ok (.aload_n 1, 1) := dk_43 (dk_at dksJ8_bigTenToThe_0 20 rfl rfl)
theorem dJ8_bigTenToThe_21 : decode cJ8_bigTenToThe 21 = .ok (.arraylength, 1) := dk_190 (dk_at dksJ8_bigTenToThe_0 21 rfl rfl)
theorem dJ8_bigTenToThe_22 : decode cJ8_bigTenToThe 22 = .ok (.if_icmp .ge 7, 3) := dk_162 0 7 (dk_at dksJ8_bigTenToThe_1 0 rfl rfl)
theorem dJ8_bigTenToThe_25 : decode cJ8_bigTenToThe 25 = .ok (.aload_n 1, 1) := dk_43 (dk_at dksJ8_bigTenToThe_1 3 rfl rfl)
theorem dJ8_bigTenToThe_26 : decode cJ8_bigTenToThe 26 = .ok (.iload_n 0, 1) := dk_26 (dk_at dksJ8_bigTenToThe_1 4 rfl rfl)
theorem dJ8_bigTenToThe_27 : decode cJ8_bigTenToThe 27 = .ok (.aaload, 1) := dk_50 (dk_at dksJ8_bigTenToThe_1 5 rfl rfl)
theorem dJ8_bigTenToThe_28 : decode cJ8_bigTenToThe 28 = .ok (.areturn, 1) := dk_176 (dk_at dksJ8_bigTenToThe_1 6 rfl rfl)
theorem dJ8_bigTenToThe_29 : decode cJ8_bigTenToThe 29 = .ok (.iload_n 0, 1) := dk_26 (dk_at dksJ8_bigTenToThe_1 7 rfl rfl)
theorem dJ8_bigTenToThe_30 : decode cJ8_bigTenToThe 30 = .ok (.invokestatic 813, 3) := dk_184 3 45 (dk_at dksJ8_bigTenToThe_1 8 rfl rfl)
theorem dJ8_bigTenToThe_33 : decode cJ8_bigTenToThe 33 = .ok (.areturn, 1) := dk_176 (dk_at dksJ8_bigTenToThe_1 11 rfl rfl)
theorem dJ8_bigTenToThe_34 : decode cJ8_bigTenToThe 34 = .ok (.getstatic 816, 3) := dk_178 3 48 (dk_at dksJ8_bigTenToThe_1 12 rfl rfl)
theorem dJ8_bigTenToThe_37 : decode cJ8_bigTenToThe 37 = .ok (.iload_n 0, 1) := dk_26 (dk_at dksJ8_bigTenToThe_1 15 rfl rfl)
theorem dJ8_bigTenToThe_38 : decode cJ8_bigTenToThe 38 = .ok (.invokevirtual 197, 3) := dk_182 0 197 (dk_at dksJ8_bigTenToThe_1 16 rfl rfl)
theorem dJ8_bigTenToThe_41 : decode cJ8_bigTenToThe 41 = .ok (.areturn, 1) := dk_176 (dk_at dksJ8_bigTenToThe_1 19 rfl rfl)
def dkwJ8_valueOf_3_2 : List UInt8 := [42, 33, 27, 28, 183, 0, 243, 176]
abbrev dktJ8_valueOf_3_2 : List UInt8 := dkwJ8_valueOf_3_2 ++ []
def dkwJ8_valueOf_3_1 : List UInt8 := [155, 0, 20, 33, 178, 0, 246, 190, 133, 148, 156, 0, 10, 178, 0, 246, 33, 136, 50, 176, 187, 0, 3, 89]
abbrev dktJ8_valueOf_3_1 : List UInt8 := dkwJ8_valueOf_3_1 ++ dktJ8_valueOf_3_2
def dkwJ8_valueOf_3_0 : List UInt8 := [42, 184, 0, 121, 66, 33, 9, 148, 154, 0, 8, 27, 184, 0, 239, 176, 27, 154, 0, 26, 33, 9, 148]
abbrev dktJ8_valueOf_3_0 : List UInt8 := dkwJ8_valueOf_3_0 ++ dktJ8_valueOf_3_1
theorem dksJ8_valueOf_3_0 : cJ8_valueOf_3.data.toList.drop 0 = dktJ8_valueOf_3_0 := by decide +kernel
theorem dksJ8_valueOf_3_1 : cJ8_valueOf_3.data.toList.drop 23 = dktJ8_valueOf_3_1 := dk_seg dksJ8_valueOf_3_0 23 rfl rfl
theorem dksJ8_valueOf_3_2 : cJ8_valueOf_3.data.toList.drop 47 = dktJ8_valueOf_3_2 := dk_seg dksJ8_valueOf_3_1 24 rfl rfl
theorem dJ8_valueOf_3_0 : decode cJ8_valueOf_3 0 = .ok (.aload_n 0, 1) := dk_42 (dk_at dksJ8_valueOf_3_0 0 rfl rfl)
theorem dJ8_valueOf_3_1 : decode cJ8_valueOf_3 1 = .ok (.invokestatic 121, 3) := dk_184 0 121 (dk_at dksJ8_valueOf_3_0 1 rfl rfl)
theorem dJ8_valueOf_3_4 : decode cJ8_valueOf_3 4 = .ok (.lstore_n 3, 1) := dk_66 (dk_at dksJ8_valueOf_3_0 4 rfl rfl)
theorem dJ8_valueOf_3_5 : decode cJ8_valueOf_3 5 = .ok (.lload_n 3, 1) := dk_33 (dk_at dksJ8_valueOf_3_0 5 rfl rfl)
theorem dJ8_valueOf_3_6 : decode cJ8_valueOf_3 6 = .ok (.lconst 0, 1) := dk_9 (dk_at dksJ8_valueOf_3_0 6 rfl rfl)
theorem dJ8_valueOf_3_7 : decode cJ8_valueOf_3 7 = .ok (.lcmp, 1) := dk_148 (dk_at dksJ8_valueOf_3_0 7 rfl rfl)
theorem dJ8_valueOf_3_8 : decode cJ8_valueOf_3 8 = .ok (.ifCond .ne 8, 3) := dk_154 0 8 (dk_at dksJ8_valueOf_3_0 8 rfl rfl)
theorem dJ8_valueOf_3_11 : decode cJ8_valueOf_3 11 = .ok (.iload_n 1, 1) := dk_27 (dk_at dksJ8_valueOf_3_0 11 rfl rfl)
theorem dJ8_valueOf_3_12 : decode cJ8_valueOf_3 12 = .ok (.invokestatic 239, 3) := dk_184 0 239 (dk_at dksJ8_valueOf_3_0 12 rfl rfl)
theorem dJ8_valueOf_3_15 : decode cJ8_valueOf_3 15 = .ok (.areturn, 1) := dk_176 (dk_at dksJ8_valueOf_3_0 15 rfl rfl)
theorem dJ8_valueOf_3_16 : decode cJ8_valueOf_3 16 = .ok (.iload_n 1, 1) := dk_27 (dk_at dksJ8_valueOf_3_0 16 rfl rfl)
theorem dJ8_valueOf_3_17 : decode cJ8_valueOf_3 17 = .ok (.ifCond .ne 26, 3) := dk_154 0 26 (dk_at dksJ8_valueOf_3_0 17 rfl rfl)
theorem dJ8_valueOf_3_20 : decode cJ8_valueOf_3 20 = .ok (.lload_n 3, 1) := dk_33 (dk_at dksJ8_valueOf_3_0 20 rfl rfl)
theorem dJ8_valueOf_3_21 : decode cJ8_valueOf_3 21 = .ok (.lconst 0, 1) := dk_9 (dk_at dksJ8_valueOf_3_0 21 rfl rfl)
theorem dJ8_valueOf_3_22 : decode cJ8_valueOf_3 22 = .ok (.lcmp, 1) := dk_148 (dk_at dksJ8_valueOf_3_0 22 rfl rfl)
theorem dJ8_valueOf_3_23 : decode cJ8_valueOf_3 23 = .ok (.ifCond .lt 20, 3) := dk_155 0 20 (dk_at dksJ8_valueOf_3_1 0 rfl rfl)
theorem dJ8_valueOf_3_26 : decode cJ8_valueOf_3 26 = .ok (.lload_n 3, 1) := dk_33 (dk_at dksJ8_valueOf_3_1 3 rfl rfl)
theorem dJ8_valueOf_3_27 : decode cJ8_valueOf_3 27 = .ok (.getstatic 246, 3) := dk_178 0 246 (dk_at dksJ8_valueOf_3_1 4 rfl rfl)
theorem dJ8_valueOf_3_30 : decode cJ8_valueOf_3 30 = .ok (.arraylength, 1) := dk_190 (dk_at dksJ8_valueOf_3_1 7 rfl rfl)
theorem dJ8_valueOf_3_31 : decode cJ8_valueOf_3 31 = .ok (.i2l, 1) := dk_133 (dk_at dksJ8_valueOf_3_1 8 rfl rfl)
theorem dJ8_valueOf_3_32 : decode cJ8_valueOf_3 32 = .ok (.lcmp, 1) := dk_148 (dk_at dksJ8_valueOf_3_1 9 rfl rfl)
theorem dJ8_valueOf_3_33 : decode cJ8_valueOf_3 33 = .ok (.ifCond .ge 10, 3) := dk_156 0 10 (dk_at dksJ8_valueOf_3_1 10 rfl rfl)
theorem dJ8_valueOf_3_36 : decode cJ8_valueOf_3 36 = .ok (.getstatic 246, 3) := dk_178 0 246 (dk_at dksJ8_valueOf_3_1 13 rfl rfl)
theorem dJ8_valueOf_3_39 : decode cJ8_valueOf_3 39 = .ok (.lload_n 3, 1) := dk_33 (dk_at dksJ8_valueOf_3_1 16 rfl rfl)
theorem dJ8_valueOf_3_40 : decode cJ8_valueOf_3 40 = .ok (.l2i, 1) := dk_136 (dk_at dksJ8_valueOf_3_1 17 rfl rfl)
theorem dJ8_valueOf_3_41 : decode cJ8_valueOf_3 41 = .ok (.aaload, 1) := dk_50 (dk_at dksJ8_valueOf_3_1 18 rfl rfl)
theorem dJ8_valueOf_3_42 : decode cJ8_valueOf_3 42 = .ok (.areturn, 1) := dk_176 (dk_at dksJ8_valueOf_3_1 19 rfl rfl)
theorem dJ8_valueOf_3_43 : decode cJ8_valueOf_3 43 = .ok (.new 3, 3) := dk_187 0 3 (dk_at dksJ8_valueOf_3_1 20 rfl rfl)
theorem dJ8_valueOf_3_46 : decode cJ8_valueOf_3 46 = .ok (.dup, 1) := dk_89 (dk_at dksJ8_valueOf_3_1 23 rfl rfl)
theorem dJ8_valueOf_3_47 : decode cJ8_valueOf_3 47 = .ok (.aload_n 0, 1) := dk_42 (dk_at dksJ8_valueOf_3_2 0 rfl rfl)
theorem dJ8_valueOf_3_48 : decode cJ8_valueOf_3 48 = .ok (.lload_n 3, 1) := dk_33 (dk_at dksJ8_valueOf_3_2 1 rfl rfl)
theorem dJ8_valueOf_3_49 : decode cJ8_valueOf_3 49 = .ok (.iload_n 1, 1) := dk_27 (dk_at dksJ8_valueOf_3_2 2 rfl rfl)
theorem dJ8_valueOf_3_50 : decode cJ8_valueOf_3 50 = .ok (.iload_n 2, 1) := dk_28 (dk_at dksJ8_valueOf_3_2 3 rfl rfl)
theorem dJ8_valueOf_3_51 : decode cJ8_valueOf_3 51 = .ok (.invokespecial 243, 3) := dk_183 0 243 (dk_at dksJ8_valueOf_3_2 4 rfl rfl)
theorem dJ8_valueOf_3_54 : decode cJ8_valueOf_3 54 = .ok (.areturn, 1) := dk_176 (dk_at dksJ8_valueOf_3_2 7 rfl rfl)
def dkwJ8_add_5_6 : List UInt8 := [21, 5, 3, 184, 3, 223, 176]
abbrev dktJ8_add_5_6 : List UInt8 := dkwJ8_add_5_6 ++ []
def dkwJ8_add_5_5 : List UInt8 := [153, 0, 21, 187, 0, 3, 89, 25, 9, 20, 0, 125, 21, 5, 3, 183, 0, 243, 167, 0, 11, 25, 9]
abbrev dktJ8_add_5_5 : List UInt8 := dkwJ8_add_5_5 ++ dktJ8_add_5_6
def dkwJ8_add_5_4 : List UInt8 := [22, 6, 184, 3, 220, 54, 10, 45, 21, 10, 184, 2, 103, 78, 45, 30, 182, 3, 230, 58, 9, 21, 8]
abbrev dktJ8_add_5_4 : List UInt8 := dkwJ8_add_5_4 ++ dktJ8_add_5_5
def dkwJ8_add_5_3 : List UInt8 := [184, 3, 234, 182, 1, 50, 58, 9, 167, 0, 11, 45, 22, 11, 182, 3, 230, 58, 9, 167, 0, 25, 45]
abbrev dktJ8_add_5_3 : List UInt8 := dkwJ8_add_5_3 ++ dktJ8_add_5_4
def dkwJ8_add_5_2 : List UInt8 := [54, 5, 30, 21, 10, 184, 2, 87, 55, 11, 22, 11, 20, 0, 125, 148, 154, 0, 18, 45, 30, 21, 10]
abbrev dktJ8_add_5_2 : List UInt8 := dkwJ8_add_5_2 ++ dktJ8_add_5_3
def dkwJ8_add_5_1 : List UInt8 := [167, 0, 4, 3, 54, 8, 22, 6, 9, 148, 156, 0, 59, 30, 22, 6, 117, 184, 3, 226, 54, 10, 21, 4]
abbrev dktJ8_add_5_1 : List UInt8 := dkwJ8_add_5_1 ++ dktJ8_add_5_2
def dkwJ8_add_5_0 : List UInt8 := [28, 54, 5, 21, 5, 133, 21, 4, 133, 101, 55, 6, 30, 184, 2, 84, 45, 180, 3, 102, 160, 0, 7, 4]
abbrev dktJ8_add_5_0 : List UInt8 := dkwJ8_add_5_0 ++ dktJ8_add_5_1
theorem dksJ8_add_5_0 : cJ8_add_5.data.toList.drop 0 = dktJ8_add_5_0 := by decide +kernel
theorem dksJ8_add_5_1 : cJ8_add_5.data.toList.drop 24 = dktJ8_add_5_1 := dk_seg dksJ8_add_5_0 24 rfl rfl
theorem dksJ8_add_5_2 : cJ8_add_5.data.toList.drop 48 = dktJ8_add_5_2 := dk_seg dksJ8_add_5_1 24 rfl rfl
theorem dksJ8_add_5_3 : cJ8_add_5.data.toList.drop 71 = dktJ8_add_5_3 := dk_seg dksJ8_add_5_2 23 rfl rfl
theorem dksJ8_add_5_4 : cJ8_add_5.data.toList.drop 94 = dktJ8_add_5_4 := dk_seg dksJ8_add_5_3 23 rfl rfl
theorem dksJ8_add_5_5 : cJ8_add_5.data.toList.drop 117 = dktJ8_add_5_5 := dk_seg dksJ8_add_5_4 23 rfl rfl
theorem dksJ8_add_5_6 : cJ8_add_5.data.toList.drop 140 = dktJ8_add_5_6 := dk_seg dksJ8_add_5_5 23 rfl rfl
theorem dJ8_add_5_0 : decode cJ8_add_5 0 = .ok (.iload_n 2, 1) := dk_28 (dk_at dksJ8_add_5_0 0 rfl rfl)
theorem dJ8_add_5_1 : decode cJ8_add_5 1 = .ok (.istore 5, 2) := dk_54 5 (dk_at dksJ8_add_5_0 1 rfl rfl)
theorem dJ8_add_5_3 : decode cJ8_add_5 3 = .ok (.iload 5, 2) := dk_21 5 (dk_at dksJ8_add_5_0 3 rfl rfl)
theorem dJ8_add_5_5 : decode cJ8_add_5 5 = .ok (.i2l, 1) := dk_133 (dk_at dksJ8_add_5_0 5 rfl rfl)
theorem dJ8_add_5_6 : decode cJ8_add_5 6 = .ok (.iload 4, 2) := dk_21 4 (dk_at dksJ8_add_5_0 6 rfl rfl)
theorem dJ8_add_5_8 : decode cJ8_add_5 8 = .ok (.i2l, 1) := dk_133 (dk_at dksJ8_add_5_0 8 rfl rfl)
theorem dJ8_add_5_9 : decode cJ8_add_5 9 = .ok (.lsub, 1) := dk_101 (dk_at dksJ8_add_5_0 9 rfl rfl)
theorem dJ8_add_5_10 : decode cJ8_add_5 10 = .ok (.lstore 6, 2) := dk_55 6 (dk_at dksJ8_add_5_0 10 rfl rfl)
theorem dJ8_add_5_12 : decode cJ8_add_5 12 = .ok (.lload_n 0, 1) := dk_30 (dk_at dksJ8_add_5_0 12 rfl rfl)
theorem dJ8_add_5_13 : decode cJ8_add_5 13 = .ok (.invokestatic 596, 3) := dk_184 2 84 (dk_at dksJ8_add_5_0 13 rfl rfl)
theorem dJ8_add_5_16 : decode cJ8_add_5 16 = .ok (.aload_n 3, 1) := dk_45 (dk_at dksJ8_add_5_0 16 rfl rfl)
theorem dJ8_add_5_17 : decode cJ8_add_5 17 = .ok (.getfield 870, 3) := dk_180 3 102 (dk_at dksJ8_add_5_0 17 rfl rfl)
theorem dJ8_add_5_20 : decode cJ8_add_5 20 = .ok (.if_icmp .ne 7, 3) := dk_160 0 7 (dk_at dksJ8_add_5_0 20 rfl rfl)
theorem dJ8_add_5_23 : decode cJ8_add_5 23 = .ok (.iconst 1, 1) := dk_4 (dk_at dksJ8_add_5_0 23 rfl rfl)
theorem dJ8_add_5_24 : decode cJ8_add_5 24 = .ok (.goto 4, 3) := dk_167 0 4 (dk_at dksJ8_add_5_1 0 rfl rfl)
theorem dJ8_add_5_27 : decode cJ8_add_5 27 = .ok (.iconst 0, 1) := dk_3 (dk_at dksJ8_add_5_1 3 rfl rfl)
theorem dJ8_add_5_28 : decode cJ8_add_5 28 = .ok (.istore 8, 2) := dk_54 8 (dk_at dksJ8_add_5_1 4 rfl rfl)
theorem dJ8_add_5_30 : decode cJ8_add_5 30 = .ok (.lload 6, 2) := dk_22 6 (dk_at dksJ8_add_5_1 6 rfl rfl)
theorem dJ8_add_5_32 : decode cJ8_add_5 32 = .ok (.lconst 0, 1) := dk_9 (dk_at dksJ8_add_5_1 8 rfl rfl)
theorem dJ8_add_5_33 : decode cJ8_add_5 33 = .ok (.lcmp, 1) := dk_148 (dk_at dksJ8_add_5_1 9 rfl rfl)
theorem dJ8_add_5_34 : decode cJ8_add_5 34 = .ok (.ifCond .ge 59, 3) := dk_156 0 59 (dk_at dksJ8_add_5_1 10 rfl rfl)
theorem dJ8_add_5_37 : decode cJ8_add_5 37 = .ok (.lload_n 0, 1) := dk_30 (dk_at dksJ8_add_5_1 13 rfl rfl)
theorem dJ8_add_5_38 : decode cJ8_add_5 38 = .ok (.lload 6, 2) := dk_22 6 (dk_at dksJ8_add_5_1 14 rfl rfl)
theorem dJ8_add_5_40 : decode cJ8_add_5 40 = .ok (.lneg, 1) := dk_117 (dk_at dksJ8_add_5_1 16 rfl rfl)
theorem dJ8_add_5_41 : decode cJ8_add_5 41 = .ok (.invokestatic 994, 3) := dk_184 3 226 (dk_at dksJ8_add_5_1 17 rfl rfl)
theorem dJ8_add_5_44 : decode cJ8_add_5 44 = .ok (.istore 10, 2) := dk_54 10 (dk_at dksJ8_add_5_1 20 rfl rfl)
theorem dJ8_add_5_46 : decode cJ8_add_5 46 = .ok (.iload 4, 2) := dk_21 4 (dk_at dksJ8_add_5_1 22 rfl rfl)
theorem dJ8_add_5_48 : decode cJ8_add_5 48 = .ok (.istore 5, 2) := dk_54 5 (dk_at dksJ8_add_5_2 0 rfl rfl)
theorem dJ8_add_5_50 : decode cJ8_add_5 50 = .ok (.lload_n 0, 1) := dk_30 (dk_at dksJ8_add_5_2 2 rfl rfl)
theorem dJ8_add_5_51 : decode cJ8_add_5 51 = .ok (.iload 10, 2) := dk_21 10 (dk_at dksJ8_add_5_2 3 rfl rfl)
theorem dJ8_add_5_53 : decode cJ8_add_5 53 = .ok (.invokestatic 599, 3) := dk_184 2 87 (dk_at dksJ8_add_5_2 5 rfl rfl)
theorem dJ8_add_5_56 : decode cJ8_add_5 56 = .ok (.lstore 11, 2) := dk_55 11 (dk_at dksJ8_add_5_2 8 rfl rfl)
theorem dJ8_add_5_58 : decode cJ8_add_5 58 = .ok (.lload 11, 2) := dk_22 11 (dk_at dksJ8_add_5_2 10 rfl rfl)
theorem dJ8_add_5_60 : decode cJ8_add_5 60 = .ok (.ldc2_w 125, 3) := dk_20 0 125 (dk_at dksJ8_add_5_2 12 rfl rfl)
theorem dJ8_add_5_63 : decode cJ8_add_5 63 = .ok (.lcmp, 1) := dk_148 (dk_at dksJ8_add_5_2 15 rfl rfl)
theorem dJ8_add_5_64 : decode cJ8_add_5 64 = .ok (.ifCond .ne 18, 3) := dk_154 0 18 (dk_at dksJ8_add_5_2 16 rfl rfl)
theorem dJ8_add_5_67 : decode cJ8_add_5 67 = .ok (.aload_n 3, 1) := dk_45 (dk_at dksJ8_add_5_2 19 rfl rfl)
theorem dJ8_add_5_68 : decode cJ8_add_5 68 = .ok (.lload_n 0, 1) := dk_30 (dk_at dksJ8_add_5_2 20 rfl rfl)
theorem dJ8_add_5_69 : decode cJ8_add_5 69 = .ok (.iload 10, 2) := dk_21 10 (dk_at dksJ8_add_5_2 21 rfl rfl)
theorem dJ8_add_5_71 : decode cJ8_add_5 71 = .ok (.invokestatic 1002, 3) := dk_184 3 234 (dk_at dksJ8_add_5_3 0 rfl rfl)
theorem dJ8_add_5_74 : decode cJ8_add_5 74 = .ok (.invokevirtual 306, 3) := dk_182 1 50 (dk_at dksJ8_add_5_3 3 rfl rfl)
theorem dJ8_add_5_77 : decode cJ8_add_5 77 = .ok (.astore 9, 2) := dk_58 9 (dk_at dksJ8_add_5_3 6 rfl rfl)
theorem dJ8_add_5_79 : decode cJ8_add_5 79 = .ok (.goto 11, 3) := dk_167 0 11 (dk_at dksJ8_add_5_3 8 rfl rfl)
theorem dJ8_add_5_82 : decode cJ8_add_5 82 = .ok (.aload_n 3, 1) := dk_45 (dk_at dksJ8_add_5_3 11 rfl rfl)
theorem dJ8_add_5_83 : decode cJ8_add_5 83 = .ok (.lload 11, 2) := dk_22 11 (dk_at dksJ8_add_5_3 12 rfl rfl)
theorem dJ8_add_5_85 : decode cJ8_add_5 85 = .ok (.invokevirtual 998, 3) := dk_182 3 230 (dk_at dksJ8_add_5_3 14 rfl rfl)
theorem dJ8_add_5_88 : decode cJ8_add_5 88 = .ok (.astore 9, 2) := dk_58 9 (dk_at dksJ8_add_5_3 17 rfl rfl)
theorem dJ8_add_5_90 : decode cJ8_add_5 90 = .ok (.goto 25, 3) := dk_167 0 25 (dk_at dksJ8_add_5_3 19 rfl rfl)
theorem dJ8_add_5_93 : decode cJ8_add_5 93 = .ok (.aload_n 3, 1) := dk_45 (dk_at dksJ8_add_5_3 22 rfl rfl)
theorem dJ8_add_5_94 : decode cJ8_add_5 94 = .ok (.lload 6, 2) := dk_22 6 (dk_at dksJ8_add_5_4 0 rfl rfl)
theorem dJ8_add_5_96 : decode cJ8_add_5 96 = .ok (.invokestatic 988, 3) := dk_184 3 220 (dk_at dksJ8_add_5_4 2 rfl rfl)
theorem dJ8_add_5_99 : decode cJ8_add_5 99 = .ok (.istore 10, 2) := dk_54 10 (dk_at dksJ8_add_5_4 5 rfl rfl)
theorem dJ8_add_5_101 : decode cJ8_add_5 101 = .ok (.aload_n 3, 1) := dk_45 (dk_at dksJ8_add_5_4 7 rfl rfl)
theorem dJ8_add_5_102 : decode cJ8_add_5 102 = .ok (.iload 10, 2) := dk_21 10 (dk_at dksJ8_add_5_4 8 rfl rfl)
theorem dJ8_add_5_104 : decode cJ8_add_5 104 = .ok (.invokestatic 615, 3) := dk_184 2 103 (dk_at dksJ8_add_5_4 10 rfl rfl)
theorem dJ8_add_5_107 : decode cJ8_add_5 107 = .ok (.astore_n 3, 1) := dk_78 (dk_at dksJ8_add_5_4 13 rfl rfl)
theorem dJ8_add_5_108 : decode cJ8_add_5 108 = .ok (.aload_n 3, 1) := dk_45 (dk_at dksJ8_add_5_4 14 rfl rfl)
theorem dJ8_add_5_109 : decode cJ8_add_5 109 = .ok (.lload_n 0, 1) := dk_30 (dk_at dksJ8_add_5_4 15 rfl rfl)
theorem dJ8_add_5_110 : decode cJ8_add_5 110 = .ok (.invokevirtual 998, 3) := dk_182 3 230 (dk_at dksJ8_add_5_4 16 rfl rfl)
theorem dJ8_add_5_113 : decode cJ8_add_5 113 = .ok (.astore 9, 2) := dk_58 9 (dk_at dksJ8_add_5_4 19 rfl rfl)
theorem dJ8_add_5_115 : decode cJ8_add_5 115 = .ok (.iload 8, 2) := dk_21 8 (dk_at dksJ8_add_5_4 21 rfl rfl)
theorem dJ8_add_5_117 : decode cJ8_add_5 117 = .ok (.ifCond .eq 21, 3) := dk_153 0 21 (dk_at dksJ8_add_5_5 0 rfl rfl)
theorem dJ8_add_5_120 : decode cJ8_add_5 120 = .ok (.new 3, 3) := dk_187 0 3 (dk_at dksJ8_add_5_5 3 rfl rfl)
theorem dJ8_add_5_123 : decode cJ8_add_5 123 = .ok (.dup, 1) := dk_89 (dk_at dksJ8_add_5_5 6 rfl rfl)
theorem dJ8_add_5_124 : decode cJ8_add_5 124 = .ok (.aload 9, 2) := dk_25 9 (dk_at dksJ8_add_5_5 7 rfl rfl)
theorem dJ8_add_5_126 : decode cJ8_add_5 126 = .ok (.ldc2_w 125, 3) := dk_20 0 125 (dk_at dksJ8_add_5_5 9 rfl rfl)
theorem dJ8_add_5_129 : decode cJ8_add_5 129 = .ok (.iload 5, 2) := dk_21 5 (dk_at dksJ8_add_5_5 12 rfl rfl)
theorem dJ8_add_5_131 : decode cJ8_add_5 131 = .ok (.iconst 0, 1) := dk_3 (dk_at dksJ8_add_5_5 14 rfl rfl)
theorem dJ8_add_5_132 : decode cJ8_add_5 132 = .ok (.invokespecial 243, 3) := dk_183 0 243 (dk_at dksJ8_add_5_5 15 rfl rfl)
theorem dJ8_add_5_135 : decode cJ8_add_5 135 = .ok (.goto 11, 3) := dk_167 0 11 (dk_at dksJ8_add_5_5 18 rfl rfl)
theorem dJ8_add_5_138 : decode cJ8_add_5 138 = .ok (.aload 9, 2) := dk_25 9 (dk_at dksJ8_add_5_5 21 rfl rfl)
theorem dJ8_add_5_140 : decode cJ8_add_5 140 = .ok (.iload 5, 2) := dk_21 5 (dk_at dksJ8_add_5_6 0 rfl rfl)
theorem dJ8_add_5_142 : decode cJ8_add_5 142 = .ok (.iconst 0, 1) := dk_3 (dk_at dksJ8_add_5_6 2 rfl rfl)
theorem dJ8_add_5_143 : decode cJ8_add_5 143 = .ok (.invokestatic 991, 3) := dk_184 3 223 (dk_at dksJ8_add_5_6 3 rfl rfl)
theorem dJ8_add_5_146 : decode cJ8_add_5 146 = .ok (.areturn, 1) := dk_176 (dk_at dksJ8_add_5_6 6 rfl rfl)
def dkwJ8_checkScale_2_2 : List UInt8 := [167, 0, 6, 19, 2, 182, 183, 1, 132, 191, 29, 172]
abbrev dktJ8_checkScale_2_2 : List UInt8 := dkwJ8_checkScale_2_2 ++ []
def dkwJ8_checkScale_2_1 : List UInt8 := [19, 3, 107, 62, 42, 182, 2, 86, 153, 0, 24, 187, 1, 128, 89, 29, 158, 0, 9, 19, 3, 108]
abbrev dktJ8_checkScale_2_1 : List UInt8 := dkwJ8_checkScale_2_1 ++ dktJ8_checkScale_2_2
def dkwJ8_checkScale_2_0 : List UInt8 := [31, 136, 62, 29, 133, 31, 148, 153, 0, 49, 31, 20, 1, 148, 148, 158, 0, 9, 19, 3, 106, 167, 0, 6]
abbrev dktJ8_checkScale_2_0 : List UInt8 := dkwJ8_checkScale_2_0 ++ dktJ8_checkScale_2_1
theorem dksJ8_checkScale_2_0 : cJ8_checkScale_2.data.toList.drop 0 = dktJ8_checkScale_2_0 := by decide +kernel
theorem dksJ8_checkScale_2_1 : cJ8_checkScale_2.data.toList.drop 24 = dktJ8_checkScale_2_1 := dk_seg dksJ8_checkScale_2_0 24 rfl rfl
theorem dksJ8_checkScale_2_2 : cJ8_checkScale_2.data.toList.drop 46 = dktJ8_checkScale_2_2 := dk_seg dksJ8_checkScale_2_1 22 rfl rfl
theorem dJ8_checkScale_2_0 : decode cJ8_checkScale_2 0 = .ok (.lload_n 1, 1) := dk_31 (dk_at dksJ8_checkScale_2_0 0 rfl rfl)
theorem dJ8_checkScale_2_1 : decode cJ8_checkScale_2 1 = .ok (.l2i, 1) := dk_136 (dk_at dksJ8_checkScale_2_0 1 rfl rfl)
theorem dJ8_checkScale_2_2 : decode cJ8_checkScale_2 2 = .ok (.istore_n 3, 1) := dk_62 (dk_at dksJ8_checkScale_2_0 2 rfl rfl)
theorem dJ8_checkScale_2_3 : decode cJ8_checkScale_2 3 = .ok (.iload_n 3, 1) := dk_29 (dk_at dksJ8_checkScale_2_0 3 rfl rfl)
theorem dJ8_checkScale_2_4 : decode cJ8_checkScale_2 4 = .ok (.i2l, 1) := dk_133 (dk_at dksJ8_checkScale_2_0 4 rfl rfl)
theorem dJ8_checkScale_2_5 : decode cJ8_checkScale_2 5 = .ok (.lload_n 1, 1) := dk_31 (dk_at dksJ8_checkScale_2_0 5 rfl rfl)
theorem dJ8_checkScale_2_6 : decode cJ8_checkScale_2 6 = .ok (.lcmp, 1) := dk_148 (dk_at dksJ8_checkScale_2_0 6 rfl rfl)
theorem dJ8_checkScale_2_7 : decode cJ8_checkScale_2 7 = .ok (.ifCond .eq 49, 3) := dk_153 0 49 (dk_at dksJ8_checkScale_2_0 7 rfl rfl)
theorem dJ8_checkScale_2_10 : decode cJ8_checkScale_2 10 = .ok (.lload_n 1, 1) := dk_31 (dk_at dksJ8_checkScale_2_0 10 rfl rfl)
theorem dJ8_checkScale_2_11 : decode cJ8_checkScale_2 11 = .ok (.ldc2_w 404, 3) := dk_20 1 148 (dk_at dksJ8_checkScale_2_0 11 rfl rfl)
theorem dJ8_checkScale_2_14 : decode cJ8_checkScale_2 14 = .ok (.lcmp, 1) := dk_148 (dk_at dksJ8_checkScale_2_0 14 rfl rfl)
theorem dJ8_checkScale_2_15 : decode cJ8_checkScale_2 15 = .ok (.ifCond .le 9, 3) := dk_158 0 9 (dk_at dksJ8_checkScale_2_0 15 rfl rfl)
theorem dJ8_checkScale_2_18 : decode cJ8_checkScale_2 18 = .ok (.ldc_w 874, 3) := dk_19 3 106 (dk_at dksJ8_checkScale_2_0 18 rfl rfl)
theorem dJ8_checkScale_2_21 : decode cJ8_checkScale_2 21 = .ok (.goto 6, 3) := dk_167 0 6 (dk_at dksJ8_checkScale_2_0 21 rfl rfl)
theorem dJ8_checkScale_2_24 : decode cJ8_checkScale_2 24 = .ok (.ldc_w 875, 3) := dk_19 3 107 (dk_at dksJ8_checkScale_2_1 0 rfl rfl)
theorem dJ8_checkScale_2_27 : decode cJ8_checkScale_2 27 = .ok (.istore_n 3, 1) := dk_62 (dk_at dksJ8_checkScale_2_1 3 rfl rfl)
theorem dJ8_checkScale_2_28 : decode cJ8_checkScale_2 28 = .ok (.aload_n 0, 1) := dk_42 (dk_at dksJ8_checkScale_2_1 4 rfl rfl)
theorem dJ8_checkScale_2_29 : decode cJ8_checkScale_2 29 = .ok (.invokevirtual 598, 3) := dk_182 2 86 (dk_at dksJ8_checkScale_2_1 5 rfl rfl)
theorem dJ8_checkScale_2_32 : decode cJ8_checkScale_2 32 = .ok (.ifCond .eq 24, 3) := dk_153 0 24 (dk_at dksJ8_checkScale_2_1 8 rfl rfl)
theorem dJ8_checkScale_2_35 : decode cJ8_checkScale_2 35 = .ok (.new 384, 3) := dk_187 1 128 (dk_at dksJ8_checkScale_2_1 11 rfl rfl)
theorem dJ8_checkScale_2_38 : decode cJ8_checkScale_2 38 = .ok (.dup, 1) := dk_89 (dk_at dksJ8_checkScale_2_1 14 rfl rfl)
theorem dJ8_checkScale_2_39 : decode cJ8_checkScale_2 39 = .ok (.iload_n 3, 1) := dk_29 (dk_at dksJ8_checkScale_2_1 15 rfl rfl)
theorem dJ8_checkScale_2_40 : decode cJ8_checkScale_2 40 = .ok (.ifCond .le 9, 3) := dk_158 0 9 (dk_at dksJ8_checkScale_2_1 16 rfl rfl)
theorem dJ8_checkScale_2_43 : decode cJ8_checkScale_2 43 = .ok (.ldc_w 876, 3) := dk_19 3 108 (dk_at dksJ8_checkScale_2_1 19 rfl rfl)
theorem dJ8_checkScale_2_46 : decode cJ8_checkScale_2 46 = .ok (.goto 6, 3) := dk_167 0 6 (dk_at dksJ8_checkScale_2_2 0 rfl rfl)
theorem dJ8_checkScale_2_49 : decode cJ8_checkScale_2 49 = .ok (.ldc_w 694, 3) := dk_19 2 182 (dk_at dksJ8_checkScale_2_2 3 rfl rfl)
theorem dJ8_checkScale_2_52 : decode cJ8_checkScale_2 52 = .ok (.invokespecial 388, 3) := dk_183 1 132 (dk_at dksJ8_checkScale_2_2 6 rfl rfl)
theorem dJ8_checkScale_2_55 : decode cJ8_checkScale_2 55 = .ok (.athrow, 1) := dk_191 (dk_at dksJ8_checkScale_2_2 9 rfl rfl)
theorem dJ8_checkScale_2_56 : decode cJ8_checkScale_2 56 = .ok (.iload_n 3, 1) := dk_29 (dk_at dksJ8_checkScale_2_2 10 rfl rfl)
theorem dJ8_checkScale_2_57 : decode cJ8_checkScale_2 57 = .ok (.ireturn, 1) := dk_172 (dk_at dksJ8_checkScale_2_2 11 rfl rfl)
def dkwJ8_bigMultiplyPowerTen_2_1 : List UInt8 := [42, 27, 184, 2, 97, 182, 2, 212, 176]
abbrev dktJ8_bigMultiplyPowerTen_2_1 : List UInt8 := dkwJ8_bigMultiplyPowerTen_2_1 ++ []
def dkwJ8_bigMultiplyPowerTen_2_0 : List UInt8 := [27, 157, 0, 5, 42, 176, 27, 178, 0, 95, 190, 162, 0, 13, 42, 178, 0, 95, 27, 47, 182, 0, 201, 176]
abbrev dktJ8_bigMultiplyPowerTen_2_0 : List UInt8 := dkwJ8_bigMultiplyPowerTen_2_0 ++ dktJ8_bigMultiplyPowerTen_2_1
theorem dksJ8_bigMultiplyPowerTen_2_0 : cJ8_bigMultiplyPowerTen_2.data.toList.drop 0 = dktJ8_bigMultiplyPowerTen_2_0 := by decide +kernel
theorem dksJ8_bigMultiplyPowerTen_2_1 : cJ8_bigMultiplyPowerTen_2.data.toList.drop 24 = dktJ8_bigMultiplyPowerTen_2_1 := dk_seg dksJ8_bigMultiplyPowerTen_2_0 24 rfl rfl
theorem dJ8_bigMultiplyPowerTen_2_0 : decode cJ8_bigMultiplyPowerTen_2 0 = .ok (.iload_n 1, 1) := dk_27 (dk_at dksJ8_bigMultiplyPowerTen_2_0 0 rfl rfl)
theorem dJ8_bigMultiplyPowerTen_2_1 : decode cJ8_bigMultiplyPowerTen_2 1 = .ok (.ifCond .gt 5, 3) := dk_157 0 5 (dk_at dksJ8_bigMultiplyPowerTen_2_0 1 rfl rfl)
theorem dJ8_bigMultiplyPowerTen_2_4 : decode cJ8_bigMultiplyPowerTen_2 4 = .ok (.aload_n 0, 1) := dk_42 (dk_at dksJ8_bigMultiplyPowerTen_2_0 4 rfl rfl)
theorem dJ8_bigMultiplyPowerTen_2_5 : decode cJ8_bigMultiplyPowerTen_2 5 = .ok (.areturn, 1) := dk_176 (dk_at dksJ8_bigMultiplyPowerTen_2_0 5 rfl rfl)
theorem dJ8_bigMultiplyPowerTen_2_6 : decode cJ8_bigMultiplyPowerTen_2 6 = .ok (.iload_n 1, 1) := dk_27 (dk_at dksJ8_bigMultiplyPowerTen_2_0 6 rfl rfl)
theorem dJ8_bigMultiplyPowerTen_2_7 : decode cJ8_bigMultiplyPowerTen_2 7 = .ok (.getstatic 95, 3) := dk_178 0 95 (dk_at dksJ8_bigMultiplyPowerTen_2_0 7 rfl rfl)
theorem dJ8_bigMultiplyPowerTen_2_10 : decode cJ8_bigMultiplyPowerTen_2 10 = .ok (.arraylength, 1) := dk_190 (dk_at dksJ8_bigMultiplyPowerTen_2_0 10 rfl rfl)
theorem dJ8_bigMultiplyPowerTen_2_11 : decode cJ8_bigMultiplyPowerTen_2 11 = .ok (.if_icmp .ge 13, 3) := dk_162 0 13 (dk_at dksJ8_bigMultiplyPowerTen_2_0 11 rfl rfl)
theorem dJ8_bigMultiplyPowerTen_2_14 : decode cJ8_bigMultiplyPowerTen_2 14 = .ok (.aload_n 0, 1) := dk_42 (dk_at dksJ8_bigMultiplyPowerTen_2_0 14 rfl rfl)
theorem dJ8_bigMultiplyPowerTen_2_15 : decode cJ8_bigMultiplyPowerTen_2 15 = .ok (.getstatic 95, 3) := dk_178 0 95 (dk_at dksJ8_bigMultiplyPowerTen_2_0 15 rfl rfl)
theorem dJ8_bigMultiplyPowerTen_2_18 : decode cJ8_bigMultiplyPowerTen_2 18 = .ok (.iload_n 1, 1) := dk_27 (dk_at dksJ8_bigMultiplyPowerTen_2_0 18 rfl rfl)
theorem dJ8_bigMultiplyPowerTen_2_19 : decode cJ8_bigMultiplyPowerTen_2 19 = .ok (.laload, 1) := dk_47 (dk_at dksJ8_bigMultiplyPowerTen_2_0 19 rfl rfl)
theorem dJ8_bigMultiplyPowerTen_2_20 : decode cJ8_bigMultiplyPowerTen_2 20 = .ok (.invokevirtual 201, 3) := dk_182 0 201 (dk_at dksJ8_bigMultiplyPowerTen_2_0 20 rfl rfl)
theorem dJ8_bigMultiplyPowerTen_2_23 : decode cJ8_bigMultiplyPowerTen_2 23 = .ok (.areturn, 1) := dk_176 (dk_at dksJ8_bigMultiplyPowerTen_2_0 23 rfl rfl)
theorem dJ8_bigMultiplyPowerTen_2_24 : decode cJ8_bigMultiplyPowerTen_2 24 = .ok (.aload_n 0, 1) := dk_42 (dk_at dksJ8_bigMultiplyPowerTen_2_1 0 rfl rfl)
theorem dJ8_bigMultiplyPowerTen_2_25 : decode cJ8_bigMultiplyPowerTen_2 25 = .ok (.iload_n 1, 1) := dk_27 (dk_at dksJ8_bigMultiplyPowerTen_2_1 1 rfl rfl)
theorem dJ8_bigMultiplyPowerTen_2_26 : decode cJ8_bigMultiplyPowerTen_2 26 = .ok (.invokestatic 609, 3) := dk_184 2 97 (dk_at dksJ8_bigMultiplyPowerTen_2_1 2 rfl rfl)
theorem dJ8_bigMultiplyPowerTen_2_29 : decode cJ8_bigMultiplyPowerTen_2 29 = .ok (.invokevirtual 724, 3) := dk_182 2 212 (dk_at dksJ8_bigMultiplyPowerTen_2_1 5 rfl rfl)
theorem dJ8_bigMultiplyPowerTen_2_32 : decode cJ8_bigMultiplyPowerTen_2 32 = .ok (.areturn, 1) := dk_176 (dk_at dksJ8_bigMultiplyPowerTen_2_1 8 rfl rfl)
def dkwJ8_add_6_4 : List UInt8 := [3, 183, 0, 243, 167, 0, 11, 25, 7, 21, 4, 3, 184, 3, 223, 176]
abbrev dktJ8_add_6_4 : List UInt8 := dkwJ8_add_6_4 ++ []
def dkwJ8_add_6_3 : List UInt8 := [58, 7, 42, 180, 3, 102, 44, 180, 3, 102, 160, 0, 21, 187, 0, 3, 89, 25, 7, 20, 0, 125, 21, 4]
abbrev dktJ8_add_6_3 : List UInt8 := dkwJ8_add_6_3 ++ dktJ8_add_6_4
def dkwJ8_add_6_2 : List UInt8 := [167, 0, 18, 44, 22, 5, 184, 3, 220, 54, 7, 44, 21, 7, 184, 2, 103, 77, 42, 44, 182, 1, 50]
abbrev dktJ8_add_6_2 : List UInt8 := dkwJ8_add_6_2 ++ dktJ8_add_6_3
def dkwJ8_add_6_1 : List UInt8 := [156, 0, 25, 42, 22, 5, 117, 184, 3, 220, 54, 7, 29, 54, 4, 42, 21, 7, 184, 2, 103, 75]
abbrev dktJ8_add_6_1 : List UInt8 := dkwJ8_add_6_1 ++ dktJ8_add_6_2
def dkwJ8_add_6_0 : List UInt8 := [27, 54, 4, 21, 4, 133, 29, 133, 101, 55, 5, 22, 5, 9, 148, 153, 0, 47, 22, 5, 9, 148]
abbrev dktJ8_add_6_0 : List UInt8 := dkwJ8_add_6_0 ++ dktJ8_add_6_1
theorem dksJ8_add_6_0 : cJ8_add_6.data.toList.drop 0 = dktJ8_add_6_0 := by decide +kernel
theorem dksJ8_add_6_1 : cJ8_add_6.data.toList.drop 22 = dktJ8_add_6_1 := dk_seg dksJ8_add_6_0 22 rfl rfl
theorem dksJ8_add_6_2 : cJ8_add_6.data.toList.drop 44 = dktJ8_add_6_2 := dk_seg dksJ8_add_6_1 22 rfl rfl
theorem dksJ8_add_6_3 : cJ8_add_6.data.toList.drop 67 = dktJ8_add_6_3 := dk_seg dksJ8_add_6_2 23 rfl rfl
theorem dksJ8_add_6_4 : cJ8_add_6.data.toList.drop 91 = dktJ8_add_6_4 := dk_seg dksJ8_add_6_3 24 rfl rfl
theorem dJ8_add_6_0 : decode cJ8_add_6 0 = .ok (.iload_n 1, 1) := dk_27 (dk_at dksJ8_add_6_0 0 rfl rfl)
theorem dJ8_add_6_1 : decode cJ8_add_6 1 = .ok (.istore 4, 2) := dk_54 4 (dk_at dksJ8_add_6_0 1 rfl rfl)
theorem dJ8_add_6_3 : decode cJ8_add_6 3 = .ok (.iload 4, 2) := dk_21 4 (dk_at dksJ8_add_6_0 3 rfl rfl)
theorem dJ8_add_6_5 : decode cJ8_add_6 5 = .ok (.i2l, 1) := dk_133 (dk_at dksJ8_add_6_0 5 rfl rfl)
theorem dJ8_add_6_6 : decode cJ8_add_6 6 = .ok (.iload_n 3, 1) := dk_29 (dk_at dksJ8_add_6_0 6 rfl rfl)
theorem dJ8_add_6_7 : decode cJ8_add_6 7 = .ok (.i2l, 1) := dk_133 (dk_at dksJ8_add_6_0 7 rfl rfl)
theorem dJ8_add_6_8 : decode cJ8_add_6 8 = .ok (.lsub, 1) := dk_101 (dk_at dksJ8_add_6_0 8 rfl rfl)
theorem dJ8_add_6_9 : decode cJ8_add_6 9 = .ok (.lstore 5, 2) := dk_55 5 (dk_at dksJ8_add_6_0 9 rfl rfl)
theorem dJ8_add_6_11 : decode cJ8_add_6 11 = .ok (.lload 5, 2) := dk_22 5 (dk_at dksJ8_add_6_0 11 rfl rfl)
theorem dJ8_add_6_13 : decode cJ8_add_6 13 = .ok (.lconst 0, 1) := dk_9 (dk_at dksJ8_add_6_0 13 rfl rfl)
theorem dJ8_add_6_14 : decode cJ8_add_6 14 = .ok (.lcmp, 1) := dk_148 (dk_at dksJ8_add_6_0 14 rfl rfl)
theorem dJ8_add_6_15 : decode cJ8_add_6 15 = .ok (.ifCond .eq 47, 3) := dk_153 0 47 (dk_at dksJ8_add_6_0 15 rfl rfl)
theorem dJ8_add_6_18 : decode cJ8_add_6 18 = .ok (.lload 5, 2) := dk_22 5 (dk_at dksJ8_add_6_0 18 rfl rfl)
theorem dJ8_add_6_20 : decode cJ8_add_6 20 = .ok (.lconst 0, 1) := dk_9 (dk_at dksJ8_add_6_0 20 rfl rfl)
theorem dJ8_add_6_21 : decode cJ8_add_6 21 = .ok (.lcmp, 1) := dk_148 (dk_at dksJ8_add_6_0 21 rfl rfl)
theorem dJ8_add_6_22 : decode cJ8_add_6 22 = .ok (.ifCond .ge 25, 3) := dk_156 0 25 (dk_at dksJ8_add_6_1 0 rfl rfl)
theorem dJ8_add_6_25 : decode cJ8_add_6 25 = .ok (.aload_n 0, 1) := dk_42 (dk_at dksJ8_add_6_1 3 rfl rfl)
theorem dJ8_add_6_26 : decode cJ8_add_6 26 = .ok (.lload 5, 2) := dk_22 5 (dk_at dksJ8_add_6_1 4 rfl rfl)
theorem dJ8_add_6_28 : decode cJ8_add_6 28 = .ok (.lneg, 1) := dk_117 (dk_at dksJ8_add_6_1 6 rfl rfl)
theorem dJ8_add_6_29 : decode cJ8_add_6 29 = .ok (.invokestatic 988, 3) := dk_184 3 220 (dk_at dksJ8_add_6_1 7 rfl rfl)
theorem dJ8_add_6_32 : decode cJ8_add_6 32 = .ok (.istore 7, 2) := dk_54 7 (dk_at dksJ8_add_6_1 10 rfl rfl)
theorem dJ8_add_6_34 : decode cJ8_add_6 34 = .ok (.iload_n 3, 1) := dk_29 (dk_at dksJ8_add_6_1 12 rfl rfl)
theorem dJ8_add_6_35 : decode cJ8_add_6 35 = .ok (.istore 4, 2) := dk_54 4 (dk_at dksJ8_add_6_1 13 rfl rfl)
theorem dJ8_add_6_37 : decode cJ8_add_6 37 = .ok (.aload_n 0, 1) := dk_42 (dk_at dksJ8_add_6_1 15 rfl rfl)
theorem dJ8_add_6_38 : decode cJ8_add_6 38 = .ok (.iload 7, 2) := dk_21 7 (dk_at dksJ8_add_6_1 16 rfl rfl)
theorem dJ8_add_6_40 : decode cJ8_add_6 40 = .ok (.invokestatic 615, 3) := dk_184 2 103 (dk_at dksJ8_add_6_1 18 rfl rfl)
theorem dJ8_add_6_43 : decode cJ8_add_6 43 = .ok (.astore_n 0, 1) := dk_75 (dk_at dksJ8_add_6_1 21 rfl rfl)
theorem dJ8_add_6_44 : decode cJ8_add_6 44 = .ok (.goto 18, 3) := dk_167 0 18 (dk_at dksJ8_add_6_2 0 rfl rfl)
theorem dJ8_add_6_47 : decode cJ8_add_6 47 = .ok (.aload_n 2, 1) := dk_44 (dk_at dksJ8_add_6_2 3 rfl rfl)
theorem dJ8_add_6_48 : decode cJ8_add_6 48 = .ok (.lload 5, 2) := dk_22 5 (dk_at dksJ8_add_6_2 4 rfl rfl)
theorem dJ8_add_6_50 : decode cJ8_add_6 50 = .ok (.invokestatic 988, 3) := dk_184 3 220 (dk_at dksJ8_add_6_2 6 rfl rfl)
theorem dJ8_add_6_53 : decode cJ8_add_6 53 = .ok (.istore 7, 2) := dk_54 7 (dk_at dksJ8_add_6_2 9 rfl rfl)
theorem dJ8_add_6_55 : decode cJ8_add_6 55 = .ok (.aload_n 2, 1) := dk_44 (dk_at dksJ8_add_6_2 11 rfl rfl)
theorem dJ8_add_6_56 : decode cJ8_add_6 56 = .ok (.iload 7, 2) := dk_21 7 (dk_at dksJ8_add_6_2 12 rfl rfl)
theorem dJ8_add_6_58 : decode cJ8_add_6 58 = .ok (.invokestatic 615, 3) := dk_184 2 103 (dk_at dksJ8_add_6_2 14 rfl rfl)
theorem dJ8_add_6_61 : decode cJ8_add_6 61 = .ok (.astore_n 2, 1) := dk_77 (dk_at dksJ8_add_6_2 17 rfl rfl)
theorem dJ8_add_6_62 : decode cJ8_add_6 62 = .ok (.aload_n 0, 1) := dk_42 (dk_at dksJ8_add_6_2 18 rfl rfl)
theorem dJ8_add_6_63 : decode cJ8_add_6 63 = .ok (.aload_n 2, 1) := dk_44 (dk_at dksJ8_add_6_2 19 rfl rfl)
theorem dJ8_add_6_64 : decode cJ8_add_6 64 = .ok (.invokevirtual 306, 3) := dk_182 1 50 (dk_at dksJ8_add_6_2 20 rfl rfl)
theorem dJ8_add_6_67 : decode cJ8_add_6 67 = .ok (.astore 7, 2) := dk_58 7 (dk_at dksJ8_add_6_3 0 rfl rfl)
theorem dJ8_add_6_69 : decode cJ8_add_6 69 = .ok (.aload_n 0, 1) := dk_42 (dk_at dksJ8_add_6_3 2 rfl rfl)
theorem dJ8_add_6_70 : decode cJ8_add_6 70 = .ok (.getfield 870, 3) := dk_180 3 102 (dk_at dksJ8_add_6_3 3 rfl rfl)
theorem dJ8_add_6_73 : decode cJ8_add_6 73 = .ok (.aload_n 2, 1) := dk_44 (dk_at dksJ8_add_6_3 6 rfl rfl)
theorem dJ8_add_6_74 : decode cJ8_add_6 74 = .ok (.getfield 870, 3) := dk_180 3 102 (dk_at dksJ8_add_6_3 7 rfl rfl)
theorem dJ8_add_6_77 : decode cJ8_add_6 77 = .ok (.if_icmp .ne 21, 3) := dk_160 0 21 (dk_at dksJ8_add_6_3 10 rfl rfl)
theorem dJ8_add_6_80 : decode cJ8_add_6 80 = .ok (.new 3, 3) := dk_187 0 3 (dk_at dksJ8_add_6_3 13 rfl rfl)
theorem dJ8_add_6_83 : decode cJ8_add_6 83 = .ok (.dup, 1) := dk_89 (dk_at dksJ8_add_6_3 16 rfl rfl)
theorem dJ8_add_6_84 : decode cJ8_add_6 84 = .ok (.aload 7, 2) := dk_25 7 (dk_at dksJ8_add_6_3 17 rfl rfl)
theorem dJ8_add_6_86 : decode cJ8_add_6 86 = .ok (.ldc2_w 125, 3) := dk_20 0 125 (dk_at dksJ8_add_6_3 19 rfl rfl)
theorem dJ8_add_6_89 : decode cJ8_add_6 89 = .ok (.iload 4, 2) := dk_21 4 (dk_at dksJ8_add_6_3 22 rfl rfl)
theorem dJ8_add_6_91 : decode cJ8_add_6 91 = .ok (.iconst 0, 1) := dk_3 (dk_at dksJ8_add_6_4 0 rfl rfl)
theorem dJ8_add_6_92 : decode cJ8_add_6 92 = .ok (.invokespecial 243, 3) := dk_183 0 243 (dk_at dksJ8_add_6_4 1 rfl rfl)
theorem dJ8_add_6_95 : decode cJ8_add_6 95 = .ok (.goto 11, 3) := dk_167 0 11 (dk_at dksJ8_add_6_4 4 rfl rfl)
theorem dJ8_add_6_98 : decode cJ8_add_6 98 = .ok (.aload 7, 2) := dk_25 7 (dk_at dksJ8_add_6_4 7 rfl rfl)
theorem dJ8_add_6_100 : decode cJ8_add_6 100 = .ok (.iload 4, 2) := dk_21 4 (dk_at dksJ8_add_6_4 9 rfl rfl)
theorem dJ8_add_6_102 : decode cJ8_add_6 102 = .ok (.iconst 0, 1) := dk_3 (dk_at dksJ8_add_6_4 11 rfl rfl)
theorem dJ8_add_6_103 : decode cJ8_add_6 103 = .ok (.invokestatic 991, 3) := dk_184 3 223 (dk_at dksJ8_add_6_4 12 rfl rfl)
theorem dJ8_add_6_106 : decode cJ8_add_6 106 = .ok (.areturn, 1) := dk_176 (dk_at dksJ8_add_6_4 15 rfl rfl)
def dkwJ8_bigMultiplyPowerTen_3_1 : List UInt8 := [42, 180, 0, 24, 182, 0, 201, 176, 42, 180, 0, 28, 27, 184, 2, 97, 182, 2, 212, 176]
abbrev dktJ8_bigMultiplyPowerTen_3_1 : List UInt8 := dkwJ8_bigMultiplyPowerTen_3_1 ++ []
def dkwJ8_bigMultiplyPowerTen_3_0 : List UInt8 := [27, 157, 0, 8, 42, 182, 1, 46, 176, 42, 180, 0, 24, 20, 0, 125, 148, 153, 0, 15, 27, 184, 2, 97]
abbrev dktJ8_bigMultiplyPowerTen_3_0 : List UInt8 := dkwJ8_bigMultiplyPowerTen_3_0 ++ dktJ8_bigMultiplyPowerTen_3_1
theorem dksJ8_bigMultiplyPowerTen_3_0 : cJ8_bigMultiplyPowerTen_3.data.toList.drop 0 = dktJ8_bigMultiplyPowerTen_3_0 := by decide +kernel
theorem dksJ8_bigMultiplyPowerTen_3_1 : cJ8_bigMultiplyPowerTen_3.data.toList.drop 24 = dktJ8_bigMultiplyPowerTen_3_1 := dk_seg dksJ8_bigMultiplyPowerTen_3_0 24 rfl rfl
theorem dJ8_bigMultiplyPowerTen_3_0 : decode cJ8_bigMultiplyPowerTen_3 0 = .ok (.iload_n 1, 1) := dk_27 (dk_at dksJ8_bigMultiplyPowerTen_3_0 0 rfl rfl)
theorem dJ8_bigMultiplyPowerTen_3_1 : decode cJ8_bigMultiplyPowerTen_3 1 = .ok (.ifCond .gt 8, 3) := dk_157 0 8 (dk_at dksJ8_bigMultiplyPowerTen_3_0 1 rfl rfl)
theorem dJ8_bigMultiplyPowerTen_3_4 : decode cJ8_bigMultiplyPowerTen_3 4 = .ok (.aload_n 0, 1) := dk_42 (dk_at dksJ8_bigMultiplyPowerTen_3_0 4 rfl rfl)
theorem dJ8_bigMultiplyPowerTen_3_5 : decode cJ8_bigMultiplyPowerTen_3 5 = .ok (.invokevirtual 302, 3) := dk_182 1 46 (dk_at dksJ8_bigMultiplyPowerTen_3_0 5 rfl rfl)
theorem dJ8_bigMultiplyPowerTen_3_8 : decode cJ8_bigMultiplyPowerTen_3 8 = .ok (.areturn, 1) := dk_176 (dk_at dksJ8_bigMultiplyPowerTen_3_0 8 rfl rfl)
theorem dJ8_bigMultiplyPowerTen_3_9 : decode cJ8_bigMultiplyPowerTen_3 9 = .ok (.aload_n 0, 1) := dk_42 (dk_at dksJ8_bigMultiplyPowerTen_3_0 9 rfl rfl)
theorem dJ8_bigMultiplyPowerTen_3_10 : decode cJ8_bigMultiplyPowerTen_3 10 = .ok (.getfield 24, 3) := dk_180 0 24 (dk_at dksJ8_bigMultiplyPowerTen_3_0 10 rfl rfl)
theorem dJ8_bigMultiplyPowerTen_3_13 : decode cJ8_bigMultiplyPowerTen_3 13 = .ok (.ldc2_w 125, 3) := dk_20 0 125 (dk_at dksJ8_bigMultiplyPowerTen_3_0 13 rfl rfl)
theorem dJ8_bigMultiplyPowerTen_3_16 : decode cJ8_bigMultiplyPowerTen_3 16 = .ok (.lcmp, 1) := dk_148 (dk_at dksJ8_bigMultiplyPowerTen_3_0 16 rfl rfl)
theorem dJ8_bigMultiplyPowerTen_3_17 : decode cJ8_bigMultiplyPowerTen_3 17 = .ok (.ifCond .eq 15, 3) := dk_153 0 15 (dk_at dksJ8_bigMultiplyPowerTen_3_0 17 rfl rfl)
theorem dJ8_bigMultiplyPowerTen_3_20 : decode cJ8_bigMultiplyPowerTen_3 20 = .ok (.iload_n 1, 1) := dk_27 (dk_at dksJ8_bigMultiplyPowerTen_3_0 20 rfl rfl)
theorem dJ8_bigMultiplyPowerTen_3_21 : decode cJ8_bigMultiplyPowerTen_3 21 = .ok (.invokestatic 609, 3) := dk_184 2 97 (dk_at dksJ8_bigMultiplyPowerTen_3_0 21 rfl rfl)
theorem dJ8_bigMultiplyPowerTen_3_24 : decode cJ8_bigMultiplyPowerTen_3 24 = .ok (.aload_n 0, 1) := dk_42 (dk_at dksJ8_bigMultiplyPowerTen_3_1 0 rfl rfl)
theorem dJ8_bigMultiplyPowerTen_3_25 : decode cJ8_bigMultiplyPowerTen_3 25 = .ok (.getfield 24, 3) := dk_180 0 24 (dk_at dksJ8_bigMultiplyPowerTen_3_1 1 rfl rfl)
theorem dJ8_bigMultiplyPowerTen_3_28 : decode cJ8_bigMultiplyPowerTen_3 28 = .ok (.invokevirtual 201, 3) := dk_182 0 201 (dk_at dksJ8_bigMultiplyPowerTen_3_1 4 rfl rfl)
theorem dJ8_bigMultiplyPowerTen_3_31 : decode cJ8_bigMultiplyPowerTen_3 31 = .ok (.areturn, 1) := dk_176 (dk_at dksJ8_bigMultiplyPowerTen_3_1 7 rfl rfl)
theorem dJ8_bigMultiplyPowerTen_3_32 : decode cJ8_bigMultiplyPowerTen_3 32 = .ok (.aload_n 0, 1) := dk_42 (dk_at dksJ8_bigMultiplyPowerTen_3_1 8 rfl rfl)
theorem dJ8_bigMultiplyPowerTen_3_33 : decode cJ8_bigMultiplyPowerTen_3 33 = .ok (.getfield 28, 3) := dk_180 0 28 (dk_at dksJ8_bigMultiplyPowerTen_3_1 9 rfl rfl)
theorem dJ8_bigMultiplyPowerTen_3_36 : decode cJ8_bigMultiplyPowerTen_3 36 = .ok (.iload_n 1, 1) := dk_27 (dk_at dksJ8_bigMultiplyPowerTen_3_1 12 rfl rfl)
theorem dJ8_bigMultiplyPowerTen_3_37 : decode cJ8_bigMultiplyPowerTen_3 37 = .ok (.invokestatic 609, 3) := dk_184 2 97 (dk_at dksJ8_bigMultiplyPowerTen_3_1 13 rfl rfl)
theorem dJ8_bigMultiplyPowerTen_3_40 : decode cJ8_bigMultiplyPowerTen_3 40 = .ok (.invokevirtual 724, 3) := dk_182 2 212 (dk_at dksJ8_bigMultiplyPowerTen_3_1 16 rfl rfl)
theorem dJ8_bigMultiplyPowerTen_3_43 : decode cJ8_bigMultiplyPowerTen_3 43 = .ok (.areturn, 1) := dk_176 (dk_at dksJ8_bigMultiplyPowerTen_3_1 19 rfl rfl)
def dkwJ8_multiply_4 : List UInt8 := [180, 0, 28, 28, 184, 1, 92, 176]
abbrev dktJ8_multiply_4 : List UInt8 := dkwJ8_multiply_4 ++ []
def dkwJ8_multiply_3 : List UInt8 := [148, 153, 0, 16, 43, 180, 0, 24, 42, 180, 0, 28, 28, 184, 1, 89, 176, 42, 180, 0, 28, 43]
abbrev dktJ8_multiply_3 : List UInt8 := dkwJ8_multiply_3 ++ dktJ8_multiply_4
def dkwJ8_multiply_2 : List UInt8 := [184, 1, 86, 176, 42, 180, 0, 24, 43, 180, 0, 28, 28, 184, 1, 89, 176, 43, 180, 0, 24, 20, 0, 125]
abbrev dktJ8_multiply_2 : List UInt8 := dkwJ8_multiply_2 ++ dktJ8_multiply_3
def dkwJ8_multiply_1 : List UInt8 := [153, 0, 40, 43, 180, 0, 24, 20, 0, 125, 148, 153, 0, 16, 42, 180, 0, 24, 43, 180, 0, 24, 28]
abbrev dktJ8_multiply_1 : List UInt8 := dkwJ8_multiply_1 ++ dktJ8_multiply_2
def dkwJ8_multiply_0 : List UInt8 := [42, 42, 180, 0, 17, 133, 43, 180, 0, 17, 133, 97, 182, 1, 69, 61, 42, 180, 0, 24, 20, 0, 125, 148]
abbrev dktJ8_multiply_0 : List UInt8 := dkwJ8_multiply_0 ++ dktJ8_multiply_1
theorem dksJ8_multiply_0 : cJ8_multiply.data.toList.drop 0 = dktJ8_multiply_0 := by decide +kernel
theorem dksJ8_multiply_1 : cJ8_multiply.data.toList.drop 24 = dktJ8_multiply_1 := dk_seg dksJ8_multiply_0 24 rfl rfl
theorem dksJ8_multiply_2 : cJ8_multiply.data.toList.drop 47 = dktJ8_multiply_2 := dk_seg dksJ8_multiply_1 23 rfl rfl
theorem dksJ8_multiply_3 : cJ8_multiply.data.toList.drop 71 = dktJ8_multiply_3 := dk_seg dksJ8_multiply_2 24 rfl rfl
theorem dksJ8_multiply_4 : cJ8_multiply.data.toList.drop 93 = dktJ8_multiply_4 := dk_seg dksJ8_multiply_3 22 rfl rfl
theorem dJ8_multiply_0 : decode cJ8_multiply 0 = .ok (.aload_n 0, 1) := dk_42 (dk_at dksJ8_multiply_0 0 rfl rfl)
theorem dJ8_multiply_1 : decode cJ8_multiply 1 = .ok (.aload_n 0, 1) := dk_42 (dk_at dksJ8_multiply_0 1 rfl rfl)
theorem dJ8_multiply_2 : decode cJ8_multiply 2 = .ok (.getfield 17, 3) := dk_180 0 17 (dk_at dksJ8_multiply_0 2 rfl rfl)
theorem dJ8_multiply_5 : decode cJ8_multiply 5 = .ok (.i2l, 1) := dk_133 (dk_at dksJ8_multiply_0 5 rfl rfl)
theorem dJ8_multiply_6 : decode cJ8_multiply 6 = .ok (.aload_n 1, 1) := dk_43 (dk_at dksJ8_multiply_0 6 rfl rfl)
theorem dJ8_multiply_7 : decode cJ8_multiply 7 = .ok (.getfield 17, 3) := dk_180 0 17 (dk_at dksJ8_multiply_0 7 rfl rfl)
theorem dJ8_multiply_10 : decode cJ8_multiply 10 = .ok (.i2l, 1) := dk_133 (dk_at dksJ8_multiply_0 10 rfl rfl)
theorem dJ8_multiply_11 : decode cJ8_multiply 11 = .ok (.ladd, 1) := dk_97 (dk_at dksJ8_multiply_0 11 rfl rfl)
theorem dJ8_multiply_12 : decode cJ8_multiply 12 = .ok (.invokevirtual 325, 3) := dk_182 1 69 (dk_at dksJ8_multiply_0 12 rfl rfl)
theorem dJ8_multiply_15 : decode cJ8_multiply 15 = .ok (.istore_n 2, 1) := dk_61 (dk_at dksJ8_multiply_0 15 rfl rfl)
theorem dJ8_multiply_16 : decode cJ8_multiply 16 = .ok (.aload_n 0, 1) := dk_42 (dk_at dksJ8_multiply_0 16 rfl rfl)
theorem dJ8_multiply_17 : decode cJ8_multiply 17 = .ok (.getfield 24, 3) := dk_180 0 24 (dk_at dksJ8_multiply_0 17 rfl rfl)
theorem dJ8_multiply_20 : decode cJ8_multiply 20 = .ok (.ldc2_w 125, 3) := dk_20 0 125 (dk_at dksJ8_multiply_0 20 rfl rfl)
theorem dJ8_multiply_23 : decode cJ8_multiply 23 = .ok (.lcmp, 1) := dk_148 (dk_at dksJ8_multiply_0 23 rfl rfl)
theorem dJ8_multiply_24 : decode cJ8_multiply 24 = .ok (.ifCond .eq 40, 3) := dk_153 0 40 (dk_at dksJ8_multiply_1 0 rfl rfl)
theorem dJ8_multiply_27 : decode cJ8_multiply 27 = .ok (.aload_n 1, 1) := dk_43 (dk_at dksJ8_multiply_1 3 rfl rfl)
theorem dJ8_multiply_28 : decode cJ8_multiply 28 = .ok (.getfield 24, 3) := dk_180 0 24 (dk_at dksJ8_multiply_1 4 rfl rfl)
theorem dJ8_multiply_31 : decode cJ8_multiply 31 = .ok (.ldc2_w 125, 3) := dk_20 0 125 (dk_at dksJ8_multiply_1 7 rfl rfl)
theorem dJ8_multiply_34 : decode cJ8_multiply 34 = .ok (.lcmp, 1) := dk_148 (dk_at dksJ8_multiply_1 10 rfl rfl)
theorem dJ8_multiply_35 : decode cJ8_multiply 35 = .ok (.ifCond .eq 16, 3) := dk_153 0 16 (dk_at dksJ8_multiply_1 11 rfl rfl)
theorem dJ8_multiply_38 : decode cJ8_multiply 38 = .ok (.aload_n 0, 1) := dk_42 (dk_at dksJ8_multiply_1 14 rfl rfl)
theorem dJ8_multiply_39 : decode cJ8_multiply 39 = .ok (.getfield 24, 3) := dk_180 0 24 (dk_at dksJ8_multiply_1 15 rfl rfl)
theorem dJ8_multiply_42 : decode cJ8_multiply 42 = .ok (.aload_n 1, 1) := dk_43 (dk_at dksJ8_multiply_1 18 rfl rfl)
theorem dJ8_multiply_43 : decode cJ8_multiply 43 = .ok (.getfield 24, 3) := dk_180 0 24 (dk_at dksJ8_multiply_1 19 rfl rfl)
theorem dJ8_multiply_46 : decode cJ8_multiply 46 = .ok (.iload_n 2, 1) := dk_28 (dk_at dksJ8_multiply_1 22 rfl rfl)
theorem dJ8_multiply_47 : decode cJ8_multiply 47 = .ok (.invokestatic 342, 3) := dk_184 1 86 (dk_at dksJ8_multiply_2 0 rfl rfl)
theorem dJ8_multiply_50 : decode cJ8_multiply 50 = .ok (.areturn, 1) := dk_176 (dk_at dksJ8_multiply_2 3 rfl rfl)
theorem dJ8_multiply_51 : decode cJ8_multiply 51 = .ok (.aload_n 0, 1) := dk_42 (dk_at dksJ8_multiply_2 4 rfl rfl)
theorem dJ8_multiply_52 : decode cJ8_multiply 52 = .ok (.getfield 24, 3) := dk_180 0 24 (dk_at dksJ8_multiply_2 5 rfl rfl)
theorem dJ8_multiply_55 : decode cJ8_multiply 55 = .ok (.aload_n 1, 1) := dk_43 (dk_at dksJ8_multiply_2 8 rfl rfl)
theorem dJ8_multiply_56 : decode cJ8_multiply 56 = .ok (.getfield 28, 3) := dk_180 0 28 (dk_at dksJ8_multiply_2 9 rfl rfl)
theorem dJ8_multiply_59 : decode cJ8_multiply 59 = .ok (.iload_n 2, 1) := dk_28 (dk_at dksJ8_multiply_2 12 rfl rfl)
theorem dJ8_multiply_60 : decode cJ8_multiply 60 = .ok (.invokestatic 345, 3) := dk_184 1 89 (dk_at dksJ8_multiply_2 13 rfl rfl)
theorem dJ8_multiply_63 : decode cJ8_multiply 63 = .ok (.areturn, 1) := dk_176 (dk_at dksJ8_multiply_2 16 rfl rfl)
theorem dJ8_multiply_64 : decode cJ8_multiply 64 = .ok (.aload_n 1, 1) := dk_43 (dk_at dksJ8_multiply_2 17 rfl rfl)
theorem dJ8_multiply_65 : decode cJ8_multiply 65 = .ok (.getfield 24, 3) := dk_180 0 24 (dk_at dksJ8_multiply_2 18 rfl rfl)
theorem dJ8_multiply_68 : decode cJ8_multiply 68 = .ok (.ldc2_w 125, 3) := dk_20 0 125 (dk_at dksJ8_multiply_2 21 rfl rfl)
theorem dJ8_multiply_71 : decode cJ8_multiply 71 = .ok (.lcmp, 1) := dk_148 (dk_at dksJ8_multiply_3 0 rfl rfl)
theorem dJ8_multiply_72 : decode cJ8_multiply 72 = .ok (.ifCond .eq 16, 3) := dk_153 0 16 (dk_at dksJ8_multiply_3 1 rfl rfl)
theorem dJ8_multiply_75 : decode cJ8_multiply 75 = .ok (.aload_n 1, 1) := dk_43 (dk_at dksJ8_multiply_3 4 rfl rfl)
theorem dJ8_multiply_76 : decode cJ8_multiply 76 = .ok (.getfield 24, 3) := dk_180 0 24 (dk_at dksJ8_multiply_3 5 rfl rfl)
theorem dJ8_multiply_79 : decode cJ8_multiply 79 = .ok (.aload_n 0, 1) := dk_42 (dk_at dksJ8_multiply_3 8 rfl rfl)
theorem dJ8_multiply_80 : decode cJ8_multiply 80 = .ok (.getfield 28, 3) := dk_180 0 28 (dk_at dksJ8_multiply_3 9 rfl rfl)
theorem dJ8_multiply_83 : decode cJ8_multiply 83 = .ok (.iload_n 2, 1) := dk_28 (dk_at dksJ8_multiply_3 12 rfl rfl)
theorem dJ8_multiply_84 : decode cJ8_multiply 84 = .ok (.invokestatic 345, 3) := dk_184 1 89 (dk_at dksJ8_multiply_3 13 rfl rfl)
theorem dJ8_multiply_87 : decode cJ8_multiply 87 = .ok (.areturn, 1) := dk_176 (dk_at dksJ8_multiply_3 16 rfl rfl)
theorem dJ8_multiply_88 : decode cJ8_multiply 88 = .ok (.aload_n 0, 1) := dk_42 (dk_at dksJ8_multiply_3 17 rfl rfl)
theorem dJ8_multiply_89 : decode cJ8_multiply 89 = .ok (.getfield 28, 3) := dk_180 0 28 (dk_at dksJ8_multiply_3 18 rfl rfl)
theorem dJ8_multiply_92 : decode cJ8_multiply 92 = .ok (.aload_n 1, 1) := dk_43 (dk_at dksJ8_multiply_3 21 rfl rfl)
theorem dJ8_multiply_93 : decode cJ8_multiply 93 = .ok (.getfield 28, 3) := dk_180 0 28 (dk_at dksJ8_multiply_4 0 rfl rfl)
theorem dJ8_multiply_96 : decode cJ8_multiply 96 = .ok (.iload_n 2, 1) := dk_28 (dk_at dksJ8_multiply_4 3 rfl rfl)
theorem dJ8_multiply_97 : decode cJ8_multiply 97 = .ok (.invokestatic 348, 3) := dk_184 1 92 (dk_at dksJ8_multiply_4 4 rfl rfl)
theorem dJ8_multiply_100 : decode cJ8_multiply 100 = .ok (.areturn, 1) := dk_176 (dk_at dksJ8_multiply_4 7 rfl rfl)
def dkwJ8_checkScale_3_3 : List UInt8 := [19, 2, 182, 183, 1, 132, 191, 29, 172]
abbrev dktJ8_checkScale_3_3 : List UInt8 := dkwJ8_checkScale_3_3 ++ []
def dkwJ8_checkScale_3_2 : List UInt8 := [25, 4, 182, 2, 86, 153, 0, 24, 187, 1, 128, 89, 29, 158, 0, 9, 19, 3, 108, 167, 0, 6]
abbrev dktJ8_checkScale_3_2 : List UInt8 := dkwJ8_checkScale_3_2 ++ dktJ8_checkScale_3_3
def dkwJ8_checkScale_3_1 : List UInt8 := [19, 3, 107, 62, 42, 180, 0, 24, 9, 148, 153, 0, 42, 42, 180, 0, 28, 89, 58, 4, 198, 0, 11]
abbrev dktJ8_checkScale_3_1 : List UInt8 := dkwJ8_checkScale_3_1 ++ dktJ8_checkScale_3_2
def dkwJ8_checkScale_3_0 : List UInt8 := [31, 136, 62, 29, 133, 31, 148, 153, 0, 69, 31, 20, 1, 148, 148, 158, 0, 9, 19, 3, 106, 167, 0, 6]
abbrev dktJ8_checkScale_3_0 : List UInt8 := dkwJ8_checkScale_3_0 ++ dktJ8_checkScale_3_1
theorem dksJ8_checkScale_3_0 : cJ8_checkScale_3.data.toList.drop 0 = dktJ8_checkScale_3_0 := by decide +kernel
theorem dksJ8_checkScale_3_1 : cJ8_checkScale_3.data.toList.drop 24 = dktJ8_checkScale_3_1 := dk_seg dksJ8_checkScale_3_0 24 rfl rfl
theorem dksJ8_checkScale_3_2 : cJ8_checkScale_3.data.toList.drop 47 = dktJ8_checkScale_3_2 := dk_seg dksJ8_checkScale_3_1 23 rfl rfl
theorem dksJ8_checkScale_3_3 : cJ8_checkScale_3.data.toList.drop 69 = dktJ8_checkScale_3_3 := dk_seg dksJ8_checkScale_3_2 22 rfl rfl
theorem dJ8_checkScale_3_0 : decode cJ8_checkScale_3 0 = .ok (.lload_n 1, 1) := dk_31 (dk_at dksJ8_checkScale_3_0 0 rfl rfl)
theorem dJ8_checkScale_3_1 : decode cJ8_checkScale_3 1 = .ok (.l2i, 1) := dk_136 (dk_at dksJ8_checkScale_3_0 1 rfl rfl)
theorem dJ8_checkScale_3_2 : decode cJ8_checkScale_3 2 = .ok (.istore_n 3, 1) := dk_62 (dk_at dksJ8_checkScale_3_0 2 rfl rfl)
theorem dJ8_checkScale_3_3 : decode cJ8_checkScale_3 3 = .ok (.iload_n 3, 1) := dk_29 (dk_at dksJ8_checkScale_3_0 3 rfl rfl)
theorem dJ8_checkScale_3_4 : decode cJ8_checkScale_3 4 = .ok (.i2l, 1) := dk_133 (dk_at dksJ8_checkScale_3_0 4 rfl rfl)
theorem dJ8_checkScale_3_5 : decode cJ8_checkScale_3 5 = .ok (.lload_n 1, 1) := dk_31 (dk_at dksJ8_checkScale_3_0 5 rfl rfl)
theorem dJ8_checkScale_3_6 : decode cJ8_checkScale_3 6 = .ok (.lcmp, 1) := dk_148 (dk_at dksJ8_checkScale_3_0 6 rfl rfl)
theorem dJ8_checkScale_3_7 : decode cJ8_checkScale_3 7 = .ok (.ifCond .eq 69, 3) := dk_153 0 69 (dk_at dksJ8_checkScale_3_0 7 rfl rfl)
theorem dJ8_checkScale_3_10 : decode cJ8_checkScale_3 10 = .ok (.lload_n 1, 1) := dk_31 (dk_at dksJ8_checkScale_3_0 10 rfl rfl)
theorem dJ8_checkScale_3_11 : decode cJ8_checkScale_3 11 = .ok (.ldc2_w 404, 3) := dk_20 1 148 (dk_at dksJ8_checkScale_3_0 11 rfl rfl)
theorem dJ8_checkScale_3_14 : decode cJ8_checkScale_3 14 = .ok (.lcmp, 1) := dk_148 (dk_at dksJ8_checkScale_3_0 14 rfl rfl)
theorem dJ8_checkScale_3_15 : decode cJ8_checkScale_3 15 = .ok (.ifCond .le 9, 3) := dk_158 0 9 (dk_at dksJ8_checkScale_3_0 15 rfl rfl)
theorem dJ8_checkScale_3_18 : decode cJ8_checkScale_3 18 = .ok (.ldc_w 874, 3) := dk_19 3 106 (dk_at dksJ8_checkScale_3_0 18 rfl rfl)
theorem dJ8_checkScale_3_21 : decode cJ8_checkScale_3 21 = .ok (.goto 6, 3) := dk_167 0 6 (dk_at dksJ8_checkScale_3_0 21 rfl rfl)
theorem dJ8_checkScale_3_24 : decode cJ8_checkScale_3 24 = .ok (.ldc_w 875, 3) := dk_19 3 107 (dk_at dksJ8_checkScale_3_1 0 rfl rfl)
theorem dJ8_checkScale_3_27 : decode cJ8_checkScale_3 27 = .ok (.istore_n 3, 1) := dk_62 (dk_at dksJ8_checkScale_3_1 3 rfl rfl)
theorem dJ8_checkScale_3_28 : decode cJ8_checkScale_3 28 = .ok (.aload_n 0, 1) := dk_42 (dk_at dksJ8_checkScale_3_1 4 rfl rfl)
theorem dJ8_checkScale_3_29 : decode cJ8_checkScale_3 29 = .ok (.getfield 24, 3) := dk_180 0 24 (dk_at dksJ8_checkScale_3_1 5 rfl rfl)
theorem dJ8_checkScale_3_32 : decode cJ8_checkScale_3 32 = .ok (.lconst 0, 1) := dk_9 (dk_at dksJ8_checkScale_3_1 8 rfl rfl)
theorem dJ8_checkScale_3_33 : decode cJ8_checkScale_3 33 = .ok (.lcmp, 1) := dk_148 (dk_at dksJ8_checkScale_3_1 9 rfl rfl)
theorem dJ8_checkScale_3_34 : decode cJ8_checkScale_3 34 = .ok (.ifCond .eq 42, 3) := dk_153 0 42 (dk_at dksJ8_checkScale_3_1 10 rfl rfl)
theorem dJ8_checkScale_3_37 : decode cJ8_checkScale_3 37 = .ok (.aload_n 0, 1) := dk_42 (dk_at dksJ8_checkScale_3_1 13 rfl rfl)
theorem dJ8_checkScale_3_38 : decode cJ8_checkScale_3 38 = .ok (.getfield 28, 3) := dk_180 0 28 (dk_at dksJ8_checkScale_3_1 14 rfl rfl)
theorem dJ8_checkScale_3_41 : decode cJ8_checkScale_3 41 = .ok (.dup, 1) := dk_89 (dk_at dksJ8_checkScale_3_1 17 rfl rfl)
theorem dJ8_checkScale_3_42 : decode cJ8_checkScale_3 42 = .ok (.astore 4, 2) := dk_58 4 (dk_at dksJ8_checkScale_3_1 18 rfl rfl)
theorem dJ8_checkScale_3_44 : decode cJ8_checkScale_3 44 = .ok (.ifnull 11, 3) := dk_198 0 11 (dk_at dksJ8_checkScale_3_1 20 rfl rfl)
theorem dJ8_checkScale_3_47 : decode cJ8_checkScale_3 47 = .ok (.aload 4, 2) := dk_25 4 (dk_at dksJ8_checkScale_3_2 0 rfl rfl)
theorem dJ8_checkScale_3_49 : decode cJ8_checkScale_3 49 = .ok (.invokevirtual 598, 3) := dk_182 2 86 (dk_at dksJ8_checkScale_3_2 2 rfl rfl)
theorem dJ8_checkScale_3_52 : decode cJ8_checkScale_3 52 = .ok (.ifCond .eq 24, 3) := dk_153 0 24 (dk_at dksJ8_checkScale_3_2 5 rfl rfl)
theorem dJ8_checkScale_3_55 : decode cJ8_checkScale_3 55 = .ok (.new 384, 3) := dk_187 1 128 (dk_at dksJ8_checkScale_3_2 8 rfl rfl)
theorem dJ8_checkScale_3_58 : decode cJ8_checkScale_3 58 = .ok (.dup, 1) := dk_89 (dk_at dksJ8_checkScale_3_2 11 rfl rfl)
theorem dJ8_checkScale_3_59 : decode cJ8_checkScale_3 59 = .ok (.iload_n 3, 1) := dk_29 (dk_at dksJ8_checkScale_3_2 12 rfl rfl)
theorem dJ8_checkScale_3_60 : decode cJ8_checkScale_3 60 = .ok (.ifCond .le 9, 3) := dk_158 0 9 (dk_at dksJ8_checkScale_3_2 13 rfl rfl)
theorem dJ8_checkScale_3_63 : decode cJ8_checkScale_3 63 = .ok (.ldc_w 876, 3) := dk_19 3 108 (dk_at dksJ8_checkScale_3_2 16 rfl rfl)
theorem dJ8_checkScale_3_66 : decode cJ8_checkScale_3 66 = .ok (.goto 6, 3) := dk_167 0 6 (dk_at dksJ8_checkScale_3_2 19 rfl rfl)
theorem dJ8_checkScale_3_69 : decode cJ8_checkScale_3 69 = .ok (.ldc_w 694, 3) := dk_19 2 182 (dk_at dksJ8_checkScale_3_3 0 rfl rfl)
theorem dJ8_checkScale_3_72 : decode cJ8_checkScale_3 72 = .ok (.invokespecial 388, 3) := dk_183 1 132 (dk_at dksJ8_checkScale_3_3 3 rfl rfl)
theorem dJ8_checkScale_3_75 : decode cJ8_checkScale_3 75 = .ok (.athrow, 1) := dk_191 (dk_at dksJ8_checkScale_3_3 6 rfl rfl)
theorem dJ8_checkScale_3_76 : decode cJ8_checkScale_3 76 = .ok (.iload_n 3, 1) := dk_29 (dk_at dksJ8_checkScale_3_3 7 rfl rfl)
theorem dJ8_checkScale_3_77 : decode cJ8_checkScale_3 77 = .ok (.ireturn, 1) := dk_172 (dk_at dksJ8_checkScale_3_3 8 rfl rfl)
def dkwJ8_multiply_2_1 : List UInt8 := [187, 0, 3, 89, 30, 184, 0, 193, 32, 182, 0, 201, 20, 0, 125, 21, 4, 3, 183, 0, 243, 176]
abbrev dktJ8_multiply_2_1 : List UInt8 := dkwJ8_multiply_2_1 ++ []
def dkwJ8_multiply_2_0 : List UInt8 := [30, 32, 184, 4, 31, 55, 5, 22, 5, 20, 0, 125, 148, 153, 0, 11, 22, 5, 21, 4, 184, 1, 72, 176]
abbrev dktJ8_multiply_2_0 : List UInt8 := dkwJ8_multiply_2_0 ++ dktJ8_multiply_2_1
theorem dksJ8_multiply_2_0 : cJ8_multiply_2.data.toList.drop 0 = dktJ8_multiply_2_0 := by decide +kernel
theorem dksJ8_multiply_2_1 : cJ8_multiply_2.data.toList.drop 24 = dktJ8_multiply_2_1 := dk_seg dksJ8_multiply_2_0 24 rfl rfl
theorem dJ8_multiply_2_0 : decode cJ8_multiply_2 0 = .ok (.lload_n 0, 1) := dk_30 (dk_at dksJ8_multiply_2_0 0 rfl rfl)
theorem dJ8_multiply_2_1 : decode cJ8_multiply_2 1 = .ok (.lload_n 2, 1) := dk_32 (dk_at dksJ8_multiply_2_0 1 rfl rfl)
theorem dJ8_multiply_2_2 : decode cJ8_multiply_2 2 = .ok (.invokestatic 1055, 3) := dk_184 4 31 (dk_at dksJ8_multiply_2_0 2 rfl rfl)
theorem dJ8_multiply_2_5 : decode cJ8_multiply_2 5 = .ok (.lstore 5, 2) := dk_55 5 (dk_at dksJ8_multiply_2_0 5 rfl rfl)
theorem dJ8_multiply_2_7 : decode cJ8_multiply_2 7 = .ok (.lload 5, 2) := dk_22 5 (dk_at dksJ8_multiply_2_0 7 rfl rfl)
theorem dJ8_multiply_2_9 : decode cJ8_multiply_2 9 = .ok (.ldc2_w 125, 3) := dk_20 0 125 (dk_at dksJ8_multiply_2_0 9 rfl rfl)
theorem dJ8_multiply_2_12 : decode cJ8_multiply_2 12 = .ok (.lcmp, 1) := dk_148 (dk_at dksJ8_multiply_2_0 12 rfl rfl)
theorem dJ8_multiply_2_13 : decode cJ8_multiply_2 13 = .ok (.ifCond .eq 11, 3) := dk_153 0 11 (dk_at dksJ8_multiply_2_0 13 rfl rfl)
theorem dJ8_multiply_2_16 : decode cJ8_multiply_2 16 = .ok (.lload 5, 2) := dk_22 5 (dk_at dksJ8_multiply_2_0 16 rfl rfl)
theorem dJ8_multiply_2_18 : decode cJ8_multiply_2 18 = .ok (.iload 4, 2) := dk_21 4 (dk_at dksJ8_multiply_2_0 18 rfl rfl)
theorem dJ8_multiply_2_20 : decode cJ8_multiply_2 20 = .ok (.invokestatic 328, 3) := dk_184 1 72 (dk_at dksJ8_multiply_2_0 20 rfl rfl)
theorem dJ8_multiply_2_23 : decode cJ8_multiply_2 23 = .ok (.areturn, 1) := dk_176 (dk_at dksJ8_multiply_2_0 23 rfl rfl)
theorem dJ8_multiply_2_24 : decode cJ8_multiply_2 24 = .ok (.new 3, 3) := dk_187 0 3 (dk_at dksJ8_multiply_2_1 0 rfl rfl)
theorem dJ8_multiply_2_27 : decode cJ8_multiply_2 27 = .ok (.dup, 1) := dk_89 (dk_at dksJ8_multiply_2_1 3 rfl rfl)
theorem dJ8_multiply_2_28 : decode cJ8_multiply_2 28 = .ok (.lload_n 0, 1) := dk_30 (dk_at dksJ8_multiply_2_1 4 rfl rfl)
theorem dJ8_multiply_2_29 : decode cJ8_multiply_2 29 = .ok (.invokestatic 193, 3) := dk_184 0 193 (dk_at dksJ8_multiply_2_1 5 rfl rfl)
theorem dJ8_multiply_2_32 : decode cJ8_multiply_2 32 = .ok (.lload_n 2, 1) := dk_32 (dk_at dksJ8_multiply_2_1 8 rfl rfl)
theorem dJ8_multiply_2_33 : decode cJ8_multiply_2 33 = .ok (.invokevirtual 201, 3) := dk_182 0 201 (dk_at dksJ8_multiply_2_1 9 rfl rfl)
theorem dJ8_multiply_2_36 : decode cJ8_multiply_2 36 = .ok (.ldc2_w 125, 3) := dk_20 0 125 (dk_at dksJ8_multiply_2_1 12 rfl rfl)
theorem dJ8_multiply_2_39 : decode cJ8_multiply_2 39 = .ok (.iload 4, 2) := dk_21 4 (dk_at dksJ8_multiply_2_1 15 rfl rfl)
theorem dJ8_multiply_2_41 : decode cJ8_multiply_2 41 = .ok (.iconst 0, 1) := dk_3 (dk_at dksJ8_multiply_2_1 17 rfl rfl)
theorem dJ8_multiply_2_42 : decode cJ8_multiply_2 42 = .ok (.invokespecial 243, 3) := dk_183 0 243 (dk_at dksJ8_multiply_2_1 18 rfl rfl)
theorem dJ8_multiply_2_45 : decode cJ8_multiply_2 45 = .ok (.areturn, 1) := dk_176 (dk_at dksJ8_multiply_2_1 21 rfl rfl)
def dkwJ8_multiply_3_2 : List UInt8 := [20, 0, 125, 173]
abbrev dktJ8_multiply_3_2 : List UInt8 := dkwJ8_multiply_3_2 ++ []
def dkwJ8_multiply_3_1 : List UInt8 := [125, 9, 148, 153, 0, 18, 32, 9, 148, 153, 0, 12, 22, 4, 32, 109, 30, 148, 154, 0, 6, 22, 4, 173]
abbrev dktJ8_multiply_3_1 : List UInt8 := dkwJ8_multiply_3_1 ++ dktJ8_multiply_3_2
def dkwJ8_multiply_3_0 : List UInt8 := [30, 32, 105, 55, 4, 30, 184, 1, 184, 55, 6, 32, 184, 1, 184, 55, 8, 22, 6, 22, 8, 129, 16, 31]
abbrev dktJ8_multiply_3_0 : List UInt8 := dkwJ8_multiply_3_0 ++ dktJ8_multiply_3_1
theorem dksJ8_multiply_3_0 : cJ8_multiply_3.data.toList.drop 0 = dktJ8_multiply_3_0 := by decide +kernel
theorem dksJ8_multiply_3_1 : cJ8_multiply_3.data.toList.drop 24 = dktJ8_multiply_3_1 := dk_seg dksJ8_multiply_3_0 24 rfl rfl
theorem dksJ8_multiply_3_2 : cJ8_multiply_3.data.toList.drop 48 = dktJ8_multiply_3_2 := dk_seg dksJ8_multiply_3_1 24 rfl rfl
theorem dJ8_multiply_3_0 : decode cJ8_multiply_3 0 = .ok (.lload_n 0, 1) := dk_30 (dk_at dksJ8_multiply_3_0 0 rfl rfl)
theorem dJ8_multiply_3_1 : decode cJ8_multiply_3 1 = .ok (.lload_n 2, 1) := dk_32 (dk_at dksJ8_multiply_3_0 1 rfl rfl)
theorem dJ8_multiply_3_2 : decode cJ8_multiply_3 2 = .ok (.lmul, 1) := dk_105 (dk_at dksJ8_multiply_3_0 2 rfl rfl)
theorem dJ8_multiply_3_3 : decode cJ8_multiply_3 3 = .ok (.lstore 4, 2) := dk_55 4 (dk_at dksJ8_multiply_3_0 3 rfl rfl)
theorem dJ8_multiply_3_5 : decode cJ8_multiply_3 5 = .ok (.lload_n 0, 1) := dk_30 (dk_at dksJ8_multiply_3_0 5 rfl rfl)
theorem dJ8_multiply_3_6 : decode cJ8_multiply_3 6 = .ok (.invokestatic 440, 3) := dk_184 1 184 (dk_at dksJ8_multiply_3_0 6 rfl rfl)
theorem dJ8_multiply_3_9 : decode cJ8_multiply_3 9 = .ok (.lstore 6, 2) := dk_55 6 (dk_at dksJ8_multiply_3_0 9 rfl rfl)
theorem dJ8_multiply_3_11 : decode cJ8_multiply_3 11 = .ok (.lload_n 2, 1) := dk_32 (dk_at dksJ8_multiply_3_0 11 rfl rfl)
theorem dJ8_multiply_3_12 : decode cJ8_multiply_3 12 = .ok (.invokestatic 440, 3) := dk_184 1 184 (dk_at dksJ8_multiply_3_0 12 rfl rfl)
theorem dJ8_multiply_3_15 : decode cJ8_multiply_3 15 = .ok (.lstore 8, 2) := dk_55 8 (dk_at dksJ8_multiply_3_0 15 rfl rfl)
theorem dJ8_multiply_3_17 : decode cJ8_multiply_3 17 = .ok (.lload 6, 2) := dk_22 6 (dk_at dksJ8_multiply_3_0 17 rfl rfl)
theorem dJ8_multiply_3_19 : decode cJ8_multiply_3 19 = .ok (.lload 8, 2) := dk_22 8 (dk_at dksJ8_multiply_3_0 19 rfl rfl)
theorem dJ8_multiply_3_21 : decode cJ8_multiply_3 21 = .ok (.lor, 1) := dk_129 (dk_at dksJ8_multiply_3_0 21 rfl rfl)
theorem dJ8_multiply_3_22 : decode cJ8_multiply_3 22 = .ok (.bipush 31, 2) := dk_16 31 (dk_at dksJ8_multiply_3_0 22 rfl rfl)
theorem dJ8_multiply_3_24 : decode cJ8_multiply_3 24 = .ok (.lushr, 1) := dk_125 (dk_at dksJ8_multiply_3_1 0 rfl rfl)
theorem dJ8_multiply_3_25 : decode cJ8_multiply_3 25 = .ok (.lconst 0, 1) := dk_9 (dk_at dksJ8_multiply_3_1 1 rfl rfl)
theorem dJ8_multiply_3_26 : decode cJ8_multiply_3 26 = .ok (.lcmp, 1) := dk_148 (dk_at dksJ8_multiply_3_1 2 rfl rfl)
theorem dJ8_multiply_3_27 : decode cJ8_multiply_3 27 = .ok (.ifCond .eq 18, 3) := dk_153 0 18 (dk_at dksJ8_multiply_3_1 3 rfl rfl)
theorem dJ8_multiply_3_30 : decode cJ8_multiply_3 30 = .ok (.lload_n 2, 1) := dk_32 (dk_at dksJ8_multiply_3_1 6 rfl rfl)
theorem dJ8_multiply_3_31 : decode cJ8_multiply_3 31 = .ok (.lconst 0, 1) := dk_9 (dk_at dksJ8_multiply_3_1 7 rfl rfl)
theorem dJ8_multiply_3_32 : decode cJ8_multiply_3 32 = .ok (.lcmp, 1) := dk_148 (dk_at dksJ8_multiply_3_1 8 rfl rfl)
theorem dJ8_multiply_3_33 : decode cJ8_multiply_3 33 = .ok (.ifCond .eq 12, 3) := dk_153 0 12 (dk_at dksJ8_multiply_3_1 9 rfl rfl)
theorem dJ8_multiply_3_36 : decode cJ8_multiply_3 36 = .ok (.lload 4, 2) := dk_22 4 (dk_at dksJ8_multiply_3_1 12 rfl rfl)
theorem dJ8_multiply_3_38 : decode cJ8_multiply_3 38 = .ok (.lload_n 2, 1) := dk_32 (dk_at dksJ8_multiply_3_1 14 rfl rfl)
theorem dJ8_multiply_3_39 : decode cJ8_multiply_3 39 = .ok (.ldiv, 1) := dk_109 (dk_at dksJ8_multiply_3_1 15 rfl rfl)
theorem dJ8_multiply_3_40 : decode cJ8_multiply_3 40 = .ok (.lload_n 0, 1) := dk_30 (dk_at dksJ8_multiply_3_1 16 rfl rfl)
theorem dJ8_multiply_3_41 : decode cJ8_multiply_3 41 = .ok (.lcmp, 1) := dk_148 (dk_at dksJ8_multiply_3_1 17 rfl rfl)
theorem dJ8_multiply_3_42 : decode cJ8_multiply_3 42 = .ok (.ifCond .ne 6, 3) := dk_154 0 6 (dk_at dksJ8_multiply_3_1 18 rfl rfl)
theorem dJ8_multiply_3_45 : decode cJ8_multiply_3 45 = .ok (.lload 4, 2) := dk_22 4 (dk_at dksJ8_multiply_3_1 21 rfl rfl)
theorem dJ8_multiply_3_47 : decode cJ8_multiply_3 47 = .ok (.lreturn, 1) := dk_173 (dk_at dksJ8_multiply_3_1 23 rfl rfl)
theorem dJ8_multiply_3_48 : decode cJ8_multiply_3 48 = .ok (.ldc2_w 125, 3) := dk_20 0 125 (dk_at dksJ8_multiply_3_2 0 rfl rfl)
theorem dJ8_multiply_3_51 : decode cJ8_multiply_3 51 = .ok (.lreturn, 1) := dk_173 (dk_at dksJ8_multiply_3_2 3 rfl rfl)
theorem nA_63 {v : Int} (h : -9223372036854775808 ≤ v ∧ v ≤ 9223372036854775807) {k : Nat} (hk : 2 ≤ k) : v.natAbs < bw k := Nat.lt_of_lt_of_le (show v.natAbs < bw 2 by rw [bw_2]; omega) (bw_mono hk)
def tn (k : Int) : Int := ((10 ^ k.toNat : Nat) : Int)
theorem tn_0 {k : Int} (h : k ≤ 0) : tn k = 1 := by unfold tn; rw [show k.toNat = 0 by omega]; rfl
theorem tn_pos (k : Int) : 0 < tn k := by unfold tn; have : 0 < 10 ^ k.toNat := Nat.pow_pos (by decide); omega
theorem tn_18 {k : Int} (h : k ≤ 18) : tn k ≤ 1000000000000000000 := by
  unfold tn; have : 10 ^ k.toNat ≤ 10 ^ 18 := Nat.pow_le_pow_right (by decide) (by omega)
  have e : (10 : Nat) ^ 18 = 1000000000000000000 := by decide
  omega
theorem tn_n (n : Nat) : tn (n : Int) = ((10 ^ n : Nat) : Int) := by unfold tn; rw [Int.toNat_natCast]
theorem tn_add {a b : Int} (ha : 0 ≤ a) (hb : 0 ≤ b) : tn (a + b) = tn a * tn b := by
  unfold tn; rw [← Int.natCast_mul, ← Nat.pow_add, show (a + b).toNat = a.toNat + b.toNat by omega]
theorem mulT_bw {v k : Int} {m : Nat} (h : v.natAbs < bw m) (hk : k ≤ 18) : (v * tn k).natAbs < bw (m + 2) := by
  have h1 := tn_18 hk
  have h2 := tn_pos k
  rw [Int.natAbs_mul, bw_add, bw_2]
  exact Nat.mul_lt_mul_of_lt_of_le h (by omega) (by decide)
def adV (u s w t : Int) : Int := u * tn (grI s t - s) + w * tn (grI s t - t)
theorem adV_e {u s w t : Int} (h : s = t) : adV u s w t = u + w ∧ grI s t = s := by
  have := grI_cases s t
  unfold adV; rw [tn_0 (by omega), tn_0 (by omega), Int.mul_one, Int.mul_one]; omega
theorem adV_l {u s w t : Int} (h : s < t) : adV u s w t = u * tn (t - s) + w ∧ grI s t = t := by
  have := grI_cases s t
  unfold adV; rw [show grI s t = t by omega, tn_0 (show t - t ≤ 0 by omega), Int.mul_one]; omega
theorem adV_g {u s w t : Int} (h : t < s) : adV u s w t = u + w * tn (s - t) ∧ grI s t = s := by
  have := grI_cases s t
  unfold adV; rw [show grI s t = s by omega, tn_0 (show s - s ≤ 0 by omega), Int.mul_one]; omega
theorem adV_bw {u s w t : Int} (hu : u.natAbs < bw 4) (hw : w.natAbs < bw 4) (hd : -18 ≤ s - t ∧ s - t ≤ 18) : (adV u s w t).natAbs < bw 7 := by
  have hg := grI_cases s t
  have h1 := mulT_bw (k := grI s t - s) hu (by omega)
  have h2 := mulT_bw (k := grI s t - t) hw (by omega)
  have h3 : bw 7 = bw 6 * 4294967296 := bw_s 6
  unfold adV
  rw [show 4 + 2 = 6 from rfl] at h1 h2
  omega
/-- same signs: what doesn't fit goes on not to -/
theorem nofit_add {a b : Int} (h : ¬ fit a) (hs : (a < 0 ∧ b < 0) ∨ (0 ≤ a ∧ 0 ≤ b)) : ¬ fit (a + b) := by unfold fit at *; omega
theorem nofit_mul {a k : Int} (h : ¬ fit a) : ¬ fit (a * tn k) := by
  have h1 := tn_pos k
  unfold fit at *
  rcases Int.lt_or_le a 0 with c | c
  · have : a * tn k ≤ a * 1 := Int.mul_le_mul_of_nonpos_left (by omega) (by omega)
    omega
  · have : a * 1 ≤ a * tn k := Int.mul_le_mul_of_nonneg_left (by omega) c
    omega
theorem mul_sgn {a k : Int} : (a * tn k < 0 ↔ a < 0) ∧ (0 ≤ a * tn k ↔ 0 ≤ a) ∧ sgI (a * tn k) = sgI a := by
  have h1 := tn_pos k
  have h2 := sgI_mp (v := a) h1
  have := sgI_cases a; have := sgI_cases (a * tn k)
  refine ⟨by omega, by omega, h2⟩
theorem sg_same {a b : Int} (h : sgI a = sgI b) : (a < 0 ∧ b < 0) ∨ (0 ≤ a ∧ 0 ≤ b) := by have := sgI_cases a; have := sgI_cases b; omega
theorem or_31 {a b : Int} (ha : 0 ≤ a) (hb : 0 ≤ b) (h : ((a.toNat ||| b.toNat : Nat) : Int) / 2147483648 = 0) : a < 2147483648 ∧ b < 2147483648 := by
  have h1 : a.toNat ≤ a.toNat ||| b.toNat := Nat.left_le_or
  have h2 : b.toNat ≤ a.toNat ||| b.toNat := Nat.right_le_or
  omega
theorem or_rng {a b : Int} (ha : 0 ≤ a ∧ a < 9223372036854775808) (hb : 0 ≤ b ∧ b < 9223372036854775808) : 0 ≤ ((a.toNat ||| b.toNat : Nat) : Int) ∧ ((a.toNat ||| b.toNat : Nat) : Int) < 9223372036854775808 := by
  have := Nat.or_lt_two_pow (x := a.toNat) (y := b.toNat) (n := 63) (by rw [show (2:Nat) ^ 63 = 9223372036854775808 from by decide]; omega) (by rw [show (2:Nat) ^ 63 = 9223372036854775808 from by decide]; omega)
  rw [show (2:Nat) ^ 63 = 9223372036854775808 from by decide] at this
  omega
theorem jL_orN {a b : Int} (ha : 0 ≤ a ∧ a < 9223372036854775808) (hb : 0 ≤ b ∧ b < 9223372036854775808) : jL a ||| jL b = jL ((a.toNat ||| b.toNat : Nat) : Int) := by
  have h := or_rng ha hb
  apply jL_ext
  show ((jL a).toBitVec ||| (jL b).toBitVec).toNat = _
  rw [BitVec.toNat_or, jL_tn, jL_tn]
  have e1 : (a % 18446744073709551616).toNat = a.toNat := by omega
  have e2 : (b % 18446744073709551616).toNat = b.toNat := by omega
  rw [e1, e2]; omega
theorem mul_small {x y : Int} (hx : abI x < 2147483648) (hy : abI y < 2147483648) : -9223372036854775808 < x * y ∧ x * y ≤ 9223372036854775807 := by
  have h1 := abI_cases x; have h2 := abI_cases y
  have h3 : (x * y).natAbs ≤ 2147483647 * 2147483647 := by rw [Int.natAbs_mul]; exact Nat.mul_le_mul (by omega) (by omega)
  omega
/-- a wrapped product that divides back is the product -/
theorem mul_back {x y : Int} (hx : -9223372036854775807 ≤ x ∧ x ≤ 9223372036854775807) (hy : -9223372036854775807 ≤ y ∧ y ≤ 9223372036854775807) (hy0 : y ≠ 0) (h : (wL (x * y)).tdiv y = x) : wL (x * y) = x * y := by
  have h1 := wL_s (x * y)
  have h2 := Int.mul_tdiv_add_tmod (wL (x * y)) y
  rw [h, Int.mul_comm] at h2
  have h3 : ((wL (x * y)).tmod y).natAbs < y.natAbs := by rw [Int.natAbs_tmod]; exact Nat.mod_lt _ (by omega)
  generalize x * y = p at *
  omega
theorem mul_tdR {x y : Int} (hy : y ≠ 0) (hxy : -9223372036854775807 ≤ x ∧ x ≤ 9223372036854775807) (hy2 : -9223372036854775807 ≤ y ∧ y ≤ 9223372036854775807) : -9223372036854775808 ≤ (wL (x * y)).tdiv y ∧ (wL (x * y)).tdiv y ≤ 9223372036854775807 := by
  have h1 := wL_s (x * y)
  have h4 : ((wL (x * y)).tdiv y).natAbs = (wL (x * y)).natAbs / y.natAbs := Int.natAbs_tdiv ..
  have h5 : (wL (x * y)).natAbs / y.natAbs ≤ (wL (x * y)).natAbs := Nat.div_le_self _ _
  by_cases c : y = -1
  · subst c
    have h6 : wL (x * -1) = -x := by rw [show x * -1 = -x by omega]; exact wL_id (by omega)
    rw [h6, Int.tdiv_neg, Int.tdiv_one]; omega
  · by_cases c1 : y = 1
    · subst c1; rw [Int.tdiv_one]; omega
    · have h6 : (wL (x * y)).natAbs / y.natAbs ≤ (wL (x * y)).natAbs / 2 := Nat.div_le_div_left (by omega) (by decide)
      omega
theorem cpt_in {z : Int} (h : -9223372036854775808 ≤ z ∧ z ≤ 9223372036854775807) : cpt z = z := by unfold cpt; split <;> omega
theorem mul_cp {x y : Int} (hx : -9223372036854775807 ≤ x ∧ x ≤ 9223372036854775807) (hy : -9223372036854775807 ≤ y ∧ y ≤ 9223372036854775807) : (y = 0 → wL (x * y) = cpt (x * y)) ∧ (abI x < 2147483648 ∧ abI y < 2147483648 → wL (x * y) = cpt (x * y)) ∧ (y ≠ 0 → (wL (x * y)).tdiv y = x → wL (x * y) = cpt (x * y)) ∧ (y ≠ 0 → (wL (x * y)).tdiv y ≠ x → -9223372036854775808 = cpt (x * y)) := by
  refine ⟨fun h => ?_, fun h => ?_, fun h h2 => ?_, fun h h2 => ?_⟩
  · rw [h, Int.mul_zero]; rfl
  · have := mul_small h.1 h.2; rw [wL_id (by omega), cpt_in (by omega)]
  · have h3 := mul_back hx hy h h2
    have h4 := wL_s (x * y)
    rw [h3] at h4
    rw [h3, cpt_in (by omega)]
  · rcases cpt_cases (x * y) with c | c
    · exfalso; apply h2
      rw [wL_id (by omega), Int.mul_tdiv_cancel _ h]
    · exact c.2.symm
theorem add_cp {x y : Int} (hx : -9223372036854775808 ≤ x ∧ x ≤ 9223372036854775807) (hy : -9223372036854775808 ≤ y ∧ y ≤ 9223372036854775807) : (0 ≤ anL (xoL (wL (x + y)) x) (xoL (wL (x + y)) y) → wL (x + y) = cpt (x + y)) ∧ (anL (xoL (wL (x + y)) x) (xoL (wL (x + y)) y) < 0 → -9223372036854775808 = cpt (x + y)) := by
  have h0 := wL_s (x + y)
  have h1 := anL_neg (xoL_rng (wL (x + y)) x) (xoL_rng (wL (x + y)) y)
  rw [xoL_neg ⟨h0.1, h0.2.1⟩ hx, xoL_neg ⟨h0.1, h0.2.1⟩ hy] at h1
  have h2 := cpt_cases (x + y)
  unfold fit at h2
  refine ⟨fun q => ?_, fun q => ?_⟩
  · have h3 := Int.not_lt.mpr q
    rw [h1] at h3
    by_cases c : -9223372036854775808 ≤ x + y ∧ x + y ≤ 9223372036854775807
    · rw [wL_id c, cpt_in c]
    · exfalso; apply h3; unfold wL at *; omega
  · rw [h1] at q; unfold wL at *; omega
theorem nofit_min {z : Int} (h : ¬ fit z) : cpt z = -9223372036854775808 := cpt_0 h
/-- the sizes of two numbers by their digits and scales -/
theorem dgc_sep {a b i j : Nat} (hb : b ≠ 0) (h : dgc a + i < dgc b + j) : a * 10 ^ i < b * 10 ^ j := by
  have h1 := dgc_lt a
  have h2 := dgc_ge b hb
  have h3 := dgc_pos b
  have h4 : a * 10 ^ i < 10 ^ dgc a * 10 ^ i := Nat.mul_lt_mul_of_pos_right h1 (Nat.pow_pos (by decide))
  have h5 : 10 ^ (dgc b - 1) * 10 ^ j ≤ b * 10 ^ j := Nat.mul_le_mul_right _ h2
  rw [← Nat.pow_add] at h4 h5
  have h6 : 10 ^ (dgc a + i) ≤ 10 ^ (dgc b - 1 + j) := Nat.pow_le_pow_right (by decide) (by omega)
  omega
def cmD (u s w t : Int) : Int := ciI (u * tn (grI s t - s)) (w * tn (grI s t - t))
def cmM (u s w t : Int) : Int := cmpI (u * tn (grI s t - s)).natAbs (w * tn (grI s t - t)).natAbs
theorem nA_tn (u k : Int) : (u * tn k).natAbs = u.natAbs * 10 ^ k.toNat := by rw [Int.natAbs_mul]; rfl
theorem cmM_l {u s w t : Int} (hw : w ≠ 0) (h : (dgc u.natAbs : Int) - s < dgc w.natAbs - t) : cmM u s w t = -1 := by
  have := grI_cases s t
  unfold cmM; rw [nA_tn, nA_tn]; exact cmpI_lt (dgc_sep (by omega) (by omega))
theorem cmM_g {u s w t : Int} (hu : u ≠ 0) (h : (dgc w.natAbs : Int) - t < dgc u.natAbs - s) : cmM u s w t = 1 := by
  have := grI_cases s t
  unfold cmM; rw [nA_tn, nA_tn]; exact cmpI_gt (dgc_sep (by omega) (by omega))
theorem cmM_s {u s w t : Int} (h : s ≤ t) : cmM u s w t = cmpI (u * tn (t - s)).natAbs w.natAbs := by
  have := grI_cases s t
  unfold cmM; rw [show grI s t = t by omega, tn_0 (show t - t ≤ 0 by omega), Int.mul_one]
theorem cmM_t {u s w t : Int} (h : t ≤ s) : cmM u s w t = cmpI u.natAbs (w * tn (s - t)).natAbs := by
  have := grI_cases s t
  unfold cmM; rw [show grI s t = s by omega, tn_0 (show s - s ≤ 0 by omega), Int.mul_one]
theorem cmM_w0 {u s t : Int} (hu : u ≠ 0) : cmM u s 0 t = 1 := by
  unfold cmM; rw [Int.zero_mul]; apply cmpI_gt
  rw [nA_tn]; exact Nat.mul_pos (by omega) (Nat.pow_pos (by decide))
theorem cmM_u0 {s w t : Int} (hw : w ≠ 0) : cmM 0 s w t = -1 := by
  unfold cmM; rw [Int.zero_mul]; apply cmpI_lt
  rw [nA_tn]; exact Nat.mul_pos (by omega) (Nat.pow_pos (by decide))
theorem cmM_00 {s t : Int} : cmM 0 s 0 t = 0 := by unfold cmM; rw [Int.zero_mul, Int.zero_mul]; rfl
theorem cmp_nofit {a b : Int} (h : ¬ fit a) (hb : fit b) : cmpI a.natAbs b.natAbs = 1 ∨ a.natAbs = b.natAbs := by
  unfold fit at *; by_cases c : a.natAbs = b.natAbs; exact Or.inr c; exact Or.inl (cmpI_gt (by omega))
theorem cmp_nf1 {a b : Int} (h : ¬ fit a) (hb : fit b) : cmpI a.natAbs b.natAbs = 1 := cmpI_gt (by unfold fit at *; omega)
theorem cmp_nf2 {a b : Int} (h : ¬ fit b) (ha : fit a) : cmpI a.natAbs b.natAbs = -1 := cmpI_lt (by unfold fit at *; omega)
theorem cmD_e {u s w t : Int} (h : s = t) : cmD u s w t = ciI u w := by
  have := grI_cases s t
  unfold cmD; rw [tn_0 (by omega), tn_0 (by omega), Int.mul_one, Int.mul_one]
theorem cmD_sg {u s w t : Int} : (sgI w < sgI u → cmD u s w t = 1) ∧ (sgI u < sgI w → cmD u s w t = -1) ∧ (sgI u = sgI w → sgI u = 0 → cmD u s w t = 0) ∧ (sgI u = sgI w → 0 < sgI u → cmD u s w t = cmM u s w t) ∧ (sgI u = sgI w → sgI u < 0 → cmD u s w t = -cmM u s w t) := by
  have h1 := (mul_sgn (a := u) (k := grI s t - s)).2.2
  have h2 := (mul_sgn (a := w) (k := grI s t - t)).2.2
  unfold cmD cmM
  generalize u * tn (grI s t - s) = a at *
  generalize w * tn (grI s t - t) = b at *
  rw [← h1, ← h2]
  have := sgI_cases a; have := sgI_cases b; have := ciI_cases a b; have := cmpI_cases a.natAbs b.natAbs
  refine ⟨by omega, by omega, by omega, by omega, by omega⟩
theorem cmM_rng (u s w t : Int) : -1 ≤ cmM u s w t ∧ cmM u s w t ≤ 1 := by unfold cmM; have := cmpI_cases (u * tn (grI s t - s)).natAbs (w * tn (grI s t - t)).natAbs; omega
theorem cmD_rng (u s w t : Int) : -1 ≤ cmD u s w t ∧ cmD u s w t ≤ 1 := by unfold cmD; have := ciI_cases (u * tn (grI s t - s)) (w * tn (grI s t - t)); omega
theorem nd_J8_compactValFor : yJ8_compactValFor.cls ≠ "java/lang/invoke/MethodHandle" ∧ yJ8_compactValFor.cls ≠ "java/lang/invoke/VarHandle" ∧ (parseMethodDescriptor yJ8_compactValFor.desc).map (fun d => d.parameters.length) = some 1 := by decide +kernel
set_option maxRecDepth 100000 in
set_option maxHeartbeats 16000000 in
theorem ct_J8_compactValFor {g : GG} {l : Launch} (M : Nat → Option PV) (q : Nat) (v : Int) (a : Nat) (hx : at_ g M q (vI v a)) (hb : v.natAbs < bw 7) : Ct g l yJ8_compactValFor (ws_ yJ8_compactValFor cJ8_compactValFor 6 (Option.some Jvm.ClassFile.FieldType.long)) 1 12 0 0 [.ref q] [pl g M] (fun v9 Ws9 => v9 = some (.long (jL (cpt v))) ∧ Ws9 = [pl g M]) (nox) := by
  refine Ct.of (cc := cJ8_compactValFor) (nL := 6) (ret := (Option.some Jvm.ClassFile.FieldType.long)) (by decide) rfl (Nat.le_of_ble_eq_true rfl) ?_
  intro x hg hl hPo hPx hmc hms F
  subst hg; subst hl
  refine SW.cast (L' := [(0, .ref q)]) ?_ rfl rfl rfl
  refine sw_factI 0 rfl hx (fun n9 f9 ha9 hw9 hv9 => ?_)
  have hsg := sgI_cases v
  have hn9 : n9 ≤ 7 := wOK_len hw9 (by rw [hv9]; exact hb)
  refine sw_aload_n (n := 1) F 0 (some q) rfl rfl rfl dJ8_compactValFor_0 rfl ?_
  refine sw_getI (n := 4) F 0 rfl hx (k := 1) ⟨(RJ19, TJ19, 6), rfl, by decide, q1074, in_J19, Or.inl rfl⟩ (.ref a) (fun _ _ _ _ => rfl) dJ8_compactValFor_1 rfl ?_
  refine sw_astore_n (n := 5) F (some a) (L2 := [(1, .ref a), (0, .ref q)]) rfl rfl (by decide) rfl dJ8_compactValFor_4 rfl ?_
  refine sw_aload_n (n := 6) F 0 (some a) rfl rfl rfl dJ8_compactValFor_5 rfl ?_
  refine sw_alenK (n := 7) F (plA F 0 rfl ha9) dJ8_compactValFor_6 rfl ?_
  show SW x _ _ _ _ _ [.int (jI (↑n9))]
  refine sw_istore_n (n := 8) F (L2 := [(2, .int (jI (↑n9))), (1, .ref a), (0, .ref q)]) rfl (by decide) rfl dJ8_compactValFor_7 rfl ?_
  refine sw_iload_n (n := 9) F 0 rfl rfl dJ8_compactValFor_8 rfl ?_
  refine sw_if_ne (n := 12) F (by omega) (tgt := 14) dJ8_compactValFor_9 (by decide) rfl (fun c_9 => ?_) (fun c_9 => ?_)
  ·
    have hwb0 := hw9.1 0
    have hlong := long_len hw9
    refine sw_aload_n (n := 15) F 1 (some a) rfl rfl rfl dJ8_compactValFor_14 rfl ?_
    refine sw_iconst (n := 16) F (0) (by decide) dJ8_compactValFor_15 rfl ?_
    refine sw_ialoadK (n := 17) F (plA F 0 rfl ha9) 0 rfl (by omega) dJ8_compactValFor_16 rfl ?_
    show SW x _ _ _ _ _ [.int (jI (↑(f9 0)))]
    refine sw_istore_n (n := 18) F (L2 := [(3, .int (jI (↑(f9 0)))), (2, .int (jI (↑n9))), (1, .ref a), (0, .ref q)]) rfl (by decide) rfl dJ8_compactValFor_17 rfl ?_
    refine sw_iload_n (n := 19) F 1 rfl rfl dJ8_compactValFor_18 rfl ?_
    refine sw_iconst (n := 20) F (2) (by decide) dJ8_compactValFor_19 rfl ?_
    refine sw_icmp_gt (n := 23) F (by omega) (by decide) (tgt := 32) dJ8_compactValFor_20 (by decide) rfl (fun c_20 => ?_) (fun c_20 => ?_)
    ·
      refine sw_ldc2 (n := 35) F (-9223372036854775808) q250 (by decide) dJ8_compactValFor_32 rfl ?_
      exact sw_lret F rfl dJ8_compactValFor_35 (by rw [hPo]; exact ⟨(by rw [cpt_0 (show ¬ fit v by unfold fit; first | omega | (have hwc := w2_le hw9 (by omega); omega))]), rfl⟩)
    ·
      refine sw_iload_n (n := 24) F 1 rfl rfl dJ8_compactValFor_23 rfl ?_
      refine sw_iconst (n := 25) F (2) (by decide) dJ8_compactValFor_24 rfl ?_
      refine sw_icmp_ne (n := 28) F (by omega) (by decide) (tgt := 36) dJ8_compactValFor_25 (by decide) rfl (fun c_25 => ?_) (fun c_25 => ?_)
      ·
        have hwc := w2_le hw9 (by omega)
        refine sw_iload_n (n := 37) F 1 rfl rfl dJ8_compactValFor_36 rfl ?_
        refine sw_iconst (n := 38) F (2) (by decide) dJ8_compactValFor_37 rfl ?_
        refine sw_icmp_ne (n := 41) F (by omega) (by decide) (tgt := 58) dJ8_compactValFor_38 (by decide) rfl (fun c_38 => ?_) (fun c_38 => ?_)
        ·
          refine sw_iload_n (n := 59) F 0 rfl rfl dJ8_compactValFor_58 rfl ?_
          have hb_1 : f9 0 < 4294967296 := hw9.1 _ (by omega)
          refine sw_i2lr (n := 60) F dJ8_compactValFor_59 rfl ?_
          refine sw_ldc2 (n := 63) F (4294967295) q1285 (by decide) dJ8_compactValFor_60 rfl ?_
          refine sw_land (n := 64) F (jL (↑(f9 0))) (jI_wordE (by omega)) dJ8_compactValFor_63 rfl ?_
          refine sw_lstore (n := 66) F (L2 := [(4, .long (jL (↑(f9 0)))), (3, .int (jI (↑(f9 0)))), (2, .int (jI (↑n9))), (1, .ref a), (0, .ref q)]) rfl (by decide) dJ8_compactValFor_64 rfl ?_
          refine sw_aload_n (n := 67) F 4 (some q) rfl rfl rfl dJ8_compactValFor_66 rfl ?_
          refine sw_getI (n := 70) F 0 rfl hx (k := 0) ⟨(RJ19, TJ19, 6), rfl, by decide, q1071, in_J19, Or.inl rfl⟩ (.int (jI (sgI v))) (fun _ _ _ _ => rfl) dJ8_compactValFor_67 rfl ?_
          refine sw_if_ge (n := 73) F (by omega) (tgt := 79) dJ8_compactValFor_70 (by decide) rfl (fun c_70 => ?_) (fun c_70 => ?_)
          ·
            refine sw_lload (n := 81) F 0 rfl dJ8_compactValFor_79 rfl ?_
            exact sw_lret F rfl dJ8_compactValFor_81 (by rw [hPo]; exact ⟨(by rw [cpt_1 (show fit v by unfold fit; omega)]; congr 3; omega), rfl⟩)
          ·
            refine sw_lload (n := 75) F 0 rfl dJ8_compactValFor_73 rfl ?_
            refine sw_lneg (n := 76) F dJ8_compactValFor_75 rfl ?_
            refine sw_goto F (n := 81) dJ8_compactValFor_76 (by decide) ?_
            exact sw_lret F rfl dJ8_compactValFor_81 (by rw [hPo]; exact ⟨(by rw [cpt_1 (show fit v by unfold fit; omega)]; congr 3; omega), rfl⟩)
        ·
          refine sw_aload_n (n := 42) F 2 (some a) rfl rfl rfl dJ8_compactValFor_41 rfl ?_
          refine sw_iconst (n := 43) F (1) (by decide) dJ8_compactValFor_42 rfl ?_
          refine sw_ialoadK (n := 44) F (plA F 0 rfl ha9) 1 rfl (by omega) dJ8_compactValFor_43 rfl ?_
          show SW x _ _ _ _ _ [.int (jI (↑(f9 1)))]
          have hb_2 : f9 1 < 4294967296 := hw9.1 _ (by omega)
          refine sw_i2lr (n := 45) F dJ8_compactValFor_44 rfl ?_
          refine sw_ldc2 (n := 48) F (4294967295) q1285 (by decide) dJ8_compactValFor_45 rfl ?_
          refine sw_land (n := 49) F (jL (↑(f9 1))) (jI_wordE (by omega)) dJ8_compactValFor_48 rfl ?_
          refine sw_iload_n (n := 50) F 0 rfl rfl dJ8_compactValFor_49 rfl ?_
          refine sw_i2l (n := 51) F (by omega) dJ8_compactValFor_50 rfl ?_
          refine sw_bipush (n := 53) F (32) (by decide) dJ8_compactValFor_51 rfl ?_
          refine sw_lshl (n := 54) F (jL ((↑(f9 0)) * 4294967296)) (by have h7s := jL_shlQ (↑(f9 0)) (c := 32) (P := 4294967296) (k := 32) (by decide) (by decide) (by decide); exact h7s) dJ8_compactValFor_53 rfl ?_
          refine sw_ladd (n := 55) F dJ8_compactValFor_54 rfl ?_
          refine sw_goto F (n := 64) dJ8_compactValFor_55 (by decide) ?_
          refine sw_lstore (n := 66) F (L2 := [(4, .long (jL ((↑(f9 1)) + ((↑(f9 0)) * 4294967296)))), (3, .int (jI (↑(f9 0)))), (2, .int (jI (↑n9))), (1, .ref a), (0, .ref q)]) rfl (by decide) dJ8_compactValFor_64 rfl ?_
          refine sw_aload_n (n := 67) F 4 (some q) rfl rfl rfl dJ8_compactValFor_66 rfl ?_
          refine sw_getI (n := 70) F 0 rfl hx (k := 0) ⟨(RJ19, TJ19, 6), rfl, by decide, q1071, in_J19, Or.inl rfl⟩ (.int (jI (sgI v))) (fun _ _ _ _ => rfl) dJ8_compactValFor_67 rfl ?_
          refine sw_if_ge (n := 73) F (by omega) (tgt := 79) dJ8_compactValFor_70 (by decide) rfl (fun c_70 => ?_) (fun c_70 => ?_)
          ·
            refine sw_lload (n := 81) F 0 rfl dJ8_compactValFor_79 rfl ?_
            exact sw_lret F rfl dJ8_compactValFor_81 (by rw [hPo]; exact ⟨(by rw [cpt_1 (show fit v by unfold fit; omega)]; congr 3; omega), rfl⟩)
          ·
            refine sw_lload (n := 75) F 0 rfl dJ8_compactValFor_73 rfl ?_
            refine sw_lneg (n := 76) F dJ8_compactValFor_75 rfl ?_
            refine sw_goto F (n := 81) dJ8_compactValFor_76 (by decide) ?_
            exact sw_lret F rfl dJ8_compactValFor_81 (by rw [hPo]; exact ⟨(by rw [cpt_1 (show fit v by unfold fit; omega)]; congr 3; omega), rfl⟩)
      ·
        refine sw_iload_n (n := 29) F 0 rfl rfl dJ8_compactValFor_28 rfl ?_
        refine sw_top (congrArg Value.int (jI_w (↑(f9 0)))) ?_
        have hw_9 := wI_s (↑(f9 0))
        refine sw_if_ge (n := 32) F (by omega) (tgt := 36) dJ8_compactValFor_29 (by decide) rfl (fun c_29 => ?_) (fun c_29 => ?_)
        ·
          have hwc := w2_le hw9 (by omega)
          refine sw_iload_n (n := 37) F 1 rfl rfl dJ8_compactValFor_36 rfl ?_
          refine sw_iconst (n := 38) F (2) (by decide) dJ8_compactValFor_37 rfl ?_
          refine sw_icmp_ne (n := 41) F (by omega) (by decide) (tgt := 58) dJ8_compactValFor_38 (by decide) rfl (fun c_38 => ?_) (fun c_38 => ?_)
          ·
            refine sw_iload_n (n := 59) F 0 rfl rfl dJ8_compactValFor_58 rfl ?_
            have hb_3 : f9 0 < 4294967296 := hw9.1 _ (by omega)
            refine sw_i2lr (n := 60) F dJ8_compactValFor_59 rfl ?_
            refine sw_ldc2 (n := 63) F (4294967295) q1285 (by decide) dJ8_compactValFor_60 rfl ?_
            refine sw_land (n := 64) F (jL (↑(f9 0))) (jI_wordE (by omega)) dJ8_compactValFor_63 rfl ?_
            refine sw_lstore (n := 66) F (L2 := [(4, .long (jL (↑(f9 0)))), (3, .int (jI (↑(f9 0)))), (2, .int (jI (↑n9))), (1, .ref a), (0, .ref q)]) rfl (by decide) dJ8_compactValFor_64 rfl ?_
            refine sw_aload_n (n := 67) F 4 (some q) rfl rfl rfl dJ8_compactValFor_66 rfl ?_
            refine sw_getI (n := 70) F 0 rfl hx (k := 0) ⟨(RJ19, TJ19, 6), rfl, by decide, q1071, in_J19, Or.inl rfl⟩ (.int (jI (sgI v))) (fun _ _ _ _ => rfl) dJ8_compactValFor_67 rfl ?_
            refine sw_if_ge (n := 73) F (by omega) (tgt := 79) dJ8_compactValFor_70 (by decide) rfl (fun c_70 => ?_) (fun c_70 => ?_)
            ·
              refine sw_lload (n := 81) F 0 rfl dJ8_compactValFor_79 rfl ?_
              exact sw_lret F rfl dJ8_compactValFor_81 (by rw [hPo]; exact ⟨(by rw [cpt_1 (show fit v by unfold fit; omega)]; congr 3; omega), rfl⟩)
            ·
              refine sw_lload (n := 75) F 0 rfl dJ8_compactValFor_73 rfl ?_
              refine sw_lneg (n := 76) F dJ8_compactValFor_75 rfl ?_
              refine sw_goto F (n := 81) dJ8_compactValFor_76 (by decide) ?_
              exact sw_lret F rfl dJ8_compactValFor_81 (by rw [hPo]; exact ⟨(by rw [cpt_1 (show fit v by unfold fit; omega)]; congr 3; omega), rfl⟩)
          ·
            refine sw_aload_n (n := 42) F 2 (some a) rfl rfl rfl dJ8_compactValFor_41 rfl ?_
            refine sw_iconst (n := 43) F (1) (by decide) dJ8_compactValFor_42 rfl ?_
            refine sw_ialoadK (n := 44) F (plA F 0 rfl ha9) 1 rfl (by omega) dJ8_compactValFor_43 rfl ?_
            show SW x _ _ _ _ _ [.int (jI (↑(f9 1)))]
            have hb_4 : f9 1 < 4294967296 := hw9.1 _ (by omega)
            refine sw_i2lr (n := 45) F dJ8_compactValFor_44 rfl ?_
            refine sw_ldc2 (n := 48) F (4294967295) q1285 (by decide) dJ8_compactValFor_45 rfl ?_
            refine sw_land (n := 49) F (jL (↑(f9 1))) (jI_wordE (by omega)) dJ8_compactValFor_48 rfl ?_
            refine sw_iload_n (n := 50) F 0 rfl rfl dJ8_compactValFor_49 rfl ?_
            refine sw_i2l (n := 51) F (by omega) dJ8_compactValFor_50 rfl ?_
            refine sw_bipush (n := 53) F (32) (by decide) dJ8_compactValFor_51 rfl ?_
            refine sw_lshl (n := 54) F (jL ((↑(f9 0)) * 4294967296)) (by have h7s := jL_shlQ (↑(f9 0)) (c := 32) (P := 4294967296) (k := 32) (by decide) (by decide) (by decide); exact h7s) dJ8_compactValFor_53 rfl ?_
            refine sw_ladd (n := 55) F dJ8_compactValFor_54 rfl ?_
            refine sw_goto F (n := 64) dJ8_compactValFor_55 (by decide) ?_
            refine sw_lstore (n := 66) F (L2 := [(4, .long (jL ((↑(f9 1)) + ((↑(f9 0)) * 4294967296)))), (3, .int (jI (↑(f9 0)))), (2, .int (jI (↑n9))), (1, .ref a), (0, .ref q)]) rfl (by decide) dJ8_compactValFor_64 rfl ?_
            refine sw_aload_n (n := 67) F 4 (some q) rfl rfl rfl dJ8_compactValFor_66 rfl ?_
            refine sw_getI (n := 70) F 0 rfl hx (k := 0) ⟨(RJ19, TJ19, 6), rfl, by decide, q1071, in_J19, Or.inl rfl⟩ (.int (jI (sgI v))) (fun _ _ _ _ => rfl) dJ8_compactValFor_67 rfl ?_
            refine sw_if_ge (n := 73) F (by omega) (tgt := 79) dJ8_compactValFor_70 (by decide) rfl (fun c_70 => ?_) (fun c_70 => ?_)
            ·
              refine sw_lload (n := 81) F 0 rfl dJ8_compactValFor_79 rfl ?_
              exact sw_lret F rfl dJ8_compactValFor_81 (by rw [hPo]; exact ⟨(by rw [cpt_1 (show fit v by unfold fit; omega)]; congr 3; omega), rfl⟩)
            ·
              refine sw_lload (n := 75) F 0 rfl dJ8_compactValFor_73 rfl ?_
              refine sw_lneg (n := 76) F dJ8_compactValFor_75 rfl ?_
              refine sw_goto F (n := 81) dJ8_compactValFor_76 (by decide) ?_
              exact sw_lret F rfl dJ8_compactValFor_81 (by rw [hPo]; exact ⟨(by rw [cpt_1 (show fit v by unfold fit; omega)]; congr 3; omega), rfl⟩)
        ·
          refine sw_ldc2 (n := 35) F (-9223372036854775808) q250 (by decide) dJ8_compactValFor_32 rfl ?_
          exact sw_lret F rfl dJ8_compactValFor_35 (by rw [hPo]; exact ⟨(by rw [cpt_0 (show ¬ fit v by unfold fit; first | omega | (have hwc := w2_le hw9 (by omega); omega))]), rfl⟩)
  ·
    refine sw_lconst (n := 13) F 0 (by decide) dJ8_compactValFor_12 rfl ?_
    exact sw_lret F rfl dJ8_compactValFor_13 (by rw [hPo]; exact ⟨(by rw [show v = 0 by have e := hv9; rw [show n9 = 0 by omega] at e; have e2 : wv f9 0 = 0 := rfl; omega]; rfl), rfl⟩)
theorem nd_J8_valueOf_3 : yJ8_valueOf_3.cls ≠ "java/lang/invoke/MethodHandle" ∧ yJ8_valueOf_3.cls ≠ "java/lang/invoke/VarHandle" ∧ (parseMethodDescriptor yJ8_valueOf_3.desc).map (fun d => d.parameters.length) = some 3 := by decide +kernel
set_option maxRecDepth 100000 in
set_option maxHeartbeats 16000000 in
theorem ct_J8_valueOf_3 {g : GG} {l : Launch} (M : Nat → Option PV) (q : Nat) (v : Int) (a : Nat) (s : Int) (p : Int) (hx : at_ g M q (vI v a)) (hb : v.natAbs < bw 7) (hs : -2147483648 ≤ s ∧ s ≤ 2147483647) (hp : p = ↑(dgc v.natAbs) ∨ p = 0) : Ct g l yJ8_valueOf_3 (ws_ yJ8_valueOf_3 cJ8_valueOf_3 5 (Option.some (Jvm.ClassFile.FieldType.object "java/math/BigDecimal"))) 4 77 1 5 [.ref q, .int (jI s), .int (jI p)] [pl g M] (fun v9 Ws9 => ∃ M1 : Nat → Option PV, ∃ r1 : Nat, ∃ o1 : Option Nat, v9 = some (.ref r1) ∧ (le_ M M1) ∧ (at_ g M1 r1 (vD v s o1)) ∧ Ws9 = [pl g M1]) (nox) := by
  refine Ct.of (cc := cJ8_valueOf_3) (nL := 5) (ret := (Option.some (Jvm.ClassFile.FieldType.object "java/math/BigDecimal"))) (by decide) rfl (Nat.le_of_ble_eq_true rfl) ?_
  intro x hg hl hPo hPx hmc hms F
  subst hg; subst hl
  refine SW.cast (L' := [(0, .ref q), (1, .int (jI s)), (2, .int (jI p))]) ?_ rfl rfl rfl
  have hcc := cpt_cases v
  have hcr := cpt_rng v
  refine sw_aload_n (n := 1) F 0 (some q) rfl rfl rfl dJ8_valueOf_3_0 rfl ?_
  refine sw_callS (n := 4) F (ct_J8_compactValFor (g := xg x) (l := xl x) M q v a hx hb) q1282 q1283 q112 q1284 nd_J8_compactValFor rfl (by decide) [0] rfl [] rfl 1 5 ⟨by omega, by omega⟩ [] rfl (Nat.le_of_ble_eq_true rfl) dJ8_valueOf_3_1 rfl (fun _ _ h => h.elim) (fun v Ws h => ?_)
  obtain ⟨rfl, rfl⟩ := h
  show SW x [pl (xg x) M] _ _ _ _ [.long (jL (cpt v))]
  refine sw_lstore_n (n := 5) F (L2 := [(3, .long (jL (cpt v))), (0, .ref q), (1, .int (jI s)), (2, .int (jI p))]) rfl (by decide) rfl dJ8_valueOf_3_4 rfl ?_
  refine sw_lload_n (n := 6) F 0 rfl rfl dJ8_valueOf_3_5 rfl ?_
  refine sw_lconst (n := 7) F 0 (by decide) dJ8_valueOf_3_6 rfl ?_
  refine sw_lcmp (n := 8) F (by omega) (by decide) dJ8_valueOf_3_7 rfl ?_
  refine sw_if_ne (n := 11) F (by omega) (tgt := 16) dJ8_valueOf_3_8 (by decide) rfl (fun c_8 => ?_) (fun c_8 => ?_)
  ·
    have c_8 : cpt v ≠ 0 := by revert c_8; (repeat' split) <;> omega
    refine sw_iload_n (n := 17) F 2 rfl rfl dJ8_valueOf_3_16 rfl ?_
    refine sw_if_ne (n := 20) F (by omega) (tgt := 43) dJ8_valueOf_3_17 (by decide) rfl (fun c_17 => ?_) (fun c_17 => ?_)
    ·
      refine sw_new (n := 46) F (ci := 13) (N := 5) RJ8 TJ8 tyJ8 rfl q251 q252 q112 in_J8 tyJ8_ok (fs := [.null, .int (jI 0), .int (jI 0), .null, .long (jL 0)]) rfl 0 0 ⟨by omega, by omega⟩ dJ8_valueOf_3_43 rfl (fun q_1 => ?_)
      refine sw_dup (n := 47) F rfl dJ8_valueOf_3_46 rfl ?_
      refine sw_aload_n (n := 48) F 1 (some q) rfl rfl rfl dJ8_valueOf_3_47 rfl ?_
      refine sw_lload_n (n := 49) F 0 rfl rfl dJ8_valueOf_3_48 rfl ?_
      refine sw_iload_n (n := 50) F 2 rfl rfl dJ8_valueOf_3_49 rfl ?_
      refine sw_iload_n (n := 51) F 3 rfl rfl dJ8_valueOf_3_50 rfl ?_
      refine sw_callI (n := 54) F (ct_J8_init (g := xg x) (l := xl x) q_1 (some q) (cpt v) s p ) q253 q254 q112 q255 rfl nd_J8_init rfl (by decide) [0, 1] rfl [pl (xg x) M] rfl 0 0 ⟨by omega, by omega⟩ [.ref q_1] rfl (Nat.le_of_ble_eq_true rfl) dJ8_valueOf_3_51 rfl (fun _ _ h => h.elim) (fun v Ws h => ?_)
      obtain ⟨rfl, rfl⟩ := h
      show SW x [ob (xg x) q_1 13 [va_rf (some q), .int (jI s), .int (jI p), .null, .long (jL (cpt v))], pl (xg x) M] _ _ _ _ [.ref q_1]
      refine SW.cast (Ps' := ob (xg x) q_1 13 (flD v s (some q) p) :: [pl (xg x) M]) ?_ (by first | rfl | (simp only [flD, cpt_1 hfit] <;> rfl)) rfl rfl
      refine sw_absD F (hp) (fun h => by cases h) (fun b h => by cases h; exact ⟨_, hx⟩) (fun M_2 hle_3 hat_4 => ?_)
      show SW x [pl (xg x) M_2] _ _ _ _ [.ref q_1]
      exact sw_aret F (some q_1) _ rfl rfl (by first | exact Or.inl ⟨_, rfl⟩ | exact Or.inr ⟨_, rfl⟩) dJ8_valueOf_3_54 (by rw [hPo]; exact ⟨M_2, q_1, some q, rfl, hle_3, hat_4, rfl⟩)
    ·
      refine sw_lload_n (n := 21) F 0 rfl rfl dJ8_valueOf_3_20 rfl ?_
      refine sw_lconst (n := 22) F 0 (by decide) dJ8_valueOf_3_21 rfl ?_
      refine sw_lcmp (n := 23) F (by omega) (by decide) dJ8_valueOf_3_22 rfl ?_
      refine sw_if_lt (n := 26) F (by omega) (tgt := 43) dJ8_valueOf_3_23 (by decide) rfl (fun c_23 => ?_) (fun c_23 => ?_)
      ·
        have c_23 : cpt v < 0 := by revert c_23; (repeat' split) <;> omega
        refine sw_new (n := 46) F (ci := 13) (N := 5) RJ8 TJ8 tyJ8 rfl q251 q252 q112 in_J8 tyJ8_ok (fs := [.null, .int (jI 0), .int (jI 0), .null, .long (jL 0)]) rfl 0 0 ⟨by omega, by omega⟩ dJ8_valueOf_3_43 rfl (fun q_5 => ?_)
        refine sw_dup (n := 47) F rfl dJ8_valueOf_3_46 rfl ?_
        refine sw_aload_n (n := 48) F 1 (some q) rfl rfl rfl dJ8_valueOf_3_47 rfl ?_
        refine sw_lload_n (n := 49) F 0 rfl rfl dJ8_valueOf_3_48 rfl ?_
        refine sw_iload_n (n := 50) F 2 rfl rfl dJ8_valueOf_3_49 rfl ?_
        refine sw_iload_n (n := 51) F 3 rfl rfl dJ8_valueOf_3_50 rfl ?_
        refine sw_callI (n := 54) F (ct_J8_init (g := xg x) (l := xl x) q_5 (some q) (cpt v) s p ) q253 q254 q112 q255 rfl nd_J8_init rfl (by decide) [0, 1] rfl [pl (xg x) M] rfl 0 0 ⟨by omega, by omega⟩ [.ref q_5] rfl (Nat.le_of_ble_eq_true rfl) dJ8_valueOf_3_51 rfl (fun _ _ h => h.elim) (fun v Ws h => ?_)
        obtain ⟨rfl, rfl⟩ := h
        show SW x [ob (xg x) q_5 13 [va_rf (some q), .int (jI s), .int (jI p), .null, .long (jL (cpt v))], pl (xg x) M] _ _ _ _ [.ref q_5]
        refine SW.cast (Ps' := ob (xg x) q_5 13 (flD v s (some q) p) :: [pl (xg x) M]) ?_ (by first | rfl | (simp only [flD, cpt_1 hfit] <;> rfl)) rfl rfl
        refine sw_absD F (hp) (fun h => by cases h) (fun b h => by cases h; exact ⟨_, hx⟩) (fun M_6 hle_7 hat_8 => ?_)
        show SW x [pl (xg x) M_6] _ _ _ _ [.ref q_5]
        exact sw_aret F (some q_5) _ rfl rfl (by first | exact Or.inl ⟨_, rfl⟩ | exact Or.inr ⟨_, rfl⟩) dJ8_valueOf_3_54 (by rw [hPo]; exact ⟨M_6, q_5, some q, rfl, hle_7, hat_8, rfl⟩)
      ·
        have c_23 : cpt v ≥ 0 := by revert c_23; (repeat' split) <;> omega
        refine sw_lload_n (n := 27) F 0 rfl rfl dJ8_valueOf_3_26 rfl ?_
        refine sw_gets (n := 30) F (kZTT F.gx.1).1 q248 (Or.inl rfl) dJ8_valueOf_3_27 rfl ?_
        refine sw_alenK (n := 31) F ((kZTT F.gx.1).2.1.A F) dJ8_valueOf_3_30 rfl ?_
        show SW x _ _ _ _ _ [.int (jI 11), .long (jL (cpt v))]
        refine sw_i2l (n := 32) F (by decide) dJ8_valueOf_3_31 rfl ?_
        refine sw_lcmp (n := 33) F (by omega) (by decide) dJ8_valueOf_3_32 rfl ?_
        refine sw_if_ge (n := 36) F (by omega) (tgt := 43) dJ8_valueOf_3_33 (by decide) rfl (fun c_33 => ?_) (fun c_33 => ?_)
        ·
          have c_33 : cpt v ≥ 11 := by revert c_33; (repeat' split) <;> omega
          refine sw_new (n := 46) F (ci := 13) (N := 5) RJ8 TJ8 tyJ8 rfl q251 q252 q112 in_J8 tyJ8_ok (fs := [.null, .int (jI 0), .int (jI 0), .null, .long (jL 0)]) rfl 0 0 ⟨by omega, by omega⟩ dJ8_valueOf_3_43 rfl (fun q_9 => ?_)
          refine sw_dup (n := 47) F rfl dJ8_valueOf_3_46 rfl ?_
          refine sw_aload_n (n := 48) F 1 (some q) rfl rfl rfl dJ8_valueOf_3_47 rfl ?_
          refine sw_lload_n (n := 49) F 0 rfl rfl dJ8_valueOf_3_48 rfl ?_
          refine sw_iload_n (n := 50) F 2 rfl rfl dJ8_valueOf_3_49 rfl ?_
          refine sw_iload_n (n := 51) F 3 rfl rfl dJ8_valueOf_3_50 rfl ?_
          refine sw_callI (n := 54) F (ct_J8_init (g := xg x) (l := xl x) q_9 (some q) (cpt v) s p ) q253 q254 q112 q255 rfl nd_J8_init rfl (by decide) [0, 1] rfl [pl (xg x) M] rfl 0 0 ⟨by omega, by omega⟩ [.ref q_9] rfl (Nat.le_of_ble_eq_true rfl) dJ8_valueOf_3_51 rfl (fun _ _ h => h.elim) (fun v Ws h => ?_)
          obtain ⟨rfl, rfl⟩ := h
          show SW x [ob (xg x) q_9 13 [va_rf (some q), .int (jI s), .int (jI p), .null, .long (jL (cpt v))], pl (xg x) M] _ _ _ _ [.ref q_9]
          refine SW.cast (Ps' := ob (xg x) q_9 13 (flD v s (some q) p) :: [pl (xg x) M]) ?_ (by first | rfl | (simp only [flD, cpt_1 hfit] <;> rfl)) rfl rfl
          refine sw_absD F (hp) (fun h => by cases h) (fun b h => by cases h; exact ⟨_, hx⟩) (fun M_10 hle_11 hat_12 => ?_)
          show SW x [pl (xg x) M_10] _ _ _ _ [.ref q_9]
          exact sw_aret F (some q_9) _ rfl rfl (by first | exact Or.inl ⟨_, rfl⟩ | exact Or.inr ⟨_, rfl⟩) dJ8_valueOf_3_54 (by rw [hPo]; exact ⟨M_10, q_9, some q, rfl, hle_11, hat_12, rfl⟩)
        ·
          have c_33 : cpt v < 11 := by revert c_33; (repeat' split) <;> omega
          refine sw_gets (n := 39) F (kZTT F.gx.1).1 q248 (Or.inl rfl) dJ8_valueOf_3_36 rfl ?_
          refine sw_lload_n (n := 40) F 0 rfl rfl dJ8_valueOf_3_39 rfl ?_
          refine sw_l2i (n := 41) F dJ8_valueOf_3_40 rfl ?_
          refine sw_aaloadK (n := 42) F rfl ((kZTT F.gx.1).2.1.A F) ((cpt v : Int).toNat) (by omega) (by omega) dJ8_valueOf_3_41 rfl ?_
          show SW x _ _ _ _ _ [.ref (tR (xg x) (eZTT ((cpt v : Int).toNat)))]
          have hk_13 : at_ (xg x) M (tR (xg x) (eZTT ((cpt v : Int).toNat))) (vD (cpt v) 0 (some (tR (xg x) (.field (eZTT ((cpt v : Int).toNat)) "java/math/BigDecimal" "intVal" "Ljava/math/BigInteger;")))) := by have h9 : at_ (xg x) M (tR (xg x) (eZTT ((cpt v : Int).toNat))) (vD (↑((cpt v : Int).toNat)) 0 (some (tR (xg x) (.field (eZTT ((cpt v : Int).toNat)) "java/math/BigDecimal" "intVal" "Ljava/math/BigInteger;")))) := Or.inr ((kZTT F.gx.1).2.2 ((cpt v : Int).toNat) (by omega)); rw [show (((cpt v : Int).toNat : Nat) : Int) = cpt v by omega] at h9; exact h9
          exact sw_aret F (some (tR (xg x) (eZTT ((cpt v : Int).toNat)))) _ rfl rfl (by first | exact Or.inl ⟨_, rfl⟩ | exact Or.inr ⟨_, rfl⟩) dJ8_valueOf_3_42 (by rw [hPo]; exact ⟨M, tR (xg x) (eZTT ((cpt v : Int).toNat)), some (tR (xg x) (.field (eZTT ((cpt v : Int).toNat)) "java/math/BigDecimal" "intVal" "Ljava/math/BigInteger;")), rfl, le_.rf, (by rw [show s = 0 by omega]; exact (congrArg (fun z => at_ (xg x) _ _ (vD z 0 _)) (show v = cpt v by omega)).mpr (by assumption)), rfl⟩)
  ·
    have c_8 : cpt v = 0 := by revert c_8; (repeat' split) <;> omega
    refine sw_iload_n (n := 12) F 2 rfl rfl dJ8_valueOf_3_11 rfl ?_
    refine sw_callS (n := 15) F (ct_J8_zeroValueOf (g := xg x) (l := xl x) M s hs) q1047 q1048 q112 q1049 nd_J8_zeroValueOf rfl (by decide) [0] rfl [] rfl 0 0 ⟨by omega, by omega⟩ [] rfl (Nat.le_of_ble_eq_true rfl) dJ8_valueOf_3_12 rfl (fun _ _ h => h.elim) (fun v Ws h => ?_)
    obtain ⟨M1_14, r1_15, o1_16, rfl, hle_17, hat_18, rfl⟩ := h
    show SW x [pl (xg x) M1_14] _ _ _ _ [.ref r1_15]
    exact sw_aret F (some r1_15) _ rfl rfl (by first | exact Or.inl ⟨_, rfl⟩ | exact Or.inr ⟨_, rfl⟩) dJ8_valueOf_3_15 (by rw [hPo]; exact ⟨M1_14, r1_15, o1_16, rfl, hle_17, (by rw [show v = 0 by omega]; assumption), rfl⟩)
theorem nd_J8_toStrictBigInteger : yJ8_toStrictBigInteger.cls ≠ "java/lang/invoke/MethodHandle" ∧ yJ8_toStrictBigInteger.cls ≠ "java/lang/invoke/VarHandle" ∧ (parseMethodDescriptor yJ8_toStrictBigInteger.desc).map (fun d => d.parameters.length) = some 1 := by decide +kernel
set_option maxRecDepth 100000 in
set_option maxHeartbeats 16000000 in
theorem ct_J8_toStrictBigInteger {g : GG} {l : Launch} (M : Nat → Option PV) (q : Nat) (v : Int) (a : Nat) (hx : at_ g M q (vI v a)) : Ct g l yJ8_toStrictBigInteger (ws_ yJ8_toStrictBigInteger cJ8_toStrictBigInteger 1 (Option.some (Jvm.ClassFile.FieldType.object "java/math/BigInteger"))) 1 14 0 0 [.ref q] [pl g M] (fun v9 Ws9 => v9 = some (.ref q) ∧ Ws9 = [pl g M]) (nox) := by
  refine Ct.of (cc := cJ8_toStrictBigInteger) (nL := 1) (ret := (Option.some (Jvm.ClassFile.FieldType.object "java/math/BigInteger"))) (by decide) rfl (Nat.le_of_ble_eq_true rfl) ?_
  intro x hg hl hPo hPx hmc hms F
  subst hg; subst hl
  refine SW.cast (L' := [(0, .ref q)]) ?_ rfl rfl rfl
  obtain ⟨mi, hmi⟩ := mi_x F (kMBI F.gx.1)
  refine sw_aload_n (n := 1) F 0 (some q) rfl rfl rfl dJ8_toStrictBigInteger_0 rfl ?_
  refine sw_getClass (n := 4) F (rcvI F 0 rfl hx) hmi q1168 q1195 (by decide) dJ8_toStrictBigInteger_1 rfl ?_
  refine sw_ldcM (n := 6) F hmi q1212 dJ8_toStrictBigInteger_4 rfl ?_
  refine sw_acmp_ne (n := 9) F (rx := (some mi)) (ry := (some mi)) rfl rfl (tgt := 13) dJ8_toStrictBigInteger_6 (by decide) rfl (fun c_6 => ?_) (fun c_6 => ?_)
  · exfalso; exact c_6 rfl
  ·
    refine sw_aload_n (n := 10) F 0 (some q) rfl rfl rfl dJ8_toStrictBigInteger_9 rfl ?_
    refine sw_goto F (n := 30) dJ8_toStrictBigInteger_10 (by decide) ?_
    exact sw_aret F (some q) _ rfl rfl (by first | exact Or.inl ⟨_, rfl⟩ | exact Or.inr ⟨_, rfl⟩) dJ8_toStrictBigInteger_30 (by rw [hPo]; exact ⟨rfl, rfl⟩)
theorem nd_J8_init_2 : yJ8_init_2.cls ≠ "java/lang/invoke/MethodHandle" ∧ yJ8_init_2.cls ≠ "java/lang/invoke/VarHandle" ∧ (parseMethodDescriptor yJ8_init_2.desc).map (fun d => d.parameters.length) = some 2 := by decide +kernel
set_option maxRecDepth 100000 in
set_option maxHeartbeats 16000000 in
theorem ct_J8_init_2 {g : GG} {l : Launch} (M : Nat → Option PV) (r0 : Nat) (q : Nat) (v : Int) (a : Nat) (s : Int) (hx : at_ g M q (vI v a)) (hb : v.natAbs < bw 7) : Ct g l yJ8_init_2 (ws_ yJ8_init_2 cJ8_init_2 3 (Option.none : Option Jvm.ClassFile.FieldType)) 2 37 0 0 [.ref r0, .ref q, .int (jI s)] [ob g r0 13 [.null, .int (jI 0), .int (jI 0), .null, .long (jL 0)], pl g M] (fun v9 Ws9 => v9 = none ∧ Ws9 = [ob g r0 13 [.ref q, .int (jI s), .int (jI 0), .null, .long (jL (cpt v))], pl g M]) (nox) := by
  refine Ct.of (cc := cJ8_init_2) (nL := 3) (ret := (Option.none : Option Jvm.ClassFile.FieldType)) (by decide) rfl (Nat.le_of_ble_eq_true rfl) ?_
  intro x hg hl hPo hPx hmc hms F
  subst hg; subst hl
  refine SW.cast (L' := [(0, .ref r0), (1, .ref q), (2, .int (jI s))]) ?_ rfl rfl rfl
  refine sw_aload_n (n := 1) F 0 (some r0) rfl rfl rfl dJ8_init_2_0 rfl ?_
  refine sw_callI (n := 4) F (ct_J7_init (g := xg x) (l := xl x) r0 ) q256 q257 q111 q258 rfl nd_J7_init rfl (by decide) [0, 1] rfl [ob (xg x) r0 13 [.null, .int (jI 0), .int (jI 0), .null, .long (jL 0)], pl (xg x) M] rfl 0 0 ⟨by omega, by omega⟩ [] rfl (Nat.le_of_ble_eq_true rfl) dJ8_init_2_1 rfl (fun _ _ h => h.elim) (fun v Ws h => ?_)
  obtain ⟨rfl, rfl⟩ := h
  show SW x [ob (xg x) r0 13 [.null, .int (jI 0), .int (jI 0), .null, .long (jL 0)], pl (xg x) M] _ _ _ _ []
  refine sw_aload_n (n := 5) F 0 (some r0) rfl rfl rfl dJ8_init_2_4 rfl ?_
  refine sw_aload_n (n := 6) F 1 (some q) rfl rfl rfl dJ8_init_2_5 rfl ?_
  refine sw_callS (n := 9) F (ct_J8_toStrictBigInteger (g := xg x) (l := xl x) M q v a hx) q1165 q1166 q112 q1167 nd_J8_toStrictBigInteger rfl (by decide) [1, 0] rfl [ob (xg x) r0 13 [.null, .int (jI 0), .int (jI 0), .null, .long (jL 0)]] rfl 0 0 ⟨by omega, by omega⟩ [.ref r0] rfl (Nat.le_of_ble_eq_true rfl) dJ8_init_2_6 rfl (fun _ _ h => h.elim) (fun v Ws h => ?_)
  obtain ⟨rfl, rfl⟩ := h
  show SW x [pl (xg x) M, ob (xg x) r0 13 [.null, .int (jI 0), .int (jI 0), .null, .long (jL 0)]] _ _ _ _ [.ref q, .ref r0]
  refine sw_putF (n := 12) F rfl 1 rfl (k := 0) ⟨(RJ8, TJ8, 5), rfl, by decide, q260, in_J8, Or.inl rfl⟩ (tyJ8 0) ⟨(RJ8, TJ8, 5), rfl, rfl, rfl, tyJ8_ok 0 (by decide), nmJ8, tyJ8, tyJ8_ok⟩ rfl rfl (Nat.le_of_ble_eq_true rfl) rfl [pl (xg x) M, ob (xg x) r0 13 [.ref q, .int (jI 0), .int (jI 0), .null, .long (jL 0)]] rfl dJ8_init_2_9 rfl ?_
  refine sw_aload_n (n := 13) F 0 (some r0) rfl rfl rfl dJ8_init_2_12 rfl ?_
  refine sw_aload_n (n := 14) F 0 (some r0) rfl rfl rfl dJ8_init_2_13 rfl ?_
  refine sw_get (n := 17) F 1 rfl (k := 0) ⟨(RJ8, TJ8, 5), rfl, by decide, q260, in_J8, Or.inl rfl⟩ rfl dJ8_init_2_14 rfl ?_
  refine sw_callS (n := 20) F (ct_J8_compactValFor (g := xg x) (l := xl x) M q v a hx hb) q1282 q1283 q112 q1284 nd_J8_compactValFor rfl (by decide) [0, 1] rfl [ob (xg x) r0 13 [.ref q, .int (jI 0), .int (jI 0), .null, .long (jL 0)]] rfl 0 0 ⟨by omega, by omega⟩ [.ref r0] rfl (Nat.le_of_ble_eq_true rfl) dJ8_init_2_17 rfl (fun _ _ h => h.elim) (fun v Ws h => ?_)
  obtain ⟨rfl, rfl⟩ := h
  show SW x [pl (xg x) M, ob (xg x) r0 13 [.ref q, .int (jI 0), .int (jI 0), .null, .long (jL 0)]] _ _ _ _ [.long (jL (cpt v)), .ref r0]
  refine sw_putF (n := 23) F rfl 1 rfl (k := 4) ⟨(RJ8, TJ8, 5), rfl, by decide, q264, in_J8, Or.inl rfl⟩ .long ⟨(RJ8, TJ8, 5), rfl, rfl, rfl, tyJ8_ok 4 (by decide), nmJ8, tyJ8, tyJ8_ok⟩ rfl rfl (Nat.le_of_ble_eq_true rfl) rfl [pl (xg x) M, ob (xg x) r0 13 [.ref q, .int (jI 0), .int (jI 0), .null, .long (jL (cpt v))]] rfl dJ8_init_2_20 rfl ?_
  refine sw_aload_n (n := 24) F 0 (some r0) rfl rfl rfl dJ8_init_2_23 rfl ?_
  refine sw_iload_n (n := 25) F 2 rfl rfl dJ8_init_2_24 rfl ?_
  refine sw_putF (n := 28) F rfl 1 rfl (k := 1) ⟨(RJ8, TJ8, 5), rfl, by decide, q261, in_J8, Or.inl rfl⟩ .int ⟨(RJ8, TJ8, 5), rfl, rfl, rfl, tyJ8_ok 1 (by decide), nmJ8, tyJ8, tyJ8_ok⟩ rfl rfl (Nat.le_of_ble_eq_true rfl) rfl [pl (xg x) M, ob (xg x) r0 13 [.ref q, .int (jI s), .int (jI 0), .null, .long (jL (cpt v))]] rfl dJ8_init_2_25 rfl ?_
  refine sw_perm [1, 0] rfl [ob (xg x) r0 13 [.ref q, .int (jI s), .int (jI 0), .null, .long (jL (cpt v))], pl (xg x) M] rfl ?_
  exact sw_vret F rfl dJ8_init_2_28 (by rw [hPo]; exact ⟨rfl, rfl⟩)
theorem nd_J8_bigTenToThe : yJ8_bigTenToThe.cls ≠ "java/lang/invoke/MethodHandle" ∧ yJ8_bigTenToThe.cls ≠ "java/lang/invoke/VarHandle" ∧ (parseMethodDescriptor yJ8_bigTenToThe.desc).map (fun d => d.parameters.length) = some 1 := by decide +kernel
set_option maxRecDepth 100000 in
set_option maxHeartbeats 16000000 in
theorem ct_J8_bigTenToThe {g : GG} {l : Launch} (M : Nat → Option PV) (n9 : Nat) (hn : n9 ≤ 18) : Ct g l yJ8_bigTenToThe (ws_ yJ8_bigTenToThe cJ8_bigTenToThe 2 (Option.some (Jvm.ClassFile.FieldType.object "java/math/BigInteger"))) 1 12 0 0 [.int (jI (↑n9))] [pl g M] (fun v9 Ws9 => ∃ M1 : Nat → Option PV, ∃ r1 : Nat, ∃ a1 : Nat, v9 = some (.ref r1) ∧ (le_ M M1) ∧ (at_ g M1 r1 (vI (↑(10 ^ n9)) a1)) ∧ Ws9 = [pl g M1]) (nox) := by
  refine Ct.of (cc := cJ8_bigTenToThe) (nL := 2) (ret := (Option.some (Jvm.ClassFile.FieldType.object "java/math/BigInteger"))) (by decide) rfl (Nat.le_of_ble_eq_true rfl) ?_
  intro x hg hl hPo hPx hmc hms F
  subst hg; subst hl
  refine SW.cast (L' := [(0, .int (jI (↑n9)))]) ?_ rfl rfl rfl
  refine sw_iload_n (n := 1) F 0 rfl rfl dJ8_bigTenToThe_0 rfl ?_
  refine sw_if_ge (n := 4) F (by omega) (tgt := 8) dJ8_bigTenToThe_1 (by decide) rfl (fun c_1 => ?_) (fun c_1 => ?_)
  ·
    refine sw_iload_n (n := 9) F 0 rfl rfl dJ8_bigTenToThe_8 rfl ?_
    refine sw_gets (n := 12) F (kBTM F.gx.1).1 q1310 (Or.inl rfl) dJ8_bigTenToThe_9 rfl ?_
    refine sw_icmp_ge (n := 15) F (by omega) (by decide) (tgt := 34) dJ8_bigTenToThe_12 (by decide) rfl (fun c_12 => ?_) (fun c_12 => ?_)
    · exfalso; omega
    ·
      refine sw_gets (n := 18) F (kBTP F.gx.1).1 q1312 (Or.inl rfl) dJ8_bigTenToThe_15 rfl ?_
      refine sw_astore_n (n := 19) F (some (tR (xg x) sBTP)) (L2 := [(1, .ref (tR (xg x) sBTP)), (0, .int (jI (↑n9)))]) rfl rfl (by decide) rfl dJ8_bigTenToThe_18 rfl ?_
      refine sw_iload_n (n := 20) F 1 rfl rfl dJ8_bigTenToThe_19 rfl ?_
      refine sw_aload_n (n := 21) F 0 (some (tR (xg x) sBTP)) rfl rfl rfl dJ8_bigTenToThe_20 rfl ?_
      refine sw_alenK (n := 22) F ((kBTP F.gx.1).2.1.A F) dJ8_bigTenToThe_21 rfl ?_
      show SW x _ _ _ _ _ [.int (jI 19), .int (jI (↑n9))]
      refine sw_icmp_ge (n := 25) F (by omega) (by decide) (tgt := 29) dJ8_bigTenToThe_22 (by decide) rfl (fun c_22 => ?_) (fun c_22 => ?_)
      · exfalso; omega
      ·
        refine sw_aload_n (n := 26) F 0 (some (tR (xg x) sBTP)) rfl rfl rfl dJ8_bigTenToThe_25 rfl ?_
        refine sw_iload_n (n := 27) F 1 rfl rfl dJ8_bigTenToThe_26 rfl ?_
        refine sw_aaloadK (n := 28) F rfl ((kBTP F.gx.1).2.1.A F) n9 rfl (by omega) dJ8_bigTenToThe_27 rfl ?_
        show SW x _ _ _ _ _ [.ref (tR (xg x) (eBTP n9))]
        have hk_1 : at_ (xg x) M (tR (xg x) (eBTP n9)) (vI ↑(10 ^ n9) (tR (xg x) (.field (eBTP n9) "java/math/BigInteger" "mag" "[I"))) := by have h9 : at_ (xg x) M (tR (xg x) (eBTP n9)) (vI ↑(10 ^ n9) (tR (xg x) (.field (eBTP n9) "java/math/BigInteger" "mag" "[I"))) := Or.inr ((kBTP F.gx.1).2.2 n9 (by omega)); exact h9
        exact sw_aret F (some (tR (xg x) (eBTP n9))) _ rfl rfl (by first | exact Or.inl ⟨_, rfl⟩ | exact Or.inr ⟨_, rfl⟩) dJ8_bigTenToThe_28 (by rw [hPo]; exact ⟨M, tR (xg x) (eBTP n9), tR (xg x) (.field (eBTP n9) "java/math/BigInteger" "mag" "[I"), rfl, le_.rf, hk_1, rfl⟩)
  · exfalso; omega
theorem nd_J8_bigMultiplyPowerTen : yJ8_bigMultiplyPowerTen.cls ≠ "java/lang/invoke/MethodHandle" ∧ yJ8_bigMultiplyPowerTen.cls ≠ "java/lang/invoke/VarHandle" ∧ (parseMethodDescriptor yJ8_bigMultiplyPowerTen.desc).map (fun d => d.parameters.length) = some 2 := by decide +kernel
set_option maxRecDepth 100000 in
set_option maxHeartbeats 16000000 in
theorem ct_J8_bigMultiplyPowerTen {g : GG} {l : Launch} (M : Nat → Option PV) (v : Int) (k9 : Int) (hv : -9223372036854775807 ≤ v ∧ v ≤ 9223372036854775807) (hk : 0 ≤ k9 ∧ k9 ≤ 18) : Ct g l yJ8_bigMultiplyPowerTen (ws_ yJ8_bigMultiplyPowerTen cJ8_bigMultiplyPowerTen 3 (Option.some (Jvm.ClassFile.FieldType.object "java/math/BigInteger"))) 5 115 3 20 [.long (jL v), .int (jI k9)] [pl g M] (fun v9 Ws9 => ∃ M1 : Nat → Option PV, ∃ r1 : Nat, ∃ a1 : Nat, v9 = some (.ref r1) ∧ (le_ M M1) ∧ (at_ g M1 r1 (vI (v * tn k9) a1)) ∧ Ws9 = [pl g M1]) (nox) := by
  refine Ct.of (cc := cJ8_bigMultiplyPowerTen) (nL := 3) (ret := (Option.some (Jvm.ClassFile.FieldType.object "java/math/BigInteger"))) (by decide) rfl (Nat.le_of_ble_eq_true rfl) ?_
  intro x hg hl hPo hPx hmc hms F
  subst hg; subst hl
  refine SW.cast (L' := [(0, .long (jL v)), (2, .int (jI k9))]) ?_ rfl rfl rfl
  refine sw_iload_n (n := 1) F 1 rfl rfl dJ8_bigMultiplyPowerTen_0 rfl ?_
  refine sw_if_gt (n := 4) F (by omega) (tgt := 9) dJ8_bigMultiplyPowerTen_1 (by decide) rfl (fun c_1 => ?_) (fun c_1 => ?_)
  ·
    refine sw_iload_n (n := 10) F 1 rfl rfl dJ8_bigMultiplyPowerTen_9 rfl ?_
    rw [show (k9 : Int) = ↑((k9 : Int).toNat) by omega]
    refine sw_callS (n := 13) F (ct_J8_bigTenToThe (g := xg x) (l := xl x) M ((k9 : Int).toNat) (by first | omega | assumption)) q1307 q1308 q112 q1309 nd_J8_bigTenToThe rfl (by decide) [0] rfl [] rfl 3 20 ⟨by omega, by omega⟩ [] rfl (Nat.le_of_ble_eq_true rfl) dJ8_bigMultiplyPowerTen_10 rfl (fun _ _ h => h.elim) (fun v Ws h => ?_)
    obtain ⟨M1_1, r1_2, a1_3, rfl, hle_4, hat_5, rfl⟩ := h
    show SW x [pl (xg x) M1_1] _ _ _ _ [.ref r1_2]
    refine sw_lload_n (n := 14) F 0 rfl rfl dJ8_bigMultiplyPowerTen_13 rfl ?_
    refine sw_callV (n := 17) F (ct_J19_multiply_3 (g := xg x) (l := xl x) M1_1 r1_2 (↑(10 ^ ((k9 : Int).toNat))) a1_3 v hat_5 hv (by have h9 := tn_18 hk.2; have h8 := tn_pos k9; unfold tn at h9 h8; show ((10 ^ (k9.toNat) : Nat) : Int).natAbs < _; exact nA_63 (by omega) (by decide))) (rcvI F 0 rfl hat_5) q1481 q1482 q1483 q127 q1484 nd_J19_multiply_3 rfl (by decide) [0] rfl [] rfl 0 0 ⟨by omega, by omega⟩ [] rfl (Nat.le_of_ble_eq_true rfl) dJ8_bigMultiplyPowerTen_14 rfl (fun _ _ h => h.elim) (fun v Ws h => ?_)
    obtain ⟨M1_6, r1_7, a1_8, rfl, hle_9, hat_10, rfl⟩ := h
    show SW x [pl (xg x) M1_6] _ _ _ _ [.ref r1_7]
    exact sw_aret F (some r1_7) _ rfl rfl (by first | exact Or.inl ⟨_, rfl⟩ | exact Or.inr ⟨_, rfl⟩) dJ8_bigMultiplyPowerTen_17 (by rw [hPo]; exact ⟨M1_6, r1_7, a1_8, rfl, (le_.tr hle_4 hle_9), (by rw [Int.mul_comm]; assumption), rfl⟩)
  ·
    refine sw_lload_n (n := 5) F 0 rfl rfl dJ8_bigMultiplyPowerTen_4 rfl ?_
    refine sw_callS (n := 8) F (ct_J19_valueOf (g := xg x) (l := xl x) M v (by first | omega | assumption)) q1054 q1055 q127 q1056 nd_J19_valueOf rfl (by decide) [0] rfl [] rfl 1 12 ⟨by omega, by omega⟩ [] rfl (Nat.le_of_ble_eq_true rfl) dJ8_bigMultiplyPowerTen_5 rfl (fun _ _ h => h.elim) (fun v Ws h => ?_)
    obtain ⟨M1_11, r1_12, a1_13, rfl, hle_14, hat_15, rfl⟩ := h
    show SW x [pl (xg x) M1_11] _ _ _ _ [.ref r1_12]
    exact sw_aret F (some r1_12) _ rfl rfl (by first | exact Or.inl ⟨_, rfl⟩ | exact Or.inr ⟨_, rfl⟩) dJ8_bigMultiplyPowerTen_8 (by rw [hPo]; exact ⟨M1_11, r1_12, a1_13, rfl, hle_14, (by rw [tn_0 (by omega), Int.mul_one]; assumption), rfl⟩)
theorem nd_J8_bigMultiplyPowerTen_2 : yJ8_bigMultiplyPowerTen_2.cls ≠ "java/lang/invoke/MethodHandle" ∧ yJ8_bigMultiplyPowerTen_2.cls ≠ "java/lang/invoke/VarHandle" ∧ (parseMethodDescriptor yJ8_bigMultiplyPowerTen_2.desc).map (fun d => d.parameters.length) = some 2 := by decide +kernel
set_option maxRecDepth 100000 in
set_option maxHeartbeats 16000000 in
theorem ct_J8_bigMultiplyPowerTen_2 {g : GG} {l : Launch} (M : Nat → Option PV) (q : Nat) (v : Int) (a : Nat) (k9 : Int) (hx : at_ g M q (vI v a)) (hb : v.natAbs < bw 4) (hk : 0 ≤ k9 ∧ k9 ≤ 18) : Ct g l yJ8_bigMultiplyPowerTen_2 (ws_ yJ8_bigMultiplyPowerTen_2 cJ8_bigMultiplyPowerTen_2 2 (Option.some (Jvm.ClassFile.FieldType.object "java/math/BigInteger"))) 5 115 3 20 [.ref q, .int (jI k9)] [pl g M] (fun v9 Ws9 => ∃ M1 : Nat → Option PV, ∃ r1 : Nat, ∃ a1 : Nat, v9 = some (.ref r1) ∧ (le_ M M1) ∧ (at_ g M1 r1 (vI (v * tn k9) a1)) ∧ Ws9 = [pl g M1]) (nox) := by
  refine Ct.of (cc := cJ8_bigMultiplyPowerTen_2) (nL := 2) (ret := (Option.some (Jvm.ClassFile.FieldType.object "java/math/BigInteger"))) (by decide) rfl (Nat.le_of_ble_eq_true rfl) ?_
  intro x hg hl hPo hPx hmc hms F
  subst hg; subst hl
  refine SW.cast (L' := [(0, .ref q), (1, .int (jI k9))]) ?_ rfl rfl rfl
  refine sw_iload_n (n := 1) F 1 rfl rfl dJ8_bigMultiplyPowerTen_2_0 rfl ?_
  refine sw_if_gt (n := 4) F (by omega) (tgt := 6) dJ8_bigMultiplyPowerTen_2_1 (by decide) rfl (fun c_1 => ?_) (fun c_1 => ?_)
  ·
    refine sw_iload_n (n := 7) F 1 rfl rfl dJ8_bigMultiplyPowerTen_2_6 rfl ?_
    refine sw_gets (n := 10) F (kLTP F.gx.1).1 q1299 (Or.inl rfl) dJ8_bigMultiplyPowerTen_2_7 rfl ?_
    refine sw_alenK (n := 11) F ((kLTP F.gx.1).2.A F) dJ8_bigMultiplyPowerTen_2_10 rfl ?_
    show SW x _ _ _ _ _ [.int (jI 19), .int (jI k9)]
    refine sw_icmp_ge (n := 14) F (by omega) (by decide) (tgt := 24) dJ8_bigMultiplyPowerTen_2_11 (by decide) rfl (fun c_11 => ?_) (fun c_11 => ?_)
    · exfalso; omega
    ·
      refine sw_aload_n (n := 15) F 0 (some q) rfl rfl rfl dJ8_bigMultiplyPowerTen_2_14 rfl ?_
      refine sw_gets (n := 18) F (kLTP F.gx.1).1 q1299 (Or.inl rfl) dJ8_bigMultiplyPowerTen_2_15 rfl ?_
      refine sw_iload_n (n := 19) F 1 rfl rfl dJ8_bigMultiplyPowerTen_2_18 rfl ?_
      have h9 := tn_18 hk.2
      have h8 := tn_pos k9
      unfold tn at h9 h8
      refine sw_laloadK (n := 20) F ((kLTP F.gx.1).2.A F) ((k9 : Int).toNat) (by omega) (by omega) dJ8_bigMultiplyPowerTen_2_19 rfl ?_
      show SW x _ _ _ _ _ [.long (jL ((10 ^ ((k9 : Int).toNat) : Nat) : Int)), .ref q]
      refine sw_callV (n := 23) F (ct_J19_multiply_3 (g := xg x) (l := xl x) M q v a ((10 ^ ((k9 : Int).toNat) : Nat) : Int) hx (by first | omega | assumption) hb) (rcvI F 0 rfl hx) q1481 q1482 q1483 q127 q1484 nd_J19_multiply_3 rfl (by decide) [0] rfl [] rfl 0 0 ⟨by omega, by omega⟩ [] rfl (Nat.le_of_ble_eq_true rfl) dJ8_bigMultiplyPowerTen_2_20 rfl (fun _ _ h => h.elim) (fun v Ws h => ?_)
      obtain ⟨M1_1, r1_2, a1_3, rfl, hle_4, hat_5, rfl⟩ := h
      show SW x [pl (xg x) M1_1] _ _ _ _ [.ref r1_2]
      exact sw_aret F (some r1_2) _ rfl rfl (by first | exact Or.inl ⟨_, rfl⟩ | exact Or.inr ⟨_, rfl⟩) dJ8_bigMultiplyPowerTen_2_23 (by rw [hPo]; exact ⟨M1_1, r1_2, a1_3, rfl, hle_4, (by assumption), rfl⟩)
  ·
    refine sw_aload_n (n := 5) F 0 (some q) rfl rfl rfl dJ8_bigMultiplyPowerTen_2_4 rfl ?_
    exact sw_aret F (some q) _ rfl rfl (by first | exact Or.inl ⟨_, rfl⟩ | exact Or.inr ⟨_, rfl⟩) dJ8_bigMultiplyPowerTen_2_5 (by rw [hPo]; exact ⟨M, q, a, rfl, le_.rf, (by rw [tn_0 (by omega), Int.mul_one]; assumption), rfl⟩)
theorem nd_J8_bigMultiplyPowerTen_3 : yJ8_bigMultiplyPowerTen_3.cls ≠ "java/lang/invoke/MethodHandle" ∧ yJ8_bigMultiplyPowerTen_3.cls ≠ "java/lang/invoke/VarHandle" ∧ (parseMethodDescriptor yJ8_bigMultiplyPowerTen_3.desc).map (fun d => d.parameters.length) = some 1 := by decide +kernel
set_option maxRecDepth 100000 in
set_option maxHeartbeats 16000000 in
theorem ct_J8_bigMultiplyPowerTen_3 {g : GG} {l : Launch} (M : Nat → Option PV) (q : Nat) (u : Int) (s : Int) (o : Option Nat) (k9 : Int) (hx : at_ g M q (vD u s o)) (hf : fit u) (hk : 0 ≤ k9 ∧ k9 ≤ 18) : Ct g l yJ8_bigMultiplyPowerTen_3 (ws_ yJ8_bigMultiplyPowerTen_3 cJ8_bigMultiplyPowerTen_3 2 (Option.some (Jvm.ClassFile.FieldType.object "java/math/BigInteger"))) 5 115 3 20 [.ref q, .int (jI k9)] [pl g M] (fun v9 Ws9 => ∃ M1 : Nat → Option PV, ∃ r1 : Nat, ∃ a1 : Nat, v9 = some (.ref r1) ∧ (le_ M M1) ∧ (at_ g M1 r1 (vI (u * tn k9) a1)) ∧ Ws9 = [pl g M1]) (nox) := by
  refine Ct.of (cc := cJ8_bigMultiplyPowerTen_3) (nL := 2) (ret := (Option.some (Jvm.ClassFile.FieldType.object "java/math/BigInteger"))) (by decide) rfl (Nat.le_of_ble_eq_true rfl) ?_
  intro x hg hl hPo hPx hmc hms F
  subst hg; subst hl
  refine SW.cast (L' := [(0, .ref q), (1, .int (jI k9))]) ?_ rfl rfl rfl
  have hcr := cpt_rng u
  have hr9 := hf
  unfold fit at hr9
  refine sw_iload_n (n := 1) F 1 rfl rfl dJ8_bigMultiplyPowerTen_3_0 rfl ?_
  refine sw_if_gt (n := 4) F (by omega) (tgt := 9) dJ8_bigMultiplyPowerTen_3_1 (by decide) rfl (fun c_1 => ?_) (fun c_1 => ?_)
  ·
    refine sw_aload_n (n := 10) F 0 (some q) rfl rfl rfl dJ8_bigMultiplyPowerTen_3_9 rfl ?_
    refine sw_getD (n := 13) F 0 rfl hx (k := 4) ⟨(RJ8, TJ8, 5), rfl, by decide, q264, in_J8, Or.inl rfl⟩ (.long (jL (cpt u))) (fun _ => rfl) dJ8_bigMultiplyPowerTen_3_10 rfl ?_
    refine sw_ldc2 (n := 16) F (-9223372036854775808) q250 (by decide) dJ8_bigMultiplyPowerTen_3_13 rfl ?_
    refine sw_lcmp (n := 17) F (by omega) (by decide) dJ8_bigMultiplyPowerTen_3_16 rfl ?_
    refine sw_if_eq (n := 20) F (by omega) (tgt := 32) dJ8_bigMultiplyPowerTen_3_17 (by decide) rfl (fun c_17 => ?_) (fun c_17 => ?_)
    · exfalso; exact cpt_y (u := u) (by revert c_17; (repeat' split) <;> omega) hf
    ·
      have c_17 : cpt u ≠ -9223372036854775808 := by revert c_17; (repeat' split) <;> omega
      refine sw_iload_n (n := 21) F 1 rfl rfl dJ8_bigMultiplyPowerTen_3_20 rfl ?_
      rw [show (k9 : Int) = ↑((k9 : Int).toNat) by omega]
      refine sw_callS (n := 24) F (ct_J8_bigTenToThe (g := xg x) (l := xl x) M ((k9 : Int).toNat) (by first | omega | assumption)) q1307 q1308 q112 q1309 nd_J8_bigTenToThe rfl (by decide) [0] rfl [] rfl 3 20 ⟨by omega, by omega⟩ [] rfl (Nat.le_of_ble_eq_true rfl) dJ8_bigMultiplyPowerTen_3_21 rfl (fun _ _ h => h.elim) (fun v Ws h => ?_)
      obtain ⟨M1_1, r1_2, a1_3, rfl, hle_4, hat_5, rfl⟩ := h
      show SW x [pl (xg x) M1_1] _ _ _ _ [.ref r1_2]
      refine sw_aload_n (n := 25) F 0 (some q) rfl rfl rfl dJ8_bigMultiplyPowerTen_3_24 rfl ?_
      refine sw_getD (n := 28) F 0 rfl (at_.up hx hle_4) (k := 4) ⟨(RJ8, TJ8, 5), rfl, by decide, q264, in_J8, Or.inl rfl⟩ (.long (jL (cpt u))) (fun _ => rfl) dJ8_bigMultiplyPowerTen_3_25 rfl ?_
      rw [cpt_1 hf]
      refine sw_callV (n := 31) F (ct_J19_multiply_3 (g := xg x) (l := xl x) M1_1 r1_2 (↑(10 ^ ((k9 : Int).toNat))) a1_3 u hat_5 (by first | omega | assumption) (by have h9 := tn_18 hk.2; have h8 := tn_pos k9; unfold tn at h9 h8; show ((10 ^ (k9.toNat) : Nat) : Int).natAbs < _; exact nA_63 (by omega) (by decide))) (rcvI F 0 rfl hat_5) q1481 q1482 q1483 q127 q1484 nd_J19_multiply_3 rfl (by decide) [0] rfl [] rfl 0 0 ⟨by omega, by omega⟩ [] rfl (Nat.le_of_ble_eq_true rfl) dJ8_bigMultiplyPowerTen_3_28 rfl (fun _ _ h => h.elim) (fun v Ws h => ?_)
      obtain ⟨M1_6, r1_7, a1_8, rfl, hle_9, hat_10, rfl⟩ := h
      show SW x [pl (xg x) M1_6] _ _ _ _ [.ref r1_7]
      exact sw_aret F (some r1_7) _ rfl rfl (by first | exact Or.inl ⟨_, rfl⟩ | exact Or.inr ⟨_, rfl⟩) dJ8_bigMultiplyPowerTen_3_31 (by rw [hPo]; exact ⟨M1_6, r1_7, a1_8, rfl, (le_.tr hle_4 hle_9), (by rw [Int.mul_comm]; assumption), rfl⟩)
  ·
    refine sw_aload_n (n := 5) F 0 (some q) rfl rfl rfl dJ8_bigMultiplyPowerTen_3_4 rfl ?_
    refine sw_callV (n := 8) F (ct_J8_inflated (g := xg x) (l := xl x) M q u s o hx) (rcvD F 0 rfl hx) q1545 q1547 qs14 q112 q1548 nd_J8_inflated rfl (by decide) [0] rfl [] rfl 1 12 ⟨by omega, by omega⟩ [] rfl (Nat.le_of_ble_eq_true rfl) dJ8_bigMultiplyPowerTen_3_5 rfl (fun _ _ h => h.elim) (fun v Ws h => ?_)
    obtain ⟨M1_11, r1_12, a1_13, rfl, hle_14, hat_15, rfl⟩ := h
    show SW x [pl (xg x) M1_11] _ _ _ _ [.ref r1_12]
    exact sw_aret F (some r1_12) _ rfl rfl (by first | exact Or.inl ⟨_, rfl⟩ | exact Or.inr ⟨_, rfl⟩) dJ8_bigMultiplyPowerTen_3_8 (by rw [hPo]; exact ⟨M1_11, r1_12, a1_13, rfl, hle_14, (by rw [tn_0 (by omega), Int.mul_one]; assumption), rfl⟩)
theorem nd_J8_checkScale_3 : yJ8_checkScale_3.cls ≠ "java/lang/invoke/MethodHandle" ∧ yJ8_checkScale_3.cls ≠ "java/lang/invoke/VarHandle" ∧ (parseMethodDescriptor yJ8_checkScale_3.desc).map (fun d => d.parameters.length) = some 1 := by decide +kernel
set_option maxRecDepth 100000 in
set_option maxHeartbeats 16000000 in
theorem ct_J8_checkScale_3 {g : GG} {l : Launch} (q : Nat) (s : Int) (hs : -2147483648 ≤ s ∧ s ≤ 2147483647) : Ct g l yJ8_checkScale_3 (ws_ yJ8_checkScale_3 cJ8_checkScale_3 5 (Option.some Jvm.ClassFile.FieldType.int)) 1 12 0 0 [.ref q, .long (jL s)] [] (fun v9 Ws9 => v9 = some (.int (jI s)) ∧ Ws9 = []) (nox) := by
  refine Ct.of (cc := cJ8_checkScale_3) (nL := 5) (ret := (Option.some Jvm.ClassFile.FieldType.int)) (by decide) rfl (Nat.le_of_ble_eq_true rfl) ?_
  intro x hg hl hPo hPx hmc hms F
  subst hg; subst hl
  refine SW.cast (L' := [(0, .ref q), (1, .long (jL s))]) ?_ rfl rfl rfl
  refine sw_lload_n (n := 1) F 1 rfl rfl dJ8_checkScale_3_0 rfl ?_
  refine sw_l2i (n := 2) F dJ8_checkScale_3_1 rfl ?_
  refine sw_istore_n (n := 3) F (L2 := [(3, .int (jI s)), (0, .ref q), (1, .long (jL s))]) rfl (by decide) rfl dJ8_checkScale_3_2 rfl ?_
  refine sw_iload_n (n := 4) F 0 rfl rfl dJ8_checkScale_3_3 rfl ?_
  refine sw_i2l (n := 5) F (by omega) dJ8_checkScale_3_4 rfl ?_
  refine sw_lload_n (n := 6) F 2 rfl rfl dJ8_checkScale_3_5 rfl ?_
  refine sw_lcmp (n := 7) F (by omega) (by omega) dJ8_checkScale_3_6 rfl ?_
  refine sw_if_eq (n := 10) F (by omega) (tgt := 76) dJ8_checkScale_3_7 (by decide) rfl (fun c_7 => ?_) (fun c_7 => ?_)
  ·
    have c_7 : s = s := by revert c_7; (repeat' split) <;> omega
    refine sw_iload_n (n := 77) F 0 rfl rfl dJ8_checkScale_3_76 rfl ?_
    exact sw_iret F _ rfl (by first | rfl | exact jI_nz (by omega) | exact jI_nc (by omega)) dJ8_checkScale_3_77 (by rw [hPo]; exact ⟨rfl, rfl⟩)
  · exfalso; revert c_7; (repeat' split) <;> omega
theorem nd_J8_checkScale_2 : yJ8_checkScale_2.cls ≠ "java/lang/invoke/MethodHandle" ∧ yJ8_checkScale_2.cls ≠ "java/lang/invoke/VarHandle" ∧ (parseMethodDescriptor yJ8_checkScale_2.desc).map (fun d => d.parameters.length) = some 2 := by decide +kernel
set_option maxRecDepth 100000 in
set_option maxHeartbeats 16000000 in
theorem ct_J8_checkScale_2 {g : GG} {l : Launch} (q : Nat) (s : Int) (hs : -2147483648 ≤ s ∧ s ≤ 2147483647) : Ct g l yJ8_checkScale_2 (ws_ yJ8_checkScale_2 cJ8_checkScale_2 4 (Option.some Jvm.ClassFile.FieldType.int)) 1 12 0 0 [.ref q, .long (jL s)] [] (fun v9 Ws9 => v9 = some (.int (jI s)) ∧ Ws9 = []) (nox) := by
  refine Ct.of (cc := cJ8_checkScale_2) (nL := 4) (ret := (Option.some Jvm.ClassFile.FieldType.int)) (by decide) rfl (Nat.le_of_ble_eq_true rfl) ?_
  intro x hg hl hPo hPx hmc hms F
  subst hg; subst hl
  refine SW.cast (L' := [(0, .ref q), (1, .long (jL s))]) ?_ rfl rfl rfl
  refine sw_lload_n (n := 1) F 1 rfl rfl dJ8_checkScale_2_0 rfl ?_
  refine sw_l2i (n := 2) F dJ8_checkScale_2_1 rfl ?_
  refine sw_istore_n (n := 3) F (L2 := [(3, .int (jI s)), (0, .ref q), (1, .long (jL s))]) rfl (by decide) rfl dJ8_checkScale_2_2 rfl ?_
  refine sw_iload_n (n := 4) F 0 rfl rfl dJ8_checkScale_2_3 rfl ?_
  refine sw_i2l (n := 5) F (by omega) dJ8_checkScale_2_4 rfl ?_
  refine sw_lload_n (n := 6) F 2 rfl rfl dJ8_checkScale_2_5 rfl ?_
  refine sw_lcmp (n := 7) F (by omega) (by omega) dJ8_checkScale_2_6 rfl ?_
  refine sw_if_eq (n := 10) F (by omega) (tgt := 56) dJ8_checkScale_2_7 (by decide) rfl (fun c_7 => ?_) (fun c_7 => ?_)
  ·
    have c_7 : s = s := by revert c_7; (repeat' split) <;> omega
    refine sw_iload_n (n := 57) F 0 rfl rfl dJ8_checkScale_2_56 rfl ?_
    exact sw_iret F _ rfl (by first | rfl | exact jI_nz (by omega) | exact jI_nc (by omega)) dJ8_checkScale_2_57 (by rw [hPo]; exact ⟨rfl, rfl⟩)
  · exfalso; revert c_7; (repeat' split) <;> omega
theorem nd_J8_multiply_3 : yJ8_multiply_3.cls ≠ "java/lang/invoke/MethodHandle" ∧ yJ8_multiply_3.cls ≠ "java/lang/invoke/VarHandle" ∧ (parseMethodDescriptor yJ8_multiply_3.desc).map (fun d => d.parameters.length) = some 2 := by decide +kernel
set_option maxRecDepth 100000 in
set_option maxHeartbeats 16000000 in
theorem ct_J8_multiply_3 {g : GG} {l : Launch} (x_ : Int) (y_ : Int) (hx : -9223372036854775807 ≤ x_ ∧ x_ ≤ 9223372036854775807) (hy : -9223372036854775807 ≤ y_ ∧ y_ ≤ 9223372036854775807) : Ct g l yJ8_multiply_3 (ws_ yJ8_multiply_3 cJ8_multiply_3 10 (Option.some Jvm.ClassFile.FieldType.long)) 1 13 0 0 [.long (jL x_), .long (jL y_)] [] (fun v9 Ws9 => v9 = some (.long (jL (cpt (x_ * y_)))) ∧ Ws9 = []) (nox) := by
  refine Ct.of (cc := cJ8_multiply_3) (nL := 10) (ret := (Option.some Jvm.ClassFile.FieldType.long)) (by decide) rfl (Nat.le_of_ble_eq_true rfl) ?_
  intro x hg hl hPo hPx hmc hms F
  subst hg; subst hl
  refine SW.cast (L' := [(0, .long (jL x_)), (2, .long (jL y_))]) ?_ rfl rfl rfl
  have hmc := mul_cp hx hy
  refine sw_lload_n (n := 1) F 0 rfl rfl dJ8_multiply_3_0 rfl ?_
  refine sw_lload_n (n := 2) F 1 rfl rfl dJ8_multiply_3_1 rfl ?_
  refine sw_lmul (n := 3) F dJ8_multiply_3_2 rfl ?_
  rw [jL_w (x_ * y_)]
  have hwl := wL_s (x_ * y_)
  refine sw_lstore (n := 5) F (L2 := [(4, .long (jL (wL (x_ * y_)))), (0, .long (jL x_)), (2, .long (jL y_))]) rfl (by decide) dJ8_multiply_3_3 rfl ?_
  refine sw_lload_n (n := 6) F 1 rfl rfl dJ8_multiply_3_5 rfl ?_
  refine sw_mabsL (n := 9) F (by omega) q1303 q1101 q132 q1102 (by decide) dJ8_multiply_3_6 rfl ?_
  have hab_1 := abI_cases (x_)
  refine sw_lstore (n := 11) F (L2 := [(6, .long (jL (abI x_))), (4, .long (jL (wL (x_ * y_)))), (0, .long (jL x_)), (2, .long (jL y_))]) rfl (by decide) dJ8_multiply_3_9 rfl ?_
  refine sw_lload_n (n := 12) F 3 rfl rfl dJ8_multiply_3_11 rfl ?_
  refine sw_mabsL (n := 15) F (by omega) q1303 q1101 q132 q1102 (by decide) dJ8_multiply_3_12 rfl ?_
  have hab_2 := abI_cases (y_)
  refine sw_lstore (n := 17) F (L2 := [(8, .long (jL (abI y_))), (6, .long (jL (abI x_))), (4, .long (jL (wL (x_ * y_)))), (0, .long (jL x_)), (2, .long (jL y_))]) rfl (by decide) dJ8_multiply_3_15 rfl ?_
  refine sw_lload (n := 19) F 1 rfl dJ8_multiply_3_17 rfl ?_
  refine sw_lload (n := 21) F 0 rfl dJ8_multiply_3_19 rfl ?_
  refine sw_lor (n := 22) F (jL ((((abI x_).toNat ||| (abI y_).toNat : Nat) : Int))) (jL_orN (by omega) (by omega)) dJ8_multiply_3_21 rfl ?_
  have hor := or_rng (a := abI x_) (b := abI y_) (by omega) (by omega)
  refine sw_bipush (n := 24) F (31) (by decide) dJ8_multiply_3_22 rfl ?_
  refine sw_lushr (n := 25) F (jL ((((abI x_).toNat ||| (abI y_).toNat : Nat) : Int) / 2147483648)) (by have h7s := jL_ushrPQ (z := (((abI x_).toNat ||| (abI y_).toNat : Nat) : Int)) (c := 31) (P := 2147483648) (k := 31) (by omega) (by decide) (by decide) (by decide); exact h7s) dJ8_multiply_3_24 rfl ?_
  refine sw_lconst (n := 26) F 0 (by decide) dJ8_multiply_3_25 rfl ?_
  refine sw_lcmp (n := 27) F (by omega) (by decide) dJ8_multiply_3_26 rfl ?_
  refine sw_if_eq (n := 30) F (by omega) (tgt := 45) dJ8_multiply_3_27 (by decide) rfl (fun c_27 => ?_) (fun c_27 => ?_)
  ·
    have c_27 : (((abI x_).toNat ||| (abI y_).toNat : Nat) : Int) / 2147483648 = 0 := by revert c_27; (repeat' split) <;> omega
    refine sw_lload (n := 47) F 2 rfl dJ8_multiply_3_45 rfl ?_
    exact sw_lret F rfl dJ8_multiply_3_47 (by rw [hPo]; exact ⟨(by first | rw [hmc.1 (by omega)] | rw [hmc.2.1 (or_31 (by omega) (by omega) (by omega))] | rw [hmc.2.2.1 (by omega) (by omega)]), rfl⟩)
  ·
    have c_27 : (((abI x_).toNat ||| (abI y_).toNat : Nat) : Int) / 2147483648 ≠ 0 := by revert c_27; (repeat' split) <;> omega
    refine sw_lload_n (n := 31) F 4 rfl rfl dJ8_multiply_3_30 rfl ?_
    refine sw_lconst (n := 32) F 0 (by decide) dJ8_multiply_3_31 rfl ?_
    refine sw_lcmp (n := 33) F (by omega) (by decide) dJ8_multiply_3_32 rfl ?_
    refine sw_if_eq (n := 36) F (by omega) (tgt := 45) dJ8_multiply_3_33 (by decide) rfl (fun c_33 => ?_) (fun c_33 => ?_)
    ·
      have c_33 : y_ = 0 := by revert c_33; (repeat' split) <;> omega
      refine sw_lload (n := 47) F 2 rfl dJ8_multiply_3_45 rfl ?_
      exact sw_lret F rfl dJ8_multiply_3_47 (by rw [hPo]; exact ⟨(by first | rw [hmc.1 (by omega)] | rw [hmc.2.1 (or_31 (by omega) (by omega) (by omega))] | rw [hmc.2.2.1 (by omega) (by omega)]), rfl⟩)
    ·
      have c_33 : y_ ≠ 0 := by revert c_33; (repeat' split) <;> omega
      refine sw_lload (n := 38) F 2 rfl dJ8_multiply_3_36 rfl ?_
      refine sw_lload_n (n := 39) F 4 rfl rfl dJ8_multiply_3_38 rfl ?_
      refine sw_ldiv (n := 40) F (by omega) (by omega) (by omega) dJ8_multiply_3_39 rfl ?_
      have htd := mul_tdR (x := x_) (y := y_) (by omega) hx hy
      refine sw_lload_n (n := 41) F 3 rfl rfl dJ8_multiply_3_40 rfl ?_
      refine sw_lcmp (n := 42) F (by omega) (by omega) dJ8_multiply_3_41 rfl ?_
      refine sw_if_ne (n := 45) F (by omega) (tgt := 48) dJ8_multiply_3_42 (by decide) rfl (fun c_42 => ?_) (fun c_42 => ?_)
      ·
        have c_42 : (wL (x_ * y_)).tdiv y_ ≠ x_ := by revert c_42; (repeat' split) <;> omega
        refine sw_ldc2 (n := 51) F (-9223372036854775808) q250 (by decide) dJ8_multiply_3_48 rfl ?_
        exact sw_lret F rfl dJ8_multiply_3_51 (by rw [hPo]; exact ⟨(by rw [hmc.2.2.2 (by omega) (by omega)]), rfl⟩)
      ·
        have c_42 : (wL (x_ * y_)).tdiv y_ = x_ := by revert c_42; (repeat' split) <;> omega
        refine sw_lload (n := 47) F 2 rfl dJ8_multiply_3_45 rfl ?_
        exact sw_lret F rfl dJ8_multiply_3_47 (by rw [hPo]; exact ⟨(by first | rw [hmc.1 (by omega)] | rw [hmc.2.1 (or_31 (by omega) (by omega) (by omega))] | rw [hmc.2.2.1 (by omega) (by omega)]), rfl⟩)
theorem nd_J8_multiply_2 : yJ8_multiply_2.cls ≠ "java/lang/invoke/MethodHandle" ∧ yJ8_multiply_2.cls ≠ "java/lang/invoke/VarHandle" ∧ (parseMethodDescriptor yJ8_multiply_2.desc).map (fun d => d.parameters.length) = some 3 := by decide +kernel
set_option maxRecDepth 100000 in
set_option maxHeartbeats 16000000 in
theorem ct_J8_multiply_2 {g : GG} {l : Launch} (M : Nat → Option PV) (x_ : Int) (y_ : Int) (s : Int) (hx : -9223372036854775807 ≤ x_ ∧ x_ ≤ 9223372036854775807) (hy : -9223372036854775807 ≤ y_ ∧ y_ ≤ 9223372036854775807) (hs : -2147483648 ≤ s ∧ s ≤ 2147483647) : Ct g l yJ8_multiply_2 (ws_ yJ8_multiply_2 cJ8_multiply_2 7 (Option.some (Jvm.ClassFile.FieldType.object "java/math/BigDecimal"))) 5 115 6 33 [.long (jL x_), .long (jL y_), .int (jI s)] [pl g M] (fun v9 Ws9 => ∃ M1 : Nat → Option PV, ∃ r1 : Nat, ∃ o1 : Option Nat, v9 = some (.ref r1) ∧ (le_ M M1) ∧ (at_ g M1 r1 (vD (x_ * y_) s o1)) ∧ Ws9 = [pl g M1]) (nox) := by
  refine Ct.of (cc := cJ8_multiply_2) (nL := 7) (ret := (Option.some (Jvm.ClassFile.FieldType.object "java/math/BigDecimal"))) (by decide) rfl (Nat.le_of_ble_eq_true rfl) ?_
  intro x hg hl hPo hPx hmc hms F
  subst hg; subst hl
  refine SW.cast (L' := [(0, .long (jL x_)), (2, .long (jL y_)), (4, .int (jI s))]) ?_ rfl rfl rfl
  have hcc := cpt_cases (x_ * y_)
  refine sw_lload_n (n := 1) F 0 rfl rfl dJ8_multiply_2_0 rfl ?_
  refine sw_lload_n (n := 2) F 1 rfl rfl dJ8_multiply_2_1 rfl ?_
  refine sw_callS (n := 5) F (ct_J8_multiply_3 (g := xg x) (l := xl x) x_ y_ hx hy) q2573 q2574 q112 q2575 nd_J8_multiply_3 rfl (by decide) [0] rfl [pl (xg x) M] rfl 6 33 ⟨by omega, by omega⟩ [] rfl (Nat.le_of_ble_eq_true rfl) dJ8_multiply_2_2 rfl (fun _ _ h => h.elim) (fun v Ws h => ?_)
  obtain ⟨rfl, rfl⟩ := h
  show SW x [pl (xg x) M] _ _ _ _ [.long (jL (cpt (x_ * y_)))]
  refine sw_lstore (n := 7) F (L2 := [(5, .long (jL (cpt (x_ * y_)))), (0, .long (jL x_)), (2, .long (jL y_)), (4, .int (jI s))]) rfl (by decide) dJ8_multiply_2_5 rfl ?_
  refine sw_lload (n := 9) F 0 rfl dJ8_multiply_2_7 rfl ?_
  refine sw_ldc2 (n := 12) F (-9223372036854775808) q250 (by decide) dJ8_multiply_2_9 rfl ?_
  refine sw_lcmp (n := 13) F (by omega) (by decide) dJ8_multiply_2_12 rfl ?_
  refine sw_if_eq (n := 16) F (by omega) (tgt := 24) dJ8_multiply_2_13 (by decide) rfl (fun c_13 => ?_) (fun c_13 => ?_)
  ·
    have c_13 : cpt (x_ * y_) = -9223372036854775808 := by revert c_13; (repeat' split) <;> omega
    have hnf : ¬ fit (x_ * y_) := cpt_y c_13
    refine sw_new (n := 27) F (ci := 13) (N := 5) RJ8 TJ8 tyJ8 rfl q251 q252 q112 in_J8 tyJ8_ok (fs := [.null, .int (jI 0), .int (jI 0), .null, .long (jL 0)]) rfl 5 28 ⟨by omega, by omega⟩ dJ8_multiply_2_24 rfl (fun q_1 => ?_)
    refine sw_dup (n := 28) F rfl dJ8_multiply_2_27 rfl ?_
    refine sw_lload_n (n := 29) F 1 rfl rfl dJ8_multiply_2_28 rfl ?_
    refine sw_callS (n := 32) F (ct_J19_valueOf (g := xg x) (l := xl x) M x_ (by first | omega | assumption)) q1054 q1055 q127 q1056 nd_J19_valueOf rfl (by decide) [1, 0] rfl [ob (xg x) q_1 13 [.null, .int (jI 0), .int (jI 0), .null, .long (jL 0)]] rfl 3 20 ⟨by omega, by omega⟩ [.ref q_1, .ref q_1] rfl (Nat.le_of_ble_eq_true rfl) dJ8_multiply_2_29 rfl (fun _ _ h => h.elim) (fun v Ws h => ?_)
    obtain ⟨M1_2, r1_3, a1_4, rfl, hle_5, hat_6, rfl⟩ := h
    show SW x [pl (xg x) M1_2, ob (xg x) q_1 13 [.null, .int (jI 0), .int (jI 0), .null, .long (jL 0)]] _ _ _ _ [.ref r1_3, .ref q_1, .ref q_1]
    refine sw_lload_n (n := 33) F 2 rfl rfl dJ8_multiply_2_32 rfl ?_
    refine sw_callV (n := 36) F (ct_J19_multiply_3 (g := xg x) (l := xl x) M1_2 r1_3 x_ a1_4 y_ hat_6 hy (by exact nA_63 (by omega) (by decide))) (rcvI F 0 rfl hat_6) q1481 q1482 q1483 q127 q1484 nd_J19_multiply_3 rfl (by decide) [0, 1] rfl [ob (xg x) q_1 13 [.null, .int (jI 0), .int (jI 0), .null, .long (jL 0)]] rfl 0 0 ⟨by omega, by omega⟩ [.ref q_1, .ref q_1] rfl (Nat.le_of_ble_eq_true rfl) dJ8_multiply_2_33 rfl (fun _ _ h => h.elim) (fun v Ws h => ?_)
    obtain ⟨M1_7, r1_8, a1_9, rfl, hle_10, hat_11, rfl⟩ := h
    show SW x [pl (xg x) M1_7, ob (xg x) q_1 13 [.null, .int (jI 0), .int (jI 0), .null, .long (jL 0)]] _ _ _ _ [.ref r1_8, .ref q_1, .ref q_1]
    refine sw_ldc2 (n := 39) F (-9223372036854775808) q250 (by decide) dJ8_multiply_2_36 rfl ?_
    refine sw_iload (n := 41) F 3 rfl dJ8_multiply_2_39 rfl ?_
    refine sw_iconst (n := 42) F (0) (by decide) dJ8_multiply_2_41 rfl ?_
    refine sw_callI (n := 45) F (ct_J8_init (g := xg x) (l := xl x) q_1 (some r1_8) (-9223372036854775808) s 0 ) q253 q254 q112 q255 rfl nd_J8_init rfl (by decide) [1, 0] rfl [pl (xg x) M1_7] rfl 0 0 ⟨by omega, by omega⟩ [.ref q_1] rfl (Nat.le_of_ble_eq_true rfl) dJ8_multiply_2_42 rfl (fun _ _ h => h.elim) (fun v Ws h => ?_)
    obtain ⟨rfl, rfl⟩ := h
    show SW x [ob (xg x) q_1 13 [va_rf (some r1_8), .int (jI s), .int (jI 0), .null, .long (jL (-9223372036854775808))], pl (xg x) M1_7] _ _ _ _ [.ref q_1]
    refine SW.cast (Ps' := ob (xg x) q_1 13 (flD (x_ * y_) s (some r1_8) 0) :: [pl (xg x) M1_7]) ?_ (by simp only [flD, cpt_0 hnf] <;> rfl) rfl rfl
    refine sw_absD F (Or.inr rfl) (fun h => by cases h) (fun b h => by cases h; exact ⟨_, hat_11⟩) (fun M_12 hle_13 hat_14 => ?_)
    show SW x [pl (xg x) M_12] _ _ _ _ [.ref q_1]
    exact sw_aret F (some q_1) _ rfl rfl (by first | exact Or.inl ⟨_, rfl⟩ | exact Or.inr ⟨_, rfl⟩) dJ8_multiply_2_45 (by rw [hPo]; exact ⟨M_12, q_1, some r1_8, rfl, (le_.tr (le_.tr hle_5 hle_10) hle_13), hat_14, rfl⟩)
  ·
    have c_13 : cpt (x_ * y_) ≠ -9223372036854775808 := by revert c_13; (repeat' split) <;> omega
    refine SW.cast (L' := [(5, .long (jL (x_ * y_))), (0, .long (jL x_)), (2, .long (jL y_)), (4, .int (jI s))]) ?_ rfl (by rw [show Value.long (jL (cpt (x_ * y_))) = Value.long (jL (x_ * y_)) from topL (by omega)]) rfl
    refine sw_lload (n := 18) F 0 rfl dJ8_multiply_2_16 rfl ?_
    refine sw_iload (n := 20) F 3 rfl dJ8_multiply_2_18 rfl ?_
    refine sw_callS (n := 23) F (ct_J8_valueOf_2 (g := xg x) (l := xl x) M (x_ * y_) s (by first | omega | assumption) hs) q1043 q1044 q112 q1045 nd_J8_valueOf_2 rfl (by decide) [0] rfl [] rfl 5 28 ⟨by omega, by omega⟩ [] rfl (Nat.le_of_ble_eq_true rfl) dJ8_multiply_2_20 rfl (fun _ _ h => h.elim) (fun v Ws h => ?_)
    obtain ⟨M1_15, r1_16, o1_17, rfl, hle_18, hat_19, rfl⟩ := h
    show SW x [pl (xg x) M1_15] _ _ _ _ [.ref r1_16]
    exact sw_aret F (some r1_16) _ rfl rfl (by first | exact Or.inl ⟨_, rfl⟩ | exact Or.inr ⟨_, rfl⟩) dJ8_multiply_2_23 (by rw [hPo]; exact ⟨M1_15, r1_16, o1_17, rfl, hle_18, hat_19, rfl⟩)
theorem nd_J8_multiply : yJ8_multiply.cls ≠ "java/lang/invoke/MethodHandle" ∧ yJ8_multiply.cls ≠ "java/lang/invoke/VarHandle" ∧ (parseMethodDescriptor yJ8_multiply.desc).map (fun d => d.parameters.length) = some 1 := by decide +kernel
set_option maxRecDepth 100000 in
set_option maxHeartbeats 16000000 in
theorem ct_J8_multiply {g : GG} {l : Launch} (M : Nat → Option PV) (q : Nat) (u : Int) (s : Int) (o : Option Nat) (q2 : Nat) (w : Int) (t : Int) (o2 : Option Nat) (hx : at_ g M q (vD u s o)) (hy : at_ g M q2 (vD w t o2)) (hf : fit u) (hf2 : fit w) (hs : -2147483648 ≤ s ∧ s ≤ 2147483647) (ht : -2147483648 ≤ t ∧ t ≤ 2147483647) (hst : -2147483648 ≤ s + t ∧ s + t ≤ 2147483647) : Ct g l yJ8_multiply (ws_ yJ8_multiply cJ8_multiply 3 (Option.some (Jvm.ClassFile.FieldType.object "java/math/BigDecimal"))) 6 141 6 33 [.ref q, .ref q2] [pl g M] (fun v9 Ws9 => ∃ M1 : Nat → Option PV, ∃ r1 : Nat, ∃ o1 : Option Nat, v9 = some (.ref r1) ∧ (le_ M M1) ∧ (at_ g M1 r1 (vD (u * w) (s + t) o1)) ∧ Ws9 = [pl g M1]) (nox) := by
  refine Ct.of (cc := cJ8_multiply) (nL := 3) (ret := (Option.some (Jvm.ClassFile.FieldType.object "java/math/BigDecimal"))) (by decide) rfl (Nat.le_of_ble_eq_true rfl) ?_
  intro x hg hl hPo hPx hmc hms F
  subst hg; subst hl
  refine SW.cast (L' := [(0, .ref q), (1, .ref q2)]) ?_ rfl rfl rfl
  have hcr := cpt_rng u
  have hcr2 := cpt_rng w
  have hr9 := hf
  unfold fit at hr9
  have hr8 := hf2
  unfold fit at hr8
  refine sw_aload_n (n := 1) F 0 (some q) rfl rfl rfl dJ8_multiply_0 rfl ?_
  refine sw_aload_n (n := 2) F 0 (some q) rfl rfl rfl dJ8_multiply_1 rfl ?_
  refine sw_getD (n := 5) F 0 rfl hx (k := 1) ⟨(RJ8, TJ8, 5), rfl, by decide, q261, in_J8, Or.inl rfl⟩ (.int (jI s)) (fun _ => rfl) dJ8_multiply_2 rfl ?_
  refine sw_i2l (n := 6) F (by omega) dJ8_multiply_5 rfl ?_
  refine sw_aload_n (n := 7) F 1 (some q2) rfl rfl rfl dJ8_multiply_6 rfl ?_
  refine sw_getD (n := 10) F 0 rfl hy (k := 1) ⟨(RJ8, TJ8, 5), rfl, by decide, q261, in_J8, Or.inl rfl⟩ (.int (jI t)) (fun _ => rfl) dJ8_multiply_7 rfl ?_
  refine sw_i2l (n := 11) F (by omega) dJ8_multiply_10 rfl ?_
  refine sw_ladd (n := 12) F dJ8_multiply_11 rfl ?_
  refine sw_callV (n := 15) F (ct_J8_checkScale_3 (g := xg x) (l := xl x) q (s + t) hst) (rcvD F 0 rfl hx) q2566 q2568 qs41 q112 q2569 nd_J8_checkScale_3 rfl (by decide) [0] rfl [pl (xg x) M] rfl 6 33 ⟨by omega, by omega⟩ [] rfl (Nat.le_of_ble_eq_true rfl) dJ8_multiply_12 rfl (fun _ _ h => h.elim) (fun v Ws h => ?_)
  obtain ⟨rfl, rfl⟩ := h
  show SW x [pl (xg x) M] _ _ _ _ [.int (jI (s + t))]
  refine sw_istore_n (n := 16) F (L2 := [(2, .int (jI (s + t))), (0, .ref q), (1, .ref q2)]) rfl (by decide) rfl dJ8_multiply_15 rfl ?_
  refine sw_aload_n (n := 17) F 1 (some q) rfl rfl rfl dJ8_multiply_16 rfl ?_
  refine sw_getD (n := 20) F 0 rfl hx (k := 4) ⟨(RJ8, TJ8, 5), rfl, by decide, q264, in_J8, Or.inl rfl⟩ (.long (jL (cpt u))) (fun _ => rfl) dJ8_multiply_17 rfl ?_
  refine sw_ldc2 (n := 23) F (-9223372036854775808) q250 (by decide) dJ8_multiply_20 rfl ?_
  refine sw_lcmp (n := 24) F (by omega) (by decide) dJ8_multiply_23 rfl ?_
  refine sw_if_eq (n := 27) F (by omega) (tgt := 64) dJ8_multiply_24 (by decide) rfl (fun c_24 => ?_) (fun c_24 => ?_)
  · exfalso; exact cpt_y (show cpt u = -9223372036854775808 by revert c_24; (repeat' split) <;> omega) hf
  ·
    have c_24 : cpt u ≠ -9223372036854775808 := by revert c_24; (repeat' split) <;> omega
    refine sw_aload_n (n := 28) F 2 (some q2) rfl rfl rfl dJ8_multiply_27 rfl ?_
    refine sw_getD (n := 31) F 0 rfl hy (k := 4) ⟨(RJ8, TJ8, 5), rfl, by decide, q264, in_J8, Or.inl rfl⟩ (.long (jL (cpt w))) (fun _ => rfl) dJ8_multiply_28 rfl ?_
    refine sw_ldc2 (n := 34) F (-9223372036854775808) q250 (by decide) dJ8_multiply_31 rfl ?_
    refine sw_lcmp (n := 35) F (by omega) (by decide) dJ8_multiply_34 rfl ?_
    refine sw_if_eq (n := 38) F (by omega) (tgt := 51) dJ8_multiply_35 (by decide) rfl (fun c_35 => ?_) (fun c_35 => ?_)
    · exfalso; exact cpt_y (show cpt w = -9223372036854775808 by revert c_35; (repeat' split) <;> omega) hf2
    ·
      have c_35 : cpt w ≠ -9223372036854775808 := by revert c_35; (repeat' split) <;> omega
      refine sw_aload_n (n := 39) F 1 (some q) rfl rfl rfl dJ8_multiply_38 rfl ?_
      refine sw_getD (n := 42) F 0 rfl hx (k := 4) ⟨(RJ8, TJ8, 5), rfl, by decide, q264, in_J8, Or.inl rfl⟩ (.long (jL (cpt u))) (fun _ => rfl) dJ8_multiply_39 rfl ?_
      refine sw_aload_n (n := 43) F 2 (some q2) rfl rfl rfl dJ8_multiply_42 rfl ?_
      refine sw_getD (n := 46) F 0 rfl hy (k := 4) ⟨(RJ8, TJ8, 5), rfl, by decide, q264, in_J8, Or.inl rfl⟩ (.long (jL (cpt w))) (fun _ => rfl) dJ8_multiply_43 rfl ?_
      refine SW.cast (st' := [.long (jL w), .long (jL u)]) ?_ rfl rfl (by first | rfl | simp only [cpt_1 hf, cpt_1 hf2])
      refine sw_iload_n (n := 47) F 0 rfl rfl dJ8_multiply_46 rfl ?_
      refine sw_callS (n := 50) F (ct_J8_multiply_2 (g := xg x) (l := xl x) M u w (s + t) (by first | omega | assumption) (by first | omega | assumption) hst) q2570 q2571 q112 q2572 nd_J8_multiply_2 rfl (by decide) [0] rfl [] rfl 0 0 ⟨by omega, by omega⟩ [] rfl (Nat.le_of_ble_eq_true rfl) dJ8_multiply_47 rfl (fun _ _ h => h.elim) (fun v Ws h => ?_)
      obtain ⟨M1_1, r1_2, o1_3, rfl, hle_4, hat_5, rfl⟩ := h
      show SW x [pl (xg x) M1_1] _ _ _ _ [.ref r1_2]
      exact sw_aret F (some r1_2) _ rfl rfl (by first | exact Or.inl ⟨_, rfl⟩ | exact Or.inr ⟨_, rfl⟩) dJ8_multiply_50 (by rw [hPo]; exact ⟨M1_1, r1_2, o1_3, rfl, hle_4, hat_5, rfl⟩)
theorem nd_J8_add_4 : yJ8_add_4.cls ≠ "java/lang/invoke/MethodHandle" ∧ yJ8_add_4.cls ≠ "java/lang/invoke/VarHandle" ∧ (parseMethodDescriptor yJ8_add_4.desc).map (fun d => d.parameters.length) = some 2 := by decide +kernel
set_option maxRecDepth 100000 in
set_option maxHeartbeats 16000000 in
theorem ct_J8_add_4 {g : GG} {l : Launch} (x_ : Int) (y_ : Int) (hx : -9223372036854775807 ≤ x_ ∧ x_ ≤ 9223372036854775807) (hy : -9223372036854775807 ≤ y_ ∧ y_ ≤ 9223372036854775807) : Ct g l yJ8_add_4 (ws_ yJ8_add_4 cJ8_add_4 6 (Option.some Jvm.ClassFile.FieldType.long)) 1 12 0 0 [.long (jL x_), .long (jL y_)] [] (fun v9 Ws9 => v9 = some (.long (jL (cpt (x_ + y_)))) ∧ Ws9 = []) (nox) := by
  refine Ct.of (cc := cJ8_add_4) (nL := 6) (ret := (Option.some Jvm.ClassFile.FieldType.long)) (by decide) rfl (Nat.le_of_ble_eq_true rfl) ?_
  intro x hg hl hPo hPx hmc hms F
  subst hg; subst hl
  refine SW.cast (L' := [(0, .long (jL x_)), (2, .long (jL y_))]) ?_ rfl rfl rfl
  refine sw_lload_n (n := 1) F 0 rfl rfl dJ8_add_4_0 rfl ?_
  refine sw_lload_n (n := 2) F 1 rfl rfl dJ8_add_4_1 rfl ?_
  refine sw_ladd (n := 3) F dJ8_add_4_2 rfl ?_
  rw [jL_w (x_ + y_)]
  have hwl := wL_s (x_ + y_)
  refine sw_lstore (n := 5) F (L2 := [(4, .long (jL (wL (x_ + y_)))), (0, .long (jL x_)), (2, .long (jL y_))]) rfl (by decide) dJ8_add_4_3 rfl ?_
  refine sw_lload (n := 7) F 0 rfl dJ8_add_4_5 rfl ?_
  refine sw_lload_n (n := 8) F 1 rfl rfl dJ8_add_4_7 rfl ?_
  refine sw_lxor (n := 9) F (jL (xoL (wL (x_ + y_)) x_)) (xoL_j _ _) dJ8_add_4_8 rfl ?_
  refine sw_lload (n := 11) F 0 rfl dJ8_add_4_9 rfl ?_
  refine sw_lload_n (n := 12) F 2 rfl rfl dJ8_add_4_11 rfl ?_
  refine sw_lxor (n := 13) F (jL (xoL (wL (x_ + y_)) y_)) (xoL_j _ _) dJ8_add_4_12 rfl ?_
  refine sw_land (n := 14) F (jL (anL (xoL (wL (x_ + y_)) x_) (xoL (wL (x_ + y_)) y_))) (anL_j _ _) dJ8_add_4_13 rfl ?_
  have har := anL_rng (xoL (wL (x_ + y_)) x_) (xoL (wL (x_ + y_)) y_)
  refine sw_lconst (n := 15) F 0 (by decide) dJ8_add_4_14 rfl ?_
  refine sw_lcmp (n := 16) F (by omega) (by decide) dJ8_add_4_15 rfl ?_
  refine sw_if_lt (n := 19) F (by omega) (tgt := 22) dJ8_add_4_16 (by decide) rfl (fun c_16 => ?_) (fun c_16 => ?_)
  ·
    have c_16 : anL (xoL (wL (x_ + y_)) x_) (xoL (wL (x_ + y_)) y_) < 0 := by revert c_16; (repeat' split) <;> omega
    refine sw_ldc2 (n := 25) F (-9223372036854775808) q250 (by decide) dJ8_add_4_22 rfl ?_
    exact sw_lret F rfl dJ8_add_4_25 (by rw [hPo]; exact ⟨(by rw [(add_cp (x := x_) (y := y_) (by omega) (by omega)).2 (by omega)]), rfl⟩)
  ·
    have c_16 : anL (xoL (wL (x_ + y_)) x_) (xoL (wL (x_ + y_)) y_) ≥ 0 := by revert c_16; (repeat' split) <;> omega
    refine sw_lload (n := 21) F 0 rfl dJ8_add_4_19 rfl ?_
    exact sw_lret F rfl dJ8_add_4_21 (by rw [hPo]; exact ⟨(by rw [(add_cp (by omega) (by omega)).1 (by omega)]), rfl⟩)
theorem nd_J8_add_3 : yJ8_add_3.cls ≠ "java/lang/invoke/MethodHandle" ∧ yJ8_add_3.cls ≠ "java/lang/invoke/VarHandle" ∧ (parseMethodDescriptor yJ8_add_3.desc).map (fun d => d.parameters.length) = some 3 := by decide +kernel
set_option maxRecDepth 100000 in
set_option maxHeartbeats 16000000 in
theorem ct_J8_add_3 {g : GG} {l : Launch} (M : Nat → Option PV) (x_ : Int) (y_ : Int) (s : Int) (hx : -9223372036854775807 ≤ x_ ∧ x_ ≤ 9223372036854775807) (hy : -9223372036854775807 ≤ y_ ∧ y_ ≤ 9223372036854775807) (hs : -2147483648 ≤ s ∧ s ≤ 2147483647) : Ct g l yJ8_add_3 (ws_ yJ8_add_3 cJ8_add_3 7 (Option.some (Jvm.ClassFile.FieldType.object "java/math/BigDecimal"))) 6 125 6 33 [.long (jL x_), .long (jL y_), .int (jI s)] [pl g M] (fun v9 Ws9 => ∃ M1 : Nat → Option PV, ∃ r1 : Nat, ∃ o1 : Option Nat, v9 = some (.ref r1) ∧ (le_ M M1) ∧ (at_ g M1 r1 (vD (x_ + y_) s o1)) ∧ Ws9 = [pl g M1]) (nox) := by
  refine Ct.of (cc := cJ8_add_3) (nL := 7) (ret := (Option.some (Jvm.ClassFile.FieldType.object "java/math/BigDecimal"))) (by decide) rfl (Nat.le_of_ble_eq_true rfl) ?_
  intro x hg hl hPo hPx hmc hms F
  subst hg; subst hl
  refine SW.cast (L' := [(0, .long (jL x_)), (2, .long (jL y_)), (4, .int (jI s))]) ?_ rfl rfl rfl
  have hcc := cpt_cases (x_ + y_)
  refine sw_lload_n (n := 1) F 0 rfl rfl dJ8_add_3_0 rfl ?_
  refine sw_lload_n (n := 2) F 1 rfl rfl dJ8_add_3_1 rfl ?_
  refine sw_callS (n := 5) F (ct_J8_add_4 (g := xg x) (l := xl x) x_ y_ hx hy) q1040 q1041 q112 q1042 nd_J8_add_4 rfl (by decide) [0] rfl [pl (xg x) M] rfl 6 33 ⟨by omega, by omega⟩ [] rfl (Nat.le_of_ble_eq_true rfl) dJ8_add_3_2 rfl (fun _ _ h => h.elim) (fun v Ws h => ?_)
  obtain ⟨rfl, rfl⟩ := h
  show SW x [pl (xg x) M] _ _ _ _ [.long (jL (cpt (x_ + y_)))]
  refine sw_lstore (n := 7) F (L2 := [(5, .long (jL (cpt (x_ + y_)))), (0, .long (jL x_)), (2, .long (jL y_)), (4, .int (jI s))]) rfl (by decide) dJ8_add_3_5 rfl ?_
  refine sw_lload (n := 9) F 0 rfl dJ8_add_3_7 rfl ?_
  refine sw_ldc2 (n := 12) F (-9223372036854775808) q250 (by decide) dJ8_add_3_9 rfl ?_
  refine sw_lcmp (n := 13) F (by omega) (by decide) dJ8_add_3_12 rfl ?_
  refine sw_if_eq (n := 16) F (by omega) (tgt := 24) dJ8_add_3_13 (by decide) rfl (fun c_13 => ?_) (fun c_13 => ?_)
  ·
    have c_13 : cpt (x_ + y_) = -9223372036854775808 := by revert c_13; (repeat' split) <;> omega
    have hnf : ¬ fit (x_ + y_) := cpt_y c_13
    refine sw_new (n := 27) F (ci := 13) (N := 5) RJ8 TJ8 tyJ8 rfl q251 q252 q112 in_J8 tyJ8_ok (fs := [.null, .int (jI 0), .int (jI 0), .null, .long (jL 0)]) rfl 5 28 ⟨by omega, by omega⟩ dJ8_add_3_24 rfl (fun q_1 => ?_)
    refine sw_dup (n := 28) F rfl dJ8_add_3_27 rfl ?_
    refine sw_lload_n (n := 29) F 1 rfl rfl dJ8_add_3_28 rfl ?_
    refine sw_callS (n := 32) F (ct_J19_valueOf (g := xg x) (l := xl x) M x_ (by first | omega | assumption)) q1054 q1055 q127 q1056 nd_J19_valueOf rfl (by decide) [1, 0] rfl [ob (xg x) q_1 13 [.null, .int (jI 0), .int (jI 0), .null, .long (jL 0)]] rfl 3 20 ⟨by omega, by omega⟩ [.ref q_1, .ref q_1] rfl (Nat.le_of_ble_eq_true rfl) dJ8_add_3_29 rfl (fun _ _ h => h.elim) (fun v Ws h => ?_)
    obtain ⟨M1_2, r1_3, a1_4, rfl, hle_5, hat_6, rfl⟩ := h
    show SW x [pl (xg x) M1_2, ob (xg x) q_1 13 [.null, .int (jI 0), .int (jI 0), .null, .long (jL 0)]] _ _ _ _ [.ref r1_3, .ref q_1, .ref q_1]
    refine sw_lload_n (n := 33) F 2 rfl rfl dJ8_add_3_32 rfl ?_
    refine sw_callV (n := 36) F (ct_J19_add (g := xg x) (l := xl x) M1_2 r1_3 x_ a1_4 y_ hat_6 hy (by exact nA_63 (by omega) (by decide))) (rcvI F 0 rfl hat_6) q1092 q1093 q1094 q127 q1095 nd_J19_add rfl (by decide) [0, 1] rfl [ob (xg x) q_1 13 [.null, .int (jI 0), .int (jI 0), .null, .long (jL 0)]] rfl 0 0 ⟨by omega, by omega⟩ [.ref q_1, .ref q_1] rfl (Nat.le_of_ble_eq_true rfl) dJ8_add_3_33 rfl (fun _ _ h => h.elim) (fun v Ws h => ?_)
    obtain ⟨M1_7, r1_8, a1_9, rfl, hle_10, hat_11, rfl⟩ := h
    show SW x [pl (xg x) M1_7, ob (xg x) q_1 13 [.null, .int (jI 0), .int (jI 0), .null, .long (jL 0)]] _ _ _ _ [.ref r1_8, .ref q_1, .ref q_1]
    refine sw_iload (n := 38) F 3 rfl dJ8_add_3_36 rfl ?_
    refine sw_callI (n := 41) F (ct_J8_init_2 (g := xg x) (l := xl x) M1_7 q_1 r1_8 (x_ + y_) a1_9 s hat_11 (by exact Nat.lt_of_lt_of_le (show (x_ + y_).natAbs < bw 2 by rw [bw_2]; omega) (bw_mono (by decide)))) q1162 q1163 q112 q1164 rfl nd_J8_init_2 rfl (by decide) [1, 0] rfl [] rfl 0 0 ⟨by omega, by omega⟩ [.ref q_1] rfl (Nat.le_of_ble_eq_true rfl) dJ8_add_3_38 rfl (fun _ _ h => h.elim) (fun v Ws h => ?_)
    obtain ⟨rfl, rfl⟩ := h
    show SW x [ob (xg x) q_1 13 [.ref r1_8, .int (jI s), .int (jI 0), .null, .long (jL (cpt (x_ + y_)))], pl (xg x) M1_7] _ _ _ _ [.ref q_1]
    refine SW.cast (Ps' := ob (xg x) q_1 13 (flD (x_ + y_) s (some r1_8) 0) :: [pl (xg x) M1_7]) ?_ (by first | rfl | (simp only [flD, cpt_1 hfit] <;> rfl)) rfl rfl
    refine sw_absD F (Or.inr rfl) (fun h => by cases h) (fun b h => by cases h; exact ⟨_, hat_11⟩) (fun M_12 hle_13 hat_14 => ?_)
    show SW x [pl (xg x) M_12] _ _ _ _ [.ref q_1]
    exact sw_aret F (some q_1) _ rfl rfl (by first | exact Or.inl ⟨_, rfl⟩ | exact Or.inr ⟨_, rfl⟩) dJ8_add_3_41 (by rw [hPo]; exact ⟨M_12, q_1, some r1_8, rfl, (le_.tr (le_.tr hle_5 hle_10) hle_13), hat_14, rfl⟩)
  ·
    have c_13 : cpt (x_ + y_) ≠ -9223372036854775808 := by revert c_13; (repeat' split) <;> omega
    refine SW.cast (L' := [(5, .long (jL (x_ + y_))), (0, .long (jL x_)), (2, .long (jL y_)), (4, .int (jI s))]) ?_ rfl (by rw [show Value.long (jL (cpt (x_ + y_))) = Value.long (jL (x_ + y_)) from topL (by omega)]) rfl
    refine sw_lload (n := 18) F 0 rfl dJ8_add_3_16 rfl ?_
    refine sw_iload (n := 20) F 3 rfl dJ8_add_3_18 rfl ?_
    refine sw_callS (n := 23) F (ct_J8_valueOf_2 (g := xg x) (l := xl x) M (x_ + y_) s (by first | omega | assumption) hs) q1043 q1044 q112 q1045 nd_J8_valueOf_2 rfl (by decide) [0] rfl [] rfl 5 28 ⟨by omega, by omega⟩ [] rfl (Nat.le_of_ble_eq_true rfl) dJ8_add_3_20 rfl (fun _ _ h => h.elim) (fun v Ws h => ?_)
    obtain ⟨M1_15, r1_16, o1_17, rfl, hle_18, hat_19, rfl⟩ := h
    show SW x [pl (xg x) M1_15] _ _ _ _ [.ref r1_16]
    exact sw_aret F (some r1_16) _ rfl rfl (by first | exact Or.inl ⟨_, rfl⟩ | exact Or.inr ⟨_, rfl⟩) dJ8_add_3_23 (by rw [hPo]; exact ⟨M1_15, r1_16, o1_17, rfl, hle_18, hat_19, rfl⟩)
theorem nd_J8_add_2 : yJ8_add_2.cls ≠ "java/lang/invoke/MethodHandle" ∧ yJ8_add_2.cls ≠ "java/lang/invoke/VarHandle" ∧ (parseMethodDescriptor yJ8_add_2.desc).map (fun d => d.parameters.length) = some 4 := by decide +kernel
set_option maxRecDepth 100000 in
set_option maxHeartbeats 16000000 in
theorem ct_J8_add_2 {g : GG} {l : Launch} (M : Nat → Option PV) (x_ : Int) (s : Int) (y_ : Int) (t : Int) (hx : -9223372036854775807 ≤ x_ ∧ x_ ≤ 9223372036854775807) (hy : -9223372036854775807 ≤ y_ ∧ y_ ≤ 9223372036854775807) (hs : -2147483648 ≤ s ∧ s ≤ 2147483647) (ht : -2147483648 ≤ t ∧ t ≤ 2147483647) (hd : -18 ≤ s - t ∧ s - t ≤ 18) : Ct g l yJ8_add_2 (ws_ yJ8_add_2 cJ8_add_2 12 (Option.some (Jvm.ClassFile.FieldType.object "java/math/BigDecimal"))) 7 151 7 45 [.long (jL x_), .int (jI s), .long (jL y_), .int (jI t)] [pl g M] (fun v9 Ws9 => ∃ M1 : Nat → Option PV, ∃ r1 : Nat, ∃ o1 : Option Nat, v9 = some (.ref r1) ∧ (le_ M M1) ∧ (at_ g M1 r1 (vD (adV x_ s y_ t) (grI s t) o1)) ∧ Ws9 = [pl g M1]) (nox) := by
  refine Ct.of (cc := cJ8_add_2) (nL := 12) (ret := (Option.some (Jvm.ClassFile.FieldType.object "java/math/BigDecimal"))) (by decide) rfl (Nat.le_of_ble_eq_true rfl) ?_
  intro x hg hl hPo hPx hmc hms F
  subst hg; subst hl
  refine SW.cast (L' := [(0, .long (jL x_)), (2, .int (jI s)), (3, .long (jL y_)), (5, .int (jI t))]) ?_ rfl rfl rfl
  have hb5 := adV_bw (u := x_) (s := s) (w := y_) (t := t) (nA_63 (by omega) (by decide)) (nA_63 (by omega) (by decide)) hd
  refine sw_iload_n (n := 1) F 1 rfl rfl dJ8_add_2_0 rfl ?_
  refine sw_i2l (n := 2) F (by omega) dJ8_add_2_1 rfl ?_
  refine sw_iload (n := 4) F 3 rfl dJ8_add_2_2 rfl ?_
  refine sw_i2l (n := 5) F (by omega) dJ8_add_2_4 rfl ?_
  refine sw_lsub (n := 6) F dJ8_add_2_5 rfl ?_
  refine sw_lstore (n := 8) F (L2 := [(6, .long (jL (s - t))), (0, .long (jL x_)), (2, .int (jI s)), (3, .long (jL y_)), (5, .int (jI t))]) rfl (by decide) dJ8_add_2_6 rfl ?_
  refine sw_lload (n := 10) F 0 rfl dJ8_add_2_8 rfl ?_
  refine sw_lconst (n := 11) F 0 (by decide) dJ8_add_2_10 rfl ?_
  refine sw_lcmp (n := 12) F (by omega) (by decide) dJ8_add_2_11 rfl ?_
  refine sw_if_ne (n := 15) F (by omega) (tgt := 22) dJ8_add_2_12 (by decide) rfl (fun c_12 => ?_) (fun c_12 => ?_)
  ·
    have c_12 : s - t ≠ 0 := by revert c_12; (repeat' split) <;> omega
    refine sw_lload (n := 24) F 0 rfl dJ8_add_2_22 rfl ?_
    refine sw_lconst (n := 25) F 0 (by decide) dJ8_add_2_24 rfl ?_
    refine sw_lcmp (n := 26) F (by omega) (by decide) dJ8_add_2_25 rfl ?_
    refine sw_if_ge (n := 29) F (by omega) (tgt := 111) dJ8_add_2_26 (by decide) rfl (fun c_26 => ?_) (fun c_26 => ?_)
    ·
      have c_26 : s - t ≥ 0 := by revert c_26; (repeat' split) <;> omega
      have hav := adV_g (u := x_) (w := y_) (show t < s by omega)
      refine sw_lload_n (n := 112) F 3 rfl rfl dJ8_add_2_111 rfl ?_
      refine sw_lload (n := 114) F 0 rfl dJ8_add_2_112 rfl ?_
      refine sw_callS (n := 117) F (ct_J8_checkScale (g := xg x) (l := xl x) y_ (s - t) (by first | omega | assumption) (by first | omega | assumption)) q1286 q1287 q112 q1288 nd_J8_checkScale rfl (by decide) [0] rfl [pl (xg x) M] rfl 7 45 ⟨by omega, by omega⟩ [] rfl (Nat.le_of_ble_eq_true rfl) dJ8_add_2_114 rfl (fun _ _ h => h.elim) (fun v Ws h => ?_)
      obtain ⟨rfl, rfl⟩ := h
      show SW x [pl (xg x) M] _ _ _ _ [.int (jI (s - t))]
      refine sw_istore (n := 119) F (L2 := [(8, .int (jI (s - t))), (6, .long (jL (s - t))), (0, .long (jL x_)), (2, .int (jI s)), (3, .long (jL y_)), (5, .int (jI t))]) rfl (by decide) dJ8_add_2_117 rfl ?_
      refine sw_lload_n (n := 120) F 4 rfl rfl dJ8_add_2_119 rfl ?_
      refine sw_iload (n := 122) F 0 rfl dJ8_add_2_120 rfl ?_
      refine sw_callS (n := 125) F (ct_J8_longMultiplyPowerTen (g := xg x) (l := xl x) y_ (s - t) hy (by first | omega | assumption)) q1296 q1297 q112 q1298 nd_J8_longMultiplyPowerTen rfl (by decide) [0] rfl [pl (xg x) M] rfl 7 45 ⟨by omega, by omega⟩ [] rfl (Nat.le_of_ble_eq_true rfl) dJ8_add_2_122 rfl (fun _ _ h => h.elim) (fun v Ws h => ?_)
      obtain ⟨rfl, rfl⟩ := h
      show SW x [pl (xg x) M] _ _ _ _ [.long (jL (cpt (y_ * ((10 ^ (s - t).toNat : Nat) : Int))))]
      have hcc := cpt_cases (y_ * tn (s - t))
      have hsg := mul_sgn (a := y_) (k := s - t)
      refine sw_top (topL (show (cpt (y_ * ((10 ^ (s - t).toNat : Nat) : Int)) : Int) = cpt (y_ * tn (s - t)) by rfl)) ?_
      refine sw_lstore (n := 127) F (L2 := [(9, .long (jL (cpt (y_ * tn (s - t))))), (8, .int (jI (s - t))), (6, .long (jL (s - t))), (0, .long (jL x_)), (2, .int (jI s)), (3, .long (jL y_)), (5, .int (jI t))]) rfl (by decide) dJ8_add_2_125 rfl ?_
      refine sw_lload (n := 129) F 0 rfl dJ8_add_2_127 rfl ?_
      refine sw_ldc2 (n := 132) F (-9223372036854775808) q250 (by decide) dJ8_add_2_129 rfl ?_
      refine sw_lcmp (n := 133) F (by omega) (by decide) dJ8_add_2_132 rfl ?_
      refine sw_if_eq (n := 136) F (by omega) (tgt := 144) dJ8_add_2_133 (by decide) rfl (fun c_133 => ?_) (fun c_133 => ?_)
      ·
        have c_133 : cpt (y_ * tn (s - t)) = -9223372036854775808 := by revert c_133; (repeat' split) <;> omega
        have hnf : ¬ fit (y_ * tn (s - t)) := cpt_y c_133
        have hbb := mulT_bw (v := y_) (k := s - t) (nA_63 (by omega) (Nat.le_refl 2)) (by omega)
        have hb6 := Nat.lt_of_lt_of_le hbb (bw_mono (show 2 + 2 ≤ 6 by decide))
        refine sw_lload_n (n := 145) F 5 rfl rfl dJ8_add_2_144 rfl ?_
        refine sw_iload (n := 147) F 1 rfl dJ8_add_2_145 rfl ?_
        refine sw_callS (n := 150) F (ct_J8_bigMultiplyPowerTen (g := xg x) (l := xl x) M y_ (s - t) hy (by first | omega | assumption)) q1304 q1305 q112 q1306 nd_J8_bigMultiplyPowerTen rfl (by decide) [0] rfl [] rfl 4 25 ⟨by omega, by omega⟩ [] rfl (Nat.le_of_ble_eq_true rfl) dJ8_add_2_147 rfl (fun _ _ h => h.elim) (fun v Ws h => ?_)
        obtain ⟨M1_1, r1_2, a1_3, rfl, hle_4, hat_5, rfl⟩ := h
        show SW x [pl (xg x) M1_1] _ _ _ _ [.ref r1_2]
        refine sw_lload_n (n := 151) F 3 rfl rfl dJ8_add_2_150 rfl ?_
        refine sw_callV (n := 154) F (ct_J19_add (g := xg x) (l := xl x) M1_1 r1_2 (y_ * tn (s - t)) a1_3 x_ hat_5 hx (by exact hb6)) (rcvI F 0 rfl hat_5) q1092 q1093 q1094 q127 q1095 nd_J19_add rfl (by decide) [0] rfl [] rfl 1 5 ⟨by omega, by omega⟩ [] rfl (Nat.le_of_ble_eq_true rfl) dJ8_add_2_151 rfl (fun _ _ h => h.elim) (fun v Ws h => ?_)
        obtain ⟨M1_6, r1_7, a1_8, rfl, hle_9, hat_10, rfl⟩ := h
        show SW x [pl (xg x) M1_6] _ _ _ _ [.ref r1_7]
        refine sw_astore (n := 156) F (some r1_7) (L2 := [(11, .ref r1_7), (9, .long (jL (cpt (y_ * tn (s - t))))), (8, .int (jI (s - t))), (6, .long (jL (s - t))), (0, .long (jL x_)), (2, .int (jI s)), (3, .long (jL y_)), (5, .int (jI t))]) rfl rfl (by decide) dJ8_add_2_154 rfl ?_
        refine sw_lload_n (n := 157) F 4 rfl rfl dJ8_add_2_156 rfl ?_
        refine sw_lload_n (n := 158) F 6 rfl rfl dJ8_add_2_157 rfl ?_
        refine sw_lxor (n := 159) F (jL (xoL x_ y_)) (xoL_j _ _) dJ8_add_2_158 rfl ?_
        have hxr := xoL_rng x_ y_
        have hxn := xoL_neg (a := x_) (b := y_) (by omega) (by omega)
        refine sw_lconst (n := 160) F 0 (by decide) dJ8_add_2_159 rfl ?_
        refine sw_lcmp (n := 161) F (by omega) (by decide) dJ8_add_2_160 rfl ?_
        refine sw_if_lt (n := 164) F (by omega) (tgt := 181) dJ8_add_2_161 (by decide) rfl (fun c_161 => ?_) (fun c_161 => ?_)
        ·
          have c_161 : xoL x_ y_ < 0 := by revert c_161; (repeat' split) <;> omega
          refine sw_aload (n := 183) F 0 (some r1_7) rfl rfl dJ8_add_2_181 rfl ?_
          refine sw_iload_n (n := 184) F 5 rfl rfl dJ8_add_2_183 rfl ?_
          refine sw_iconst (n := 185) F (0) (by decide) dJ8_add_2_184 rfl ?_
          refine sw_callS (n := 188) F (ct_J8_valueOf_3 (g := xg x) (l := xl x) M1_6 r1_7 ((y_ * tn (s - t)) + x_) a1_8 s 0 hat_10 (by rw [show (y_ * tn (s - t)) + x_ = adV x_ s y_ t by rw [hav.1, Int.add_comm]]; exact hb5) hs (by first | omega | assumption)) q1485 q1486 q112 q1487 nd_J8_valueOf_3 rfl (by decide) [0] rfl [] rfl 0 0 ⟨by omega, by omega⟩ [] rfl (Nat.le_of_ble_eq_true rfl) dJ8_add_2_185 rfl (fun _ _ h => h.elim) (fun v Ws h => ?_)
          obtain ⟨M1_11, r1_12, o1_13, rfl, hle_14, hat_15, rfl⟩ := h
          show SW x [pl (xg x) M1_11] _ _ _ _ [.ref r1_12]
          exact sw_aret F (some r1_12) _ rfl rfl (by first | exact Or.inl ⟨_, rfl⟩ | exact Or.inr ⟨_, rfl⟩) dJ8_add_2_188 (by rw [hPo]; exact ⟨M1_11, r1_12, o1_13, rfl, (le_.tr (le_.tr hle_4 hle_9) hle_14), (by first | assumption | (rw [hav.1, hav.2]; assumption) | (rw [hav.1, hav.2, Int.add_comm]; assumption)), rfl⟩)
        ·
          have c_161 : xoL x_ y_ ≥ 0 := by revert c_161; (repeat' split) <;> omega
          have hnf3 : ¬ fit (adV x_ s y_ t) := by rw [hav.1, Int.add_comm]; exact nofit_add hnf (by omega)
          refine sw_new (n := 167) F (ci := 13) (N := 5) RJ8 TJ8 tyJ8 rfl q251 q252 q112 in_J8 tyJ8_ok (fs := [.null, .int (jI 0), .int (jI 0), .null, .long (jL 0)]) rfl 0 0 ⟨by omega, by omega⟩ dJ8_add_2_164 rfl (fun q_16 => ?_)
          refine sw_dup (n := 168) F rfl dJ8_add_2_167 rfl ?_
          refine sw_aload (n := 170) F 0 (some r1_7) rfl rfl dJ8_add_2_168 rfl ?_
          refine sw_ldc2 (n := 173) F (-9223372036854775808) q250 (by decide) dJ8_add_2_170 rfl ?_
          refine sw_iload_n (n := 174) F 5 rfl rfl dJ8_add_2_173 rfl ?_
          refine sw_iconst (n := 175) F (0) (by decide) dJ8_add_2_174 rfl ?_
          refine sw_callI (n := 178) F (ct_J8_init (g := xg x) (l := xl x) q_16 (some r1_7) (-9223372036854775808) s 0 ) q253 q254 q112 q255 rfl nd_J8_init rfl (by decide) [0, 1] rfl [pl (xg x) M1_6] rfl 0 0 ⟨by omega, by omega⟩ [.ref q_16] rfl (Nat.le_of_ble_eq_true rfl) dJ8_add_2_175 rfl (fun _ _ h => h.elim) (fun v Ws h => ?_)
          obtain ⟨rfl, rfl⟩ := h
          show SW x [ob (xg x) q_16 13 [va_rf (some r1_7), .int (jI s), .int (jI 0), .null, .long (jL (-9223372036854775808))], pl (xg x) M1_6] _ _ _ _ [.ref q_16]
          refine sw_goto F (n := 188) dJ8_add_2_178 (by decide) ?_
          refine SW.cast (Ps' := ob (xg x) q_16 13 (flD (adV x_ s y_ t) (grI s t) (some r1_7) 0) :: [pl (xg x) M1_6]) ?_ (by simp only [flD, hav.2, cpt_0 hnf3] <;> rfl) rfl rfl
          refine sw_absD F (Or.inr rfl) (fun h => by cases h) (fun b h => by cases h; exact ⟨_, by rw [hav.1, Int.add_comm]; exact hat_10⟩) (fun M_17 hle_18 hat_19 => ?_)
          show SW x [pl (xg x) M_17] _ _ _ _ [.ref q_16]
          exact sw_aret F (some q_16) _ rfl rfl (by first | exact Or.inl ⟨_, rfl⟩ | exact Or.inr ⟨_, rfl⟩) dJ8_add_2_188 (by rw [hPo]; exact ⟨M_17, q_16, some r1_7, rfl, (le_.tr (le_.tr hle_4 hle_9) hle_18), hat_19, rfl⟩)
      ·
        have c_133 : cpt (y_ * tn (s - t)) ≠ -9223372036854775808 := by revert c_133; (repeat' split) <;> omega
        refine SW.cast (L' := [(9, .long (jL (y_ * tn (s - t)))), (8, .int (jI (s - t))), (6, .long (jL (s - t))), (0, .long (jL x_)), (2, .int (jI s)), (3, .long (jL y_)), (5, .int (jI t))]) ?_ rfl (by rw [show Value.long (jL (cpt (y_ * tn (s - t)))) = Value.long (jL (y_ * tn (s - t))) from topL (by omega)]) rfl
        refine sw_lload_n (n := 137) F 3 rfl rfl dJ8_add_2_136 rfl ?_
        refine sw_lload (n := 139) F 0 rfl dJ8_add_2_137 rfl ?_
        refine sw_iload_n (n := 140) F 4 rfl rfl dJ8_add_2_139 rfl ?_
        refine sw_callS (n := 143) F (ct_J8_add_3 (g := xg x) (l := xl x) M x_ (y_ * tn (s - t)) s hx (by first | omega | assumption) hs) q1037 q1038 q112 q1039 nd_J8_add_3 rfl (by decide) [0] rfl [] rfl 1 12 ⟨by omega, by omega⟩ [] rfl (Nat.le_of_ble_eq_true rfl) dJ8_add_2_140 rfl (fun _ _ h => h.elim) (fun v Ws h => ?_)
        obtain ⟨M1_20, r1_21, o1_22, rfl, hle_23, hat_24, rfl⟩ := h
        show SW x [pl (xg x) M1_20] _ _ _ _ [.ref r1_21]
        exact sw_aret F (some r1_21) _ rfl rfl (by first | exact Or.inl ⟨_, rfl⟩ | exact Or.inr ⟨_, rfl⟩) dJ8_add_2_143 (by rw [hPo]; exact ⟨M1_20, r1_21, o1_22, rfl, hle_23, (by first | assumption | (rw [hav.1, hav.2]; assumption) | (rw [hav.1, hav.2, Int.add_comm]; assumption)), rfl⟩)
    ·
      have c_26 : s - t < 0 := by revert c_26; (repeat' split) <;> omega
      have hav := adV_l (u := x_) (w := y_) (show s < t by omega)
      refine sw_lload_n (n := 30) F 1 rfl rfl dJ8_add_2_29 rfl ?_
      refine sw_lload (n := 32) F 0 rfl dJ8_add_2_30 rfl ?_
      refine sw_lneg (n := 33) F dJ8_add_2_32 rfl ?_
      refine sw_callS (n := 36) F (ct_J8_checkScale (g := xg x) (l := xl x) x_ (-(s - t)) (by first | omega | assumption) (by first | omega | assumption)) q1286 q1287 q112 q1288 nd_J8_checkScale rfl (by decide) [0] rfl [pl (xg x) M] rfl 7 45 ⟨by omega, by omega⟩ [] rfl (Nat.le_of_ble_eq_true rfl) dJ8_add_2_33 rfl (fun _ _ h => h.elim) (fun v Ws h => ?_)
      obtain ⟨rfl, rfl⟩ := h
      show SW x [pl (xg x) M] _ _ _ _ [.int (jI (-(s - t)))]
      refine sw_top (topI (show ((-(s - t)) : Int) = t - s by omega)) ?_
      refine sw_istore (n := 38) F (L2 := [(8, .int (jI (t - s))), (6, .long (jL (s - t))), (0, .long (jL x_)), (2, .int (jI s)), (3, .long (jL y_)), (5, .int (jI t))]) rfl (by decide) dJ8_add_2_36 rfl ?_
      refine sw_lload_n (n := 39) F 2 rfl rfl dJ8_add_2_38 rfl ?_
      refine sw_iload (n := 41) F 0 rfl dJ8_add_2_39 rfl ?_
      refine sw_callS (n := 44) F (ct_J8_longMultiplyPowerTen (g := xg x) (l := xl x) x_ (t - s) hx (by first | omega | assumption)) q1296 q1297 q112 q1298 nd_J8_longMultiplyPowerTen rfl (by decide) [0] rfl [pl (xg x) M] rfl 7 45 ⟨by omega, by omega⟩ [] rfl (Nat.le_of_ble_eq_true rfl) dJ8_add_2_41 rfl (fun _ _ h => h.elim) (fun v Ws h => ?_)
      obtain ⟨rfl, rfl⟩ := h
      show SW x [pl (xg x) M] _ _ _ _ [.long (jL (cpt (x_ * ((10 ^ (t - s).toNat : Nat) : Int))))]
      have hcc := cpt_cases (x_ * tn (t - s))
      have hsg := mul_sgn (a := x_) (k := t - s)
      refine sw_top (topL (show (cpt (x_ * ((10 ^ (t - s).toNat : Nat) : Int)) : Int) = cpt (x_ * tn (t - s)) by rfl)) ?_
      refine sw_lstore (n := 46) F (L2 := [(9, .long (jL (cpt (x_ * tn (t - s))))), (8, .int (jI (t - s))), (6, .long (jL (s - t))), (0, .long (jL x_)), (2, .int (jI s)), (3, .long (jL y_)), (5, .int (jI t))]) rfl (by decide) dJ8_add_2_44 rfl ?_
      refine sw_lload (n := 48) F 0 rfl dJ8_add_2_46 rfl ?_
      refine sw_ldc2 (n := 51) F (-9223372036854775808) q250 (by decide) dJ8_add_2_48 rfl ?_
      refine sw_lcmp (n := 52) F (by omega) (by decide) dJ8_add_2_51 rfl ?_
      refine sw_if_eq (n := 55) F (by omega) (tgt := 64) dJ8_add_2_52 (by decide) rfl (fun c_52 => ?_) (fun c_52 => ?_)
      ·
        have c_52 : cpt (x_ * tn (t - s)) = -9223372036854775808 := by revert c_52; (repeat' split) <;> omega
        have hnf : ¬ fit (x_ * tn (t - s)) := cpt_y c_52
        have hbb := mulT_bw (v := x_) (k := t - s) (nA_63 (by omega) (Nat.le_refl 2)) (by omega)
        have hb6 := Nat.lt_of_lt_of_le hbb (bw_mono (show 2 + 2 ≤ 6 by decide))
        refine sw_lload_n (n := 65) F 3 rfl rfl dJ8_add_2_64 rfl ?_
        refine sw_iload (n := 67) F 1 rfl dJ8_add_2_65 rfl ?_
        refine sw_callS (n := 70) F (ct_J8_bigMultiplyPowerTen (g := xg x) (l := xl x) M x_ (t - s) hx (by first | omega | assumption)) q1304 q1305 q112 q1306 nd_J8_bigMultiplyPowerTen rfl (by decide) [0] rfl [] rfl 4 25 ⟨by omega, by omega⟩ [] rfl (Nat.le_of_ble_eq_true rfl) dJ8_add_2_67 rfl (fun _ _ h => h.elim) (fun v Ws h => ?_)
        obtain ⟨M1_25, r1_26, a1_27, rfl, hle_28, hat_29, rfl⟩ := h
        show SW x [pl (xg x) M1_25] _ _ _ _ [.ref r1_26]
        refine sw_lload_n (n := 71) F 5 rfl rfl dJ8_add_2_70 rfl ?_
        refine sw_callV (n := 74) F (ct_J19_add (g := xg x) (l := xl x) M1_25 r1_26 (x_ * tn (t - s)) a1_27 y_ hat_29 hy (by exact hb6)) (rcvI F 0 rfl hat_29) q1092 q1093 q1094 q127 q1095 nd_J19_add rfl (by decide) [0] rfl [] rfl 1 5 ⟨by omega, by omega⟩ [] rfl (Nat.le_of_ble_eq_true rfl) dJ8_add_2_71 rfl (fun _ _ h => h.elim) (fun v Ws h => ?_)
        obtain ⟨M1_30, r1_31, a1_32, rfl, hle_33, hat_34, rfl⟩ := h
        show SW x [pl (xg x) M1_30] _ _ _ _ [.ref r1_31]
        refine sw_astore (n := 76) F (some r1_31) (L2 := [(11, .ref r1_31), (9, .long (jL (cpt (x_ * tn (t - s))))), (8, .int (jI (t - s))), (6, .long (jL (s - t))), (0, .long (jL x_)), (2, .int (jI s)), (3, .long (jL y_)), (5, .int (jI t))]) rfl rfl (by decide) dJ8_add_2_74 rfl ?_
        refine sw_lload_n (n := 77) F 4 rfl rfl dJ8_add_2_76 rfl ?_
        refine sw_lload_n (n := 78) F 6 rfl rfl dJ8_add_2_77 rfl ?_
        refine sw_lxor (n := 79) F (jL (xoL x_ y_)) (xoL_j _ _) dJ8_add_2_78 rfl ?_
        have hxr := xoL_rng x_ y_
        have hxn := xoL_neg (a := x_) (b := y_) (by omega) (by omega)
        refine sw_lconst (n := 80) F 0 (by decide) dJ8_add_2_79 rfl ?_
        refine sw_lcmp (n := 81) F (by omega) (by decide) dJ8_add_2_80 rfl ?_
        refine sw_if_lt (n := 84) F (by omega) (tgt := 102) dJ8_add_2_81 (by decide) rfl (fun c_81 => ?_) (fun c_81 => ?_)
        ·
          have c_81 : xoL x_ y_ < 0 := by revert c_81; (repeat' split) <;> omega
          refine sw_aload (n := 104) F 0 (some r1_31) rfl rfl dJ8_add_2_102 rfl ?_
          refine sw_iload (n := 106) F 7 rfl dJ8_add_2_104 rfl ?_
          refine sw_iconst (n := 107) F (0) (by decide) dJ8_add_2_106 rfl ?_
          refine sw_callS (n := 110) F (ct_J8_valueOf_3 (g := xg x) (l := xl x) M1_30 r1_31 ((x_ * tn (t - s)) + y_) a1_32 t 0 hat_34 (by rw [← hav.1]; exact hb5) ht (by first | omega | assumption)) q1485 q1486 q112 q1487 nd_J8_valueOf_3 rfl (by decide) [0] rfl [] rfl 0 0 ⟨by omega, by omega⟩ [] rfl (Nat.le_of_ble_eq_true rfl) dJ8_add_2_107 rfl (fun _ _ h => h.elim) (fun v Ws h => ?_)
          obtain ⟨M1_35, r1_36, o1_37, rfl, hle_38, hat_39, rfl⟩ := h
          show SW x [pl (xg x) M1_35] _ _ _ _ [.ref r1_36]
          exact sw_aret F (some r1_36) _ rfl rfl (by first | exact Or.inl ⟨_, rfl⟩ | exact Or.inr ⟨_, rfl⟩) dJ8_add_2_110 (by rw [hPo]; exact ⟨M1_35, r1_36, o1_37, rfl, (le_.tr (le_.tr hle_28 hle_33) hle_38), (by first | assumption | (rw [hav.1, hav.2]; assumption) | (rw [hav.1, hav.2, Int.add_comm]; assumption)), rfl⟩)
        ·
          have c_81 : xoL x_ y_ ≥ 0 := by revert c_81; (repeat' split) <;> omega
          have hnf3 : ¬ fit (adV x_ s y_ t) := by rw [hav.1]; exact nofit_add hnf (by omega)
          refine sw_new (n := 87) F (ci := 13) (N := 5) RJ8 TJ8 tyJ8 rfl q251 q252 q112 in_J8 tyJ8_ok (fs := [.null, .int (jI 0), .int (jI 0), .null, .long (jL 0)]) rfl 0 0 ⟨by omega, by omega⟩ dJ8_add_2_84 rfl (fun q_40 => ?_)
          refine sw_dup (n := 88) F rfl dJ8_add_2_87 rfl ?_
          refine sw_aload (n := 90) F 0 (some r1_31) rfl rfl dJ8_add_2_88 rfl ?_
          refine sw_ldc2 (n := 93) F (-9223372036854775808) q250 (by decide) dJ8_add_2_90 rfl ?_
          refine sw_iload (n := 95) F 7 rfl dJ8_add_2_93 rfl ?_
          refine sw_iconst (n := 96) F (0) (by decide) dJ8_add_2_95 rfl ?_
          refine sw_callI (n := 99) F (ct_J8_init (g := xg x) (l := xl x) q_40 (some r1_31) (-9223372036854775808) t 0 ) q253 q254 q112 q255 rfl nd_J8_init rfl (by decide) [0, 1] rfl [pl (xg x) M1_30] rfl 0 0 ⟨by omega, by omega⟩ [.ref q_40] rfl (Nat.le_of_ble_eq_true rfl) dJ8_add_2_96 rfl (fun _ _ h => h.elim) (fun v Ws h => ?_)
          obtain ⟨rfl, rfl⟩ := h
          show SW x [ob (xg x) q_40 13 [va_rf (some r1_31), .int (jI t), .int (jI 0), .null, .long (jL (-9223372036854775808))], pl (xg x) M1_30] _ _ _ _ [.ref q_40]
          refine sw_goto F (n := 110) dJ8_add_2_99 (by decide) ?_
          refine SW.cast (Ps' := ob (xg x) q_40 13 (flD (adV x_ s y_ t) (grI s t) (some r1_31) 0) :: [pl (xg x) M1_30]) ?_ (by simp only [flD, hav.2, cpt_0 hnf3] <;> rfl) rfl rfl
          refine sw_absD F (Or.inr rfl) (fun h => by cases h) (fun b h => by cases h; exact ⟨_, by rw [hav.1]; exact hat_34⟩) (fun M_41 hle_42 hat_43 => ?_)
          show SW x [pl (xg x) M_41] _ _ _ _ [.ref q_40]
          exact sw_aret F (some q_40) _ rfl rfl (by first | exact Or.inl ⟨_, rfl⟩ | exact Or.inr ⟨_, rfl⟩) dJ8_add_2_110 (by rw [hPo]; exact ⟨M_41, q_40, some r1_31, rfl, (le_.tr (le_.tr hle_28 hle_33) hle_42), hat_43, rfl⟩)
      ·
        have c_52 : cpt (x_ * tn (t - s)) ≠ -9223372036854775808 := by revert c_52; (repeat' split) <;> omega
        refine SW.cast (L' := [(9, .long (jL (x_ * tn (t - s)))), (8, .int (jI (t - s))), (6, .long (jL (s - t))), (0, .long (jL x_)), (2, .int (jI s)), (3, .long (jL y_)), (5, .int (jI t))]) ?_ rfl (by rw [show Value.long (jL (cpt (x_ * tn (t - s)))) = Value.long (jL (x_ * tn (t - s))) from topL (by omega)]) rfl
        refine sw_lload (n := 57) F 0 rfl dJ8_add_2_55 rfl ?_
        refine sw_lload_n (n := 58) F 5 rfl rfl dJ8_add_2_57 rfl ?_
        refine sw_iload (n := 60) F 6 rfl dJ8_add_2_58 rfl ?_
        refine sw_callS (n := 63) F (ct_J8_add_3 (g := xg x) (l := xl x) M (x_ * tn (t - s)) y_ t (by first | omega | assumption) hy ht) q1037 q1038 q112 q1039 nd_J8_add_3 rfl (by decide) [0] rfl [] rfl 1 12 ⟨by omega, by omega⟩ [] rfl (Nat.le_of_ble_eq_true rfl) dJ8_add_2_60 rfl (fun _ _ h => h.elim) (fun v Ws h => ?_)
        obtain ⟨M1_44, r1_45, o1_46, rfl, hle_47, hat_48, rfl⟩ := h
        show SW x [pl (xg x) M1_44] _ _ _ _ [.ref r1_45]
        exact sw_aret F (some r1_45) _ rfl rfl (by first | exact Or.inl ⟨_, rfl⟩ | exact Or.inr ⟨_, rfl⟩) dJ8_add_2_63 (by rw [hPo]; exact ⟨M1_44, r1_45, o1_46, rfl, hle_47, (by first | assumption | (rw [hav.1, hav.2]; assumption) | (rw [hav.1, hav.2, Int.add_comm]; assumption)), rfl⟩)
  ·
    have c_12 : s - t = 0 := by revert c_12; (repeat' split) <;> omega
    have hav := adV_e (u := x_) (w := y_) (show s = t by omega)
    refine sw_lload_n (n := 16) F 1 rfl rfl dJ8_add_2_15 rfl ?_
    refine sw_lload_n (n := 17) F 3 rfl rfl dJ8_add_2_16 rfl ?_
    refine sw_iload_n (n := 18) F 2 rfl rfl dJ8_add_2_17 rfl ?_
    refine sw_callS (n := 21) F (ct_J8_add_3 (g := xg x) (l := xl x) M x_ y_ s hx hy hs) q1037 q1038 q112 q1039 nd_J8_add_3 rfl (by decide) [0] rfl [] rfl 1 12 ⟨by omega, by omega⟩ [] rfl (Nat.le_of_ble_eq_true rfl) dJ8_add_2_18 rfl (fun _ _ h => h.elim) (fun v Ws h => ?_)
    obtain ⟨M1_49, r1_50, o1_51, rfl, hle_52, hat_53, rfl⟩ := h
    show SW x [pl (xg x) M1_49] _ _ _ _ [.ref r1_50]
    exact sw_aret F (some r1_50) _ rfl rfl (by first | exact Or.inl ⟨_, rfl⟩ | exact Or.inr ⟨_, rfl⟩) dJ8_add_2_21 (by rw [hPo]; exact ⟨M1_49, r1_50, o1_51, rfl, hle_52, (by first | assumption | (rw [hav.1, hav.2]; assumption) | (rw [hav.1, hav.2, Int.add_comm]; assumption)), rfl⟩)
theorem nd_J8_add_5 : yJ8_add_5.cls ≠ "java/lang/invoke/MethodHandle" ∧ yJ8_add_5.cls ≠ "java/lang/invoke/VarHandle" ∧ (parseMethodDescriptor yJ8_add_5.desc).map (fun d => d.parameters.length) = some 4 := by decide +kernel
set_option maxRecDepth 100000 in
set_option maxHeartbeats 16000000 in
theorem ct_J8_add_5 {g : GG} {l : Launch} (M : Nat → Option PV) (x_ : Int) (s : Int) (q : Nat) (w : Int) (a : Nat) (t : Int) (hx : at_ g M q (vI w a)) (hxx : -9223372036854775807 ≤ x_ ∧ x_ ≤ 9223372036854775807) (hnw : ¬ fit w) (hbw : w.natAbs < bw 4) (hs : -2147483648 ≤ s ∧ s ≤ 2147483647) (ht : -2147483648 ≤ t ∧ t ≤ 2147483647) (hd : -18 ≤ s - t ∧ s - t ≤ 18) : Ct g l yJ8_add_5 (ws_ yJ8_add_5 cJ8_add_5 13 (Option.some (Jvm.ClassFile.FieldType.object "java/math/BigDecimal"))) 6 137 7 45 [.long (jL x_), .int (jI s), .ref q, .int (jI t)] [pl g M] (fun v9 Ws9 => ∃ M1 : Nat → Option PV, ∃ r1 : Nat, ∃ o1 : Option Nat, v9 = some (.ref r1) ∧ (le_ M M1) ∧ (at_ g M1 r1 (vD (adV x_ s w t) (grI s t) o1)) ∧ Ws9 = [pl g M1]) (nox) := by
  refine Ct.of (cc := cJ8_add_5) (nL := 13) (ret := (Option.some (Jvm.ClassFile.FieldType.object "java/math/BigDecimal"))) (by decide) rfl (Nat.le_of_ble_eq_true rfl) ?_
  intro x hg hl hPo hPx hmc hms F
  subst hg; subst hl
  refine SW.cast (L' := [(0, .long (jL x_)), (2, .int (jI s)), (3, .ref q), (4, .int (jI t))]) ?_ rfl rfl rfl
  have hs9 := sgI_cases x_
  have hs8 := sgI_cases w
  have hgr := grI_cases s t
  have hb5 := adV_bw (u := x_) (s := s) (w := w) (t := t) (nA_63 (by omega) (by decide)) hbw hd
  refine sw_iload_n (n := 1) F 1 rfl rfl dJ8_add_5_0 rfl ?_
  refine sw_istore (n := 3) F (L2 := [(5, .int (jI s)), (0, .long (jL x_)), (2, .int (jI s)), (3, .ref q), (4, .int (jI t))]) rfl (by decide) dJ8_add_5_1 rfl ?_
  refine sw_iload (n := 5) F 0 rfl dJ8_add_5_3 rfl ?_
  refine sw_i2l (n := 6) F (by omega) dJ8_add_5_5 rfl ?_
  refine sw_iload (n := 8) F 4 rfl dJ8_add_5_6 rfl ?_
  refine sw_i2l (n := 9) F (by omega) dJ8_add_5_8 rfl ?_
  refine sw_lsub (n := 10) F dJ8_add_5_9 rfl ?_
  refine sw_lstore (n := 12) F (L2 := [(6, .long (jL (s - t))), (5, .int (jI s)), (0, .long (jL x_)), (2, .int (jI s)), (3, .ref q), (4, .int (jI t))]) rfl (by decide) dJ8_add_5_10 rfl ?_
  refine sw_lload_n (n := 13) F 2 rfl rfl dJ8_add_5_12 rfl ?_
  refine sw_callS (n := 16) F (ct_J21_signum (g := xg x) (l := xl x) x_ (by first | omega | assumption)) q1491 q1098 q129 q1099 nd_J21_signum rfl (by decide) [0] rfl [pl (xg x) M] rfl 7 45 ⟨by omega, by omega⟩ [] rfl (Nat.le_of_ble_eq_true rfl) dJ8_add_5_13 rfl (fun _ _ h => h.elim) (fun v Ws h => ?_)
  obtain ⟨rfl, rfl⟩ := h
  show SW x [pl (xg x) M] _ _ _ _ [.int (jI (sgI x_))]
  refine sw_aload_n (n := 17) F 4 (some q) rfl rfl rfl dJ8_add_5_16 rfl ?_
  refine sw_getI (n := 20) F 0 rfl hx (k := 0) ⟨(RJ19, TJ19, 6), rfl, by decide, q1071, in_J19, Or.inl rfl⟩ (.int (jI (sgI w))) (fun _ _ _ _ => rfl) dJ8_add_5_17 rfl ?_
  refine sw_icmp_ne (n := 23) F (by omega) (by omega) (tgt := 27) dJ8_add_5_20 (by decide) rfl (fun c_20 => ?_) (fun c_20 => ?_)
  ·
    refine sw_iconst (n := 28) F (0) (by decide) dJ8_add_5_27 rfl ?_
    refine sw_istore (n := 30) F (L2 := [(8, .int (jI 0)), (6, .long (jL (s - t))), (5, .int (jI s)), (0, .long (jL x_)), (2, .int (jI s)), (3, .ref q), (4, .int (jI t))]) rfl (by decide) dJ8_add_5_28 rfl ?_
    have K115 : ∀ (ss : Int) (M2 : Nat → Option PV) (r2 : Nat) (a2 : Nat) (sc : Int), (le_ M M2) → (at_ (xg x) M2 r2 (vI (adV x_ s w t) a2)) → ((ss = 1 ∧ sgI x_ = sgI w) ∨ (ss = 0 ∧ sgI x_ ≠ sgI w)) → (sc = grI s t) → SW x [pl (xg x) M2] 1 5 115 [(5, .int (jI sc)), (8, .int (jI ss)), (9, .ref r2)] [] := by
      intro ss M2 r2 a2 sc hl2 hr2 hss hsc
      refine sw_iload (n := 117) F 1 rfl dJ8_add_5_115 rfl ?_
      have hnf3 : sgI x_ = sgI w → ¬ fit (adV x_ s w t) := fun hq => by rcases Int.lt_trichotomy s t with q | q | q; rw [(adV_l q).1, Int.add_comm]; have hq2 := mul_sgn (a := x_) (k := t - s); exact nofit_add hnw (sg_same (by omega)); rw [(adV_e q).1, Int.add_comm]; exact nofit_add hnw (sg_same (by omega)); rw [(adV_g q).1, Int.add_comm]; have hq2 := mul_sgn (a := w) (k := s - t); exact nofit_add (nofit_mul hnw) (sg_same (by omega))
      refine sw_if_eq (n := 120) F (by omega) (tgt := 138) dJ8_add_5_117 (by decide) rfl (fun c_117 => ?_) (fun c_117 => ?_)
      ·
        refine sw_aload (n := 140) F 2 (some r2) rfl rfl dJ8_add_5_138 rfl ?_
        refine sw_iload (n := 142) F 0 rfl dJ8_add_5_140 rfl ?_
        refine sw_iconst (n := 143) F (0) (by decide) dJ8_add_5_142 rfl ?_
        refine sw_callS (n := 146) F (ct_J8_valueOf_3 (g := xg x) (l := xl x) M2 r2 (adV x_ s w t) a2 sc 0 hr2 (by exact hb5) (by first | omega | assumption) (by first | omega | assumption)) q1485 q1486 q112 q1487 nd_J8_valueOf_3 rfl (by decide) [0] rfl [] rfl 0 0 ⟨by omega, by omega⟩ [] rfl (Nat.le_of_ble_eq_true rfl) dJ8_add_5_143 rfl (fun _ _ h => h.elim) (fun v Ws h => ?_)
        obtain ⟨M1_1, r1_2, o1_3, rfl, hle_4, hat_5, rfl⟩ := h
        show SW x [pl (xg x) M1_1] _ _ _ _ [.ref r1_2]
        exact sw_aret F (some r1_2) _ rfl rfl (by first | exact Or.inl ⟨_, rfl⟩ | exact Or.inr ⟨_, rfl⟩) dJ8_add_5_146 (by rw [hPo]; exact ⟨M1_1, r1_2, o1_3, rfl, (le_.tr hl2 hle_4), (by rw [← hsc]; assumption), rfl⟩)
      ·
        refine sw_new (n := 123) F (ci := 13) (N := 5) RJ8 TJ8 tyJ8 rfl q251 q252 q112 in_J8 tyJ8_ok (fs := [.null, .int (jI 0), .int (jI 0), .null, .long (jL 0)]) rfl 0 0 ⟨by omega, by omega⟩ dJ8_add_5_120 rfl (fun q_6 => ?_)
        refine sw_dup (n := 124) F rfl dJ8_add_5_123 rfl ?_
        refine sw_aload (n := 126) F 2 (some r2) rfl rfl dJ8_add_5_124 rfl ?_
        refine sw_ldc2 (n := 129) F (-9223372036854775808) q250 (by decide) dJ8_add_5_126 rfl ?_
        refine sw_iload (n := 131) F 0 rfl dJ8_add_5_129 rfl ?_
        refine sw_iconst (n := 132) F (0) (by decide) dJ8_add_5_131 rfl ?_
        refine sw_callI (n := 135) F (ct_J8_init (g := xg x) (l := xl x) q_6 (some r2) (-9223372036854775808) sc 0 ) q253 q254 q112 q255 rfl nd_J8_init rfl (by decide) [0, 1] rfl [pl (xg x) M2] rfl 0 0 ⟨by omega, by omega⟩ [.ref q_6] rfl (Nat.le_of_ble_eq_true rfl) dJ8_add_5_132 rfl (fun _ _ h => h.elim) (fun v Ws h => ?_)
        obtain ⟨rfl, rfl⟩ := h
        show SW x [ob (xg x) q_6 13 [va_rf (some r2), .int (jI sc), .int (jI 0), .null, .long (jL (-9223372036854775808))], pl (xg x) M2] _ _ _ _ [.ref q_6]
        refine sw_goto F (n := 146) dJ8_add_5_135 (by decide) ?_
        refine SW.cast (Ps' := ob (xg x) q_6 13 (flD (adV x_ s w t) (grI s t) (some r2) 0) :: [pl (xg x) M2]) ?_ (by simp only [flD, ← hsc, cpt_0 (hnf3 (by omega))] <;> rfl) rfl rfl
        refine sw_absD F (Or.inr rfl) (fun h => by cases h) (fun b h => by cases h; exact ⟨_, hr2⟩) (fun M_7 hle_8 hat_9 => ?_)
        show SW x [pl (xg x) M_7] _ _ _ _ [.ref q_6]
        exact sw_aret F (some q_6) _ rfl rfl (by first | exact Or.inl ⟨_, rfl⟩ | exact Or.inr ⟨_, rfl⟩) dJ8_add_5_146 (by rw [hPo]; exact ⟨M_7, q_6, some r2, rfl, (le_.tr hl2 hle_8), hat_9, rfl⟩)
    refine sw_lload (n := 32) F 1 rfl dJ8_add_5_30 rfl ?_
    refine sw_lconst (n := 33) F 0 (by decide) dJ8_add_5_32 rfl ?_
    refine sw_lcmp (n := 34) F (by omega) (by decide) dJ8_add_5_33 rfl ?_
    refine sw_if_ge (n := 37) F (by omega) (tgt := 93) dJ8_add_5_34 (by decide) rfl (fun c_34 => ?_) (fun c_34 => ?_)
    ·
      have c_34 : s - t ≥ 0 := by revert c_34; (repeat' split) <;> omega
      have hb6 := Nat.lt_of_lt_of_le hbw (bw_mono (show 4 ≤ 6 by decide))
      refine sw_aload_n (n := 94) F 5 (some q) rfl rfl rfl dJ8_add_5_93 rfl ?_
      refine sw_lload (n := 96) F 1 rfl dJ8_add_5_94 rfl ?_
      refine sw_callS (n := 99) F (ct_J8_checkScale_2 (g := xg x) (l := xl x) q (s - t) (by first | omega | assumption)) q1493 q1494 q112 q1495 nd_J8_checkScale_2 rfl (by decide) [0] rfl [pl (xg x) M] rfl 7 45 ⟨by omega, by omega⟩ [] rfl (Nat.le_of_ble_eq_true rfl) dJ8_add_5_96 rfl (fun _ _ h => h.elim) (fun v Ws h => ?_)
      obtain ⟨rfl, rfl⟩ := h
      show SW x [pl (xg x) M] _ _ _ _ [.int (jI (s - t))]
      refine sw_istore (n := 101) F (L2 := [(10, .int (jI (s - t))), (8, .int (jI 0)), (6, .long (jL (s - t))), (5, .int (jI s)), (0, .long (jL x_)), (2, .int (jI s)), (3, .ref q), (4, .int (jI t))]) rfl (by decide) dJ8_add_5_99 rfl ?_
      refine sw_aload_n (n := 102) F 6 (some q) rfl rfl rfl dJ8_add_5_101 rfl ?_
      refine sw_iload (n := 104) F 0 rfl dJ8_add_5_102 rfl ?_
      refine sw_callS (n := 107) F (ct_J8_bigMultiplyPowerTen_2 (g := xg x) (l := xl x) M q w a (s - t) hx hbw (by first | omega | assumption)) q1500 q1501 q112 q1502 nd_J8_bigMultiplyPowerTen_2 rfl (by decide) [0] rfl [] rfl 4 25 ⟨by omega, by omega⟩ [] rfl (Nat.le_of_ble_eq_true rfl) dJ8_add_5_104 rfl (fun _ _ h => h.elim) (fun v Ws h => ?_)
      obtain ⟨M1_10, r1_11, a1_12, rfl, hle_13, hat_14, rfl⟩ := h
      show SW x [pl (xg x) M1_10] _ _ _ _ [.ref r1_11]
      refine sw_astore_n (n := 108) F (some r1_11) (L2 := [(3, .ref r1_11), (10, .int (jI (s - t))), (8, .int (jI 0)), (6, .long (jL (s - t))), (5, .int (jI s)), (0, .long (jL x_)), (2, .int (jI s)), (4, .int (jI t))]) rfl rfl (by decide) rfl dJ8_add_5_107 rfl ?_
      refine sw_aload_n (n := 109) F 0 (some r1_11) rfl rfl rfl dJ8_add_5_108 rfl ?_
      refine sw_lload_n (n := 110) F 5 rfl rfl dJ8_add_5_109 rfl ?_
      refine sw_callV (n := 113) F (ct_J19_add (g := xg x) (l := xl x) M1_10 r1_11 (w * tn (s - t)) a1_12 x_ hat_14 hxx (by exact mulT_bw hbw (by omega))) (rcvI F 0 rfl hat_14) q1092 q1093 q1094 q127 q1095 nd_J19_add rfl (by decide) [0] rfl [] rfl 1 5 ⟨by omega, by omega⟩ [] rfl (Nat.le_of_ble_eq_true rfl) dJ8_add_5_110 rfl (fun _ _ h => h.elim) (fun v Ws h => ?_)
      obtain ⟨M1_15, r1_16, a1_17, rfl, hle_18, hat_19, rfl⟩ := h
      show SW x [pl (xg x) M1_15] _ _ _ _ [.ref r1_16]
      refine sw_astore (n := 115) F (some r1_16) (L2 := [(9, .ref r1_16), (3, .ref r1_11), (10, .int (jI (s - t))), (8, .int (jI 0)), (6, .long (jL (s - t))), (5, .int (jI s)), (0, .long (jL x_)), (2, .int (jI s)), (4, .int (jI t))]) rfl rfl (by decide) dJ8_add_5_113 rfl ?_
      refine sw_loc [5, 3, 0] (L2 := [(5, .int (jI s)), (8, .int (jI 0)), (9, .ref r1_16)]) rfl ?_
      exact K115 0 M1_15 r1_16 a1_17 s (le_.tr hle_13 hle_18) (by first | (rw [hav.1, Int.add_comm]; assumption) | (rcases (show s = t ∨ t < s by omega) with q | q; rw [(adV_e q).1, Int.add_comm]; have e9 : w = w * tn (s - t) := (by rw [tn_0 (by omega), Int.mul_one]); rw [e9]; assumption; rw [(adV_g q).1, Int.add_comm]; assumption)) (by first | omega | assumption) (by omega)
    ·
      have c_34 : s - t < 0 := by revert c_34; (repeat' split) <;> omega
      have hav := adV_l (u := x_) (w := w) (show s < t by omega)
      refine sw_lload_n (n := 38) F 3 rfl rfl dJ8_add_5_37 rfl ?_
      refine sw_lload (n := 40) F 1 rfl dJ8_add_5_38 rfl ?_
      refine sw_lneg (n := 41) F dJ8_add_5_40 rfl ?_
      refine sw_callS (n := 44) F (ct_J8_checkScale (g := xg x) (l := xl x) x_ (-(s - t)) (by first | omega | assumption) (by first | omega | assumption)) q1286 q1287 q112 q1288 nd_J8_checkScale rfl (by decide) [0] rfl [pl (xg x) M] rfl 7 45 ⟨by omega, by omega⟩ [] rfl (Nat.le_of_ble_eq_true rfl) dJ8_add_5_41 rfl (fun _ _ h => h.elim) (fun v Ws h => ?_)
      obtain ⟨rfl, rfl⟩ := h
      show SW x [pl (xg x) M] _ _ _ _ [.int (jI (-(s - t)))]
      refine sw_top (topI (show ((-(s - t)) : Int) = t - s by omega)) ?_
      refine sw_istore (n := 46) F (L2 := [(10, .int (jI (t - s))), (8, .int (jI 0)), (6, .long (jL (s - t))), (5, .int (jI s)), (0, .long (jL x_)), (2, .int (jI s)), (3, .ref q), (4, .int (jI t))]) rfl (by decide) dJ8_add_5_44 rfl ?_
      refine sw_iload (n := 48) F 7 rfl dJ8_add_5_46 rfl ?_
      refine sw_istore (n := 50) F (L2 := [(5, .int (jI t)), (10, .int (jI (t - s))), (8, .int (jI 0)), (6, .long (jL (s - t))), (0, .long (jL x_)), (2, .int (jI s)), (3, .ref q), (4, .int (jI t))]) rfl (by decide) dJ8_add_5_48 rfl ?_
      refine sw_lload_n (n := 51) F 4 rfl rfl dJ8_add_5_50 rfl ?_
      refine sw_iload (n := 53) F 1 rfl dJ8_add_5_51 rfl ?_
      refine sw_callS (n := 56) F (ct_J8_longMultiplyPowerTen (g := xg x) (l := xl x) x_ (t - s) hxx (by first | omega | assumption)) q1296 q1297 q112 q1298 nd_J8_longMultiplyPowerTen rfl (by decide) [0] rfl [pl (xg x) M] rfl 7 45 ⟨by omega, by omega⟩ [] rfl (Nat.le_of_ble_eq_true rfl) dJ8_add_5_53 rfl (fun _ _ h => h.elim) (fun v Ws h => ?_)
      obtain ⟨rfl, rfl⟩ := h
      show SW x [pl (xg x) M] _ _ _ _ [.long (jL (cpt (x_ * ((10 ^ (t - s).toNat : Nat) : Int))))]
      have hcc := cpt_cases (x_ * tn (t - s))
      have hsg := mul_sgn (a := x_) (k := t - s)
      refine sw_top (topL (show (cpt (x_ * ((10 ^ (t - s).toNat : Nat) : Int)) : Int) = cpt (x_ * tn (t - s)) by rfl)) ?_
      refine sw_lstore (n := 58) F (L2 := [(11, .long (jL (cpt (x_ * tn (t - s))))), (5, .int (jI t)), (10, .int (jI (t - s))), (8, .int (jI 0)), (6, .long (jL (s - t))), (0, .long (jL x_)), (2, .int (jI s)), (3, .ref q), (4, .int (jI t))]) rfl (by decide) dJ8_add_5_56 rfl ?_
      refine sw_lload (n := 60) F 0 rfl dJ8_add_5_58 rfl ?_
      refine sw_ldc2 (n := 63) F (-9223372036854775808) q250 (by decide) dJ8_add_5_60 rfl ?_
      refine sw_lcmp (n := 64) F (by omega) (by decide) dJ8_add_5_63 rfl ?_
      refine sw_if_ne (n := 67) F (by omega) (tgt := 82) dJ8_add_5_64 (by decide) rfl (fun c_64 => ?_) (fun c_64 => ?_)
      ·
        have c_64 : cpt (x_ * tn (t - s)) ≠ -9223372036854775808 := by revert c_64; (repeat' split) <;> omega
        refine SW.cast (L' := [(11, .long (jL (x_ * tn (t - s)))), (5, .int (jI t)), (10, .int (jI (t - s))), (8, .int (jI 0)), (6, .long (jL (s - t))), (0, .long (jL x_)), (2, .int (jI s)), (3, .ref q), (4, .int (jI t))]) ?_ rfl (by rw [show Value.long (jL (cpt (x_ * tn (t - s)))) = Value.long (jL (x_ * tn (t - s))) from topL (by omega)]) rfl
        refine sw_aload_n (n := 83) F 7 (some q) rfl rfl rfl dJ8_add_5_82 rfl ?_
        refine sw_lload (n := 85) F 0 rfl dJ8_add_5_83 rfl ?_
        refine sw_callV (n := 88) F (ct_J19_add (g := xg x) (l := xl x) M q w a (x_ * tn (t - s)) hx (by first | omega | assumption) (by exact Nat.lt_of_lt_of_le hbw (bw_mono (by decide)))) (rcvI F 0 rfl hx) q1092 q1093 q1094 q127 q1095 nd_J19_add rfl (by decide) [0] rfl [] rfl 4 25 ⟨by omega, by omega⟩ [] rfl (Nat.le_of_ble_eq_true rfl) dJ8_add_5_85 rfl (fun _ _ h => h.elim) (fun v Ws h => ?_)
        obtain ⟨M1_20, r1_21, a1_22, rfl, hle_23, hat_24, rfl⟩ := h
        show SW x [pl (xg x) M1_20] _ _ _ _ [.ref r1_21]
        refine sw_astore (n := 90) F (some r1_21) (L2 := [(9, .ref r1_21), (11, .long (jL (x_ * tn (t - s)))), (5, .int (jI t)), (10, .int (jI (t - s))), (8, .int (jI 0)), (6, .long (jL (s - t))), (0, .long (jL x_)), (2, .int (jI s)), (3, .ref q), (4, .int (jI t))]) rfl rfl (by decide) dJ8_add_5_88 rfl ?_
        refine sw_goto F (n := 115) dJ8_add_5_90 (by decide) ?_
        refine sw_room (bc2 := 1) (bs2 := 5) ⟨by omega, by omega⟩ ?_
        refine sw_loc [2, 4, 0] (L2 := [(5, .int (jI t)), (8, .int (jI 0)), (9, .ref r1_21)]) rfl ?_
        exact K115 0 M1_20 r1_21 a1_22 t hle_23 (by first | (rw [hav.1, Int.add_comm]; assumption) | (rcases (show s = t ∨ t < s by omega) with q | q; rw [(adV_e q).1, Int.add_comm]; have e9 : w = w * tn (s - t) := (by rw [tn_0 (by omega), Int.mul_one]); rw [e9]; assumption; rw [(adV_g q).1, Int.add_comm]; assumption)) (by first | omega | assumption) (by omega)
      ·
        have c_64 : cpt (x_ * tn (t - s)) = -9223372036854775808 := by revert c_64; (repeat' split) <;> omega
        have hnf : ¬ fit (x_ * tn (t - s)) := cpt_y c_64
        have hbb := mulT_bw (v := x_) (k := t - s) (nA_63 (by omega) (Nat.le_refl 2)) (by omega)
        have hb6 := Nat.lt_of_lt_of_le hbb (bw_mono (show 2 + 2 ≤ 6 by decide))
        refine sw_aload_n (n := 68) F 7 (some q) rfl rfl rfl dJ8_add_5_67 rfl ?_
        refine sw_lload_n (n := 69) F 5 rfl rfl dJ8_add_5_68 rfl ?_
        refine sw_iload (n := 71) F 2 rfl dJ8_add_5_69 rfl ?_
        refine sw_callS (n := 74) F (ct_J8_bigMultiplyPowerTen (g := xg x) (l := xl x) M x_ (t - s) hxx (by first | omega | assumption)) q1304 q1305 q112 q1306 nd_J8_bigMultiplyPowerTen rfl (by decide) [0] rfl [] rfl 4 25 ⟨by omega, by omega⟩ [.ref q] rfl (Nat.le_of_ble_eq_true rfl) dJ8_add_5_71 rfl (fun _ _ h => h.elim) (fun v Ws h => ?_)
        obtain ⟨M1_25, r1_26, a1_27, rfl, hle_28, hat_29, rfl⟩ := h
        show SW x [pl (xg x) M1_25] _ _ _ _ [.ref r1_26, .ref q]
        refine sw_callV (n := 77) F (ct_J19_add_3 (g := xg x) (l := xl x) M1_25 q w a r1_26 (x_ * tn (t - s)) a1_27 (at_.up hx hle_28) hat_29 (by exact Nat.lt_of_lt_of_le hbw (bw_mono (by decide))) (by exact hb6)) (rcvI F 0 rfl (at_.up hx hle_28)) q1492 q1443 q1444 q127 q1445 nd_J19_add_3 rfl (by decide) [0] rfl [] rfl 1 5 ⟨by omega, by omega⟩ [] rfl (Nat.le_of_ble_eq_true rfl) dJ8_add_5_74 rfl (fun _ _ h => h.elim) (fun v Ws h => ?_)
        obtain ⟨M1_30, r1_31, a1_32, rfl, hle_33, hat_34, rfl⟩ := h
        show SW x [pl (xg x) M1_30] _ _ _ _ [.ref r1_31]
        refine sw_astore (n := 79) F (some r1_31) (L2 := [(9, .ref r1_31), (11, .long (jL (cpt (x_ * tn (t - s))))), (5, .int (jI t)), (10, .int (jI (t - s))), (8, .int (jI 0)), (6, .long (jL (s - t))), (0, .long (jL x_)), (2, .int (jI s)), (3, .ref q), (4, .int (jI t))]) rfl rfl (by decide) dJ8_add_5_77 rfl ?_
        refine sw_goto F (n := 90) dJ8_add_5_79 (by decide) ?_
        refine sw_goto F (n := 115) dJ8_add_5_90 (by decide) ?_
        refine sw_loc [2, 4, 0] (L2 := [(5, .int (jI t)), (8, .int (jI 0)), (9, .ref r1_31)]) rfl ?_
        exact K115 0 M1_30 r1_31 a1_32 t (le_.tr hle_28 hle_33) (by first | (rw [hav.1, Int.add_comm]; assumption) | (rcases (show s = t ∨ t < s by omega) with q | q; rw [(adV_e q).1, Int.add_comm]; have e9 : w = w * tn (s - t) := (by rw [tn_0 (by omega), Int.mul_one]); rw [e9]; assumption; rw [(adV_g q).1, Int.add_comm]; assumption)) (by first | omega | assumption) (by omega)
  ·
    refine sw_iconst (n := 24) F (1) (by decide) dJ8_add_5_23 rfl ?_
    refine sw_goto F (n := 28) dJ8_add_5_24 (by decide) ?_
    refine sw_istore (n := 30) F (L2 := [(8, .int (jI 1)), (6, .long (jL (s - t))), (5, .int (jI s)), (0, .long (jL x_)), (2, .int (jI s)), (3, .ref q), (4, .int (jI t))]) rfl (by decide) dJ8_add_5_28 rfl ?_
    have K115 : ∀ (ss : Int) (M2 : Nat → Option PV) (r2 : Nat) (a2 : Nat) (sc : Int), (le_ M M2) → (at_ (xg x) M2 r2 (vI (adV x_ s w t) a2)) → ((ss = 1 ∧ sgI x_ = sgI w) ∨ (ss = 0 ∧ sgI x_ ≠ sgI w)) → (sc = grI s t) → SW x [pl (xg x) M2] 1 5 115 [(5, .int (jI sc)), (8, .int (jI ss)), (9, .ref r2)] [] := by
      intro ss M2 r2 a2 sc hl2 hr2 hss hsc
      refine sw_iload (n := 117) F 1 rfl dJ8_add_5_115 rfl ?_
      have hnf3 : sgI x_ = sgI w → ¬ fit (adV x_ s w t) := fun hq => by rcases Int.lt_trichotomy s t with q | q | q; rw [(adV_l q).1, Int.add_comm]; have hq2 := mul_sgn (a := x_) (k := t - s); exact nofit_add hnw (sg_same (by omega)); rw [(adV_e q).1, Int.add_comm]; exact nofit_add hnw (sg_same (by omega)); rw [(adV_g q).1, Int.add_comm]; have hq2 := mul_sgn (a := w) (k := s - t); exact nofit_add (nofit_mul hnw) (sg_same (by omega))
      refine sw_if_eq (n := 120) F (by omega) (tgt := 138) dJ8_add_5_117 (by decide) rfl (fun c_117 => ?_) (fun c_117 => ?_)
      ·
        refine sw_aload (n := 140) F 2 (some r2) rfl rfl dJ8_add_5_138 rfl ?_
        refine sw_iload (n := 142) F 0 rfl dJ8_add_5_140 rfl ?_
        refine sw_iconst (n := 143) F (0) (by decide) dJ8_add_5_142 rfl ?_
        refine sw_callS (n := 146) F (ct_J8_valueOf_3 (g := xg x) (l := xl x) M2 r2 (adV x_ s w t) a2 sc 0 hr2 (by exact hb5) (by first | omega | assumption) (by first | omega | assumption)) q1485 q1486 q112 q1487 nd_J8_valueOf_3 rfl (by decide) [0] rfl [] rfl 0 0 ⟨by omega, by omega⟩ [] rfl (Nat.le_of_ble_eq_true rfl) dJ8_add_5_143 rfl (fun _ _ h => h.elim) (fun v Ws h => ?_)
        obtain ⟨M1_35, r1_36, o1_37, rfl, hle_38, hat_39, rfl⟩ := h
        show SW x [pl (xg x) M1_35] _ _ _ _ [.ref r1_36]
        exact sw_aret F (some r1_36) _ rfl rfl (by first | exact Or.inl ⟨_, rfl⟩ | exact Or.inr ⟨_, rfl⟩) dJ8_add_5_146 (by rw [hPo]; exact ⟨M1_35, r1_36, o1_37, rfl, (le_.tr hl2 hle_38), (by rw [← hsc]; assumption), rfl⟩)
      ·
        refine sw_new (n := 123) F (ci := 13) (N := 5) RJ8 TJ8 tyJ8 rfl q251 q252 q112 in_J8 tyJ8_ok (fs := [.null, .int (jI 0), .int (jI 0), .null, .long (jL 0)]) rfl 0 0 ⟨by omega, by omega⟩ dJ8_add_5_120 rfl (fun q_40 => ?_)
        refine sw_dup (n := 124) F rfl dJ8_add_5_123 rfl ?_
        refine sw_aload (n := 126) F 2 (some r2) rfl rfl dJ8_add_5_124 rfl ?_
        refine sw_ldc2 (n := 129) F (-9223372036854775808) q250 (by decide) dJ8_add_5_126 rfl ?_
        refine sw_iload (n := 131) F 0 rfl dJ8_add_5_129 rfl ?_
        refine sw_iconst (n := 132) F (0) (by decide) dJ8_add_5_131 rfl ?_
        refine sw_callI (n := 135) F (ct_J8_init (g := xg x) (l := xl x) q_40 (some r2) (-9223372036854775808) sc 0 ) q253 q254 q112 q255 rfl nd_J8_init rfl (by decide) [0, 1] rfl [pl (xg x) M2] rfl 0 0 ⟨by omega, by omega⟩ [.ref q_40] rfl (Nat.le_of_ble_eq_true rfl) dJ8_add_5_132 rfl (fun _ _ h => h.elim) (fun v Ws h => ?_)
        obtain ⟨rfl, rfl⟩ := h
        show SW x [ob (xg x) q_40 13 [va_rf (some r2), .int (jI sc), .int (jI 0), .null, .long (jL (-9223372036854775808))], pl (xg x) M2] _ _ _ _ [.ref q_40]
        refine sw_goto F (n := 146) dJ8_add_5_135 (by decide) ?_
        refine SW.cast (Ps' := ob (xg x) q_40 13 (flD (adV x_ s w t) (grI s t) (some r2) 0) :: [pl (xg x) M2]) ?_ (by simp only [flD, ← hsc, cpt_0 (hnf3 (by omega))] <;> rfl) rfl rfl
        refine sw_absD F (Or.inr rfl) (fun h => by cases h) (fun b h => by cases h; exact ⟨_, hr2⟩) (fun M_41 hle_42 hat_43 => ?_)
        show SW x [pl (xg x) M_41] _ _ _ _ [.ref q_40]
        exact sw_aret F (some q_40) _ rfl rfl (by first | exact Or.inl ⟨_, rfl⟩ | exact Or.inr ⟨_, rfl⟩) dJ8_add_5_146 (by rw [hPo]; exact ⟨M_41, q_40, some r2, rfl, (le_.tr hl2 hle_42), hat_43, rfl⟩)
    refine sw_lload (n := 32) F 1 rfl dJ8_add_5_30 rfl ?_
    refine sw_lconst (n := 33) F 0 (by decide) dJ8_add_5_32 rfl ?_
    refine sw_lcmp (n := 34) F (by omega) (by decide) dJ8_add_5_33 rfl ?_
    refine sw_if_ge (n := 37) F (by omega) (tgt := 93) dJ8_add_5_34 (by decide) rfl (fun c_34 => ?_) (fun c_34 => ?_)
    ·
      have c_34 : s - t ≥ 0 := by revert c_34; (repeat' split) <;> omega
      have hb6 := Nat.lt_of_lt_of_le hbw (bw_mono (show 4 ≤ 6 by decide))
      refine sw_aload_n (n := 94) F 5 (some q) rfl rfl rfl dJ8_add_5_93 rfl ?_
      refine sw_lload (n := 96) F 1 rfl dJ8_add_5_94 rfl ?_
      refine sw_callS (n := 99) F (ct_J8_checkScale_2 (g := xg x) (l := xl x) q (s - t) (by first | omega | assumption)) q1493 q1494 q112 q1495 nd_J8_checkScale_2 rfl (by decide) [0] rfl [pl (xg x) M] rfl 7 45 ⟨by omega, by omega⟩ [] rfl (Nat.le_of_ble_eq_true rfl) dJ8_add_5_96 rfl (fun _ _ h => h.elim) (fun v Ws h => ?_)
      obtain ⟨rfl, rfl⟩ := h
      show SW x [pl (xg x) M] _ _ _ _ [.int (jI (s - t))]
      refine sw_istore (n := 101) F (L2 := [(10, .int (jI (s - t))), (8, .int (jI 1)), (6, .long (jL (s - t))), (5, .int (jI s)), (0, .long (jL x_)), (2, .int (jI s)), (3, .ref q), (4, .int (jI t))]) rfl (by decide) dJ8_add_5_99 rfl ?_
      refine sw_aload_n (n := 102) F 6 (some q) rfl rfl rfl dJ8_add_5_101 rfl ?_
      refine sw_iload (n := 104) F 0 rfl dJ8_add_5_102 rfl ?_
      refine sw_callS (n := 107) F (ct_J8_bigMultiplyPowerTen_2 (g := xg x) (l := xl x) M q w a (s - t) hx hbw (by first | omega | assumption)) q1500 q1501 q112 q1502 nd_J8_bigMultiplyPowerTen_2 rfl (by decide) [0] rfl [] rfl 4 25 ⟨by omega, by omega⟩ [] rfl (Nat.le_of_ble_eq_true rfl) dJ8_add_5_104 rfl (fun _ _ h => h.elim) (fun v Ws h => ?_)
      obtain ⟨M1_44, r1_45, a1_46, rfl, hle_47, hat_48, rfl⟩ := h
      show SW x [pl (xg x) M1_44] _ _ _ _ [.ref r1_45]
      refine sw_astore_n (n := 108) F (some r1_45) (L2 := [(3, .ref r1_45), (10, .int (jI (s - t))), (8, .int (jI 1)), (6, .long (jL (s - t))), (5, .int (jI s)), (0, .long (jL x_)), (2, .int (jI s)), (4, .int (jI t))]) rfl rfl (by decide) rfl dJ8_add_5_107 rfl ?_
      refine sw_aload_n (n := 109) F 0 (some r1_45) rfl rfl rfl dJ8_add_5_108 rfl ?_
      refine sw_lload_n (n := 110) F 5 rfl rfl dJ8_add_5_109 rfl ?_
      refine sw_callV (n := 113) F (ct_J19_add (g := xg x) (l := xl x) M1_44 r1_45 (w * tn (s - t)) a1_46 x_ hat_48 hxx (by exact mulT_bw hbw (by omega))) (rcvI F 0 rfl hat_48) q1092 q1093 q1094 q127 q1095 nd_J19_add rfl (by decide) [0] rfl [] rfl 1 5 ⟨by omega, by omega⟩ [] rfl (Nat.le_of_ble_eq_true rfl) dJ8_add_5_110 rfl (fun _ _ h => h.elim) (fun v Ws h => ?_)
      obtain ⟨M1_49, r1_50, a1_51, rfl, hle_52, hat_53, rfl⟩ := h
      show SW x [pl (xg x) M1_49] _ _ _ _ [.ref r1_50]
      refine sw_astore (n := 115) F (some r1_50) (L2 := [(9, .ref r1_50), (3, .ref r1_45), (10, .int (jI (s - t))), (8, .int (jI 1)), (6, .long (jL (s - t))), (5, .int (jI s)), (0, .long (jL x_)), (2, .int (jI s)), (4, .int (jI t))]) rfl rfl (by decide) dJ8_add_5_113 rfl ?_
      refine sw_loc [5, 3, 0] (L2 := [(5, .int (jI s)), (8, .int (jI 1)), (9, .ref r1_50)]) rfl ?_
      exact K115 1 M1_49 r1_50 a1_51 s (le_.tr hle_47 hle_52) (by first | (rw [hav.1, Int.add_comm]; assumption) | (rcases (show s = t ∨ t < s by omega) with q | q; rw [(adV_e q).1, Int.add_comm]; have e9 : w = w * tn (s - t) := (by rw [tn_0 (by omega), Int.mul_one]); rw [e9]; assumption; rw [(adV_g q).1, Int.add_comm]; assumption)) (by first | omega | assumption) (by omega)
    ·
      have c_34 : s - t < 0 := by revert c_34; (repeat' split) <;> omega
      have hav := adV_l (u := x_) (w := w) (show s < t by omega)
      refine sw_lload_n (n := 38) F 3 rfl rfl dJ8_add_5_37 rfl ?_
      refine sw_lload (n := 40) F 1 rfl dJ8_add_5_38 rfl ?_
      refine sw_lneg (n := 41) F dJ8_add_5_40 rfl ?_
      refine sw_callS (n := 44) F (ct_J8_checkScale (g := xg x) (l := xl x) x_ (-(s - t)) (by first | omega | assumption) (by first | omega | assumption)) q1286 q1287 q112 q1288 nd_J8_checkScale rfl (by decide) [0] rfl [pl (xg x) M] rfl 7 45 ⟨by omega, by omega⟩ [] rfl (Nat.le_of_ble_eq_true rfl) dJ8_add_5_41 rfl (fun _ _ h => h.elim) (fun v Ws h => ?_)
      obtain ⟨rfl, rfl⟩ := h
      show SW x [pl (xg x) M] _ _ _ _ [.int (jI (-(s - t)))]
      refine sw_top (topI (show ((-(s - t)) : Int) = t - s by omega)) ?_
      refine sw_istore (n := 46) F (L2 := [(10, .int (jI (t - s))), (8, .int (jI 1)), (6, .long (jL (s - t))), (5, .int (jI s)), (0, .long (jL x_)), (2, .int (jI s)), (3, .ref q), (4, .int (jI t))]) rfl (by decide) dJ8_add_5_44 rfl ?_
      refine sw_iload (n := 48) F 7 rfl dJ8_add_5_46 rfl ?_
      refine sw_istore (n := 50) F (L2 := [(5, .int (jI t)), (10, .int (jI (t - s))), (8, .int (jI 1)), (6, .long (jL (s - t))), (0, .long (jL x_)), (2, .int (jI s)), (3, .ref q), (4, .int (jI t))]) rfl (by decide) dJ8_add_5_48 rfl ?_
      refine sw_lload_n (n := 51) F 4 rfl rfl dJ8_add_5_50 rfl ?_
      refine sw_iload (n := 53) F 1 rfl dJ8_add_5_51 rfl ?_
      refine sw_callS (n := 56) F (ct_J8_longMultiplyPowerTen (g := xg x) (l := xl x) x_ (t - s) hxx (by first | omega | assumption)) q1296 q1297 q112 q1298 nd_J8_longMultiplyPowerTen rfl (by decide) [0] rfl [pl (xg x) M] rfl 7 45 ⟨by omega, by omega⟩ [] rfl (Nat.le_of_ble_eq_true rfl) dJ8_add_5_53 rfl (fun _ _ h => h.elim) (fun v Ws h => ?_)
      obtain ⟨rfl, rfl⟩ := h
      show SW x [pl (xg x) M] _ _ _ _ [.long (jL (cpt (x_ * ((10 ^ (t - s).toNat : Nat) : Int))))]
      have hcc := cpt_cases (x_ * tn (t - s))
      have hsg := mul_sgn (a := x_) (k := t - s)
      refine sw_top (topL (show (cpt (x_ * ((10 ^ (t - s).toNat : Nat) : Int)) : Int) = cpt (x_ * tn (t - s)) by rfl)) ?_
      refine sw_lstore (n := 58) F (L2 := [(11, .long (jL (cpt (x_ * tn (t - s))))), (5, .int (jI t)), (10, .int (jI (t - s))), (8, .int (jI 1)), (6, .long (jL (s - t))), (0, .long (jL x_)), (2, .int (jI s)), (3, .ref q), (4, .int (jI t))]) rfl (by decide) dJ8_add_5_56 rfl ?_
      refine sw_lload (n := 60) F 0 rfl dJ8_add_5_58 rfl ?_
      refine sw_ldc2 (n := 63) F (-9223372036854775808) q250 (by decide) dJ8_add_5_60 rfl ?_
      refine sw_lcmp (n := 64) F (by omega) (by decide) dJ8_add_5_63 rfl ?_
      refine sw_if_ne (n := 67) F (by omega) (tgt := 82) dJ8_add_5_64 (by decide) rfl (fun c_64 => ?_) (fun c_64 => ?_)
      ·
        have c_64 : cpt (x_ * tn (t - s)) ≠ -9223372036854775808 := by revert c_64; (repeat' split) <;> omega
        refine SW.cast (L' := [(11, .long (jL (x_ * tn (t - s)))), (5, .int (jI t)), (10, .int (jI (t - s))), (8, .int (jI 1)), (6, .long (jL (s - t))), (0, .long (jL x_)), (2, .int (jI s)), (3, .ref q), (4, .int (jI t))]) ?_ rfl (by rw [show Value.long (jL (cpt (x_ * tn (t - s)))) = Value.long (jL (x_ * tn (t - s))) from topL (by omega)]) rfl
        refine sw_aload_n (n := 83) F 7 (some q) rfl rfl rfl dJ8_add_5_82 rfl ?_
        refine sw_lload (n := 85) F 0 rfl dJ8_add_5_83 rfl ?_
        refine sw_callV (n := 88) F (ct_J19_add (g := xg x) (l := xl x) M q w a (x_ * tn (t - s)) hx (by first | omega | assumption) (by exact Nat.lt_of_lt_of_le hbw (bw_mono (by decide)))) (rcvI F 0 rfl hx) q1092 q1093 q1094 q127 q1095 nd_J19_add rfl (by decide) [0] rfl [] rfl 4 25 ⟨by omega, by omega⟩ [] rfl (Nat.le_of_ble_eq_true rfl) dJ8_add_5_85 rfl (fun _ _ h => h.elim) (fun v Ws h => ?_)
        obtain ⟨M1_54, r1_55, a1_56, rfl, hle_57, hat_58, rfl⟩ := h
        show SW x [pl (xg x) M1_54] _ _ _ _ [.ref r1_55]
        refine sw_astore (n := 90) F (some r1_55) (L2 := [(9, .ref r1_55), (11, .long (jL (x_ * tn (t - s)))), (5, .int (jI t)), (10, .int (jI (t - s))), (8, .int (jI 1)), (6, .long (jL (s - t))), (0, .long (jL x_)), (2, .int (jI s)), (3, .ref q), (4, .int (jI t))]) rfl rfl (by decide) dJ8_add_5_88 rfl ?_
        refine sw_goto F (n := 115) dJ8_add_5_90 (by decide) ?_
        refine sw_room (bc2 := 1) (bs2 := 5) ⟨by omega, by omega⟩ ?_
        refine sw_loc [2, 4, 0] (L2 := [(5, .int (jI t)), (8, .int (jI 1)), (9, .ref r1_55)]) rfl ?_
        exact K115 1 M1_54 r1_55 a1_56 t hle_57 (by first | (rw [hav.1, Int.add_comm]; assumption) | (rcases (show s = t ∨ t < s by omega) with q | q; rw [(adV_e q).1, Int.add_comm]; have e9 : w = w * tn (s - t) := (by rw [tn_0 (by omega), Int.mul_one]); rw [e9]; assumption; rw [(adV_g q).1, Int.add_comm]; assumption)) (by first | omega | assumption) (by omega)
      ·
        have c_64 : cpt (x_ * tn (t - s)) = -9223372036854775808 := by revert c_64; (repeat' split) <;> omega
        have hnf : ¬ fit (x_ * tn (t - s)) := cpt_y c_64
        have hbb := mulT_bw (v := x_) (k := t - s) (nA_63 (by omega) (Nat.le_refl 2)) (by omega)
        have hb6 := Nat.lt_of_lt_of_le hbb (bw_mono (show 2 + 2 ≤ 6 by decide))
        refine sw_aload_n (n := 68) F 7 (some q) rfl rfl rfl dJ8_add_5_67 rfl ?_
        refine sw_lload_n (n := 69) F 5 rfl rfl dJ8_add_5_68 rfl ?_
        refine sw_iload (n := 71) F 2 rfl dJ8_add_5_69 rfl ?_
        refine sw_callS (n := 74) F (ct_J8_bigMultiplyPowerTen (g := xg x) (l := xl x) M x_ (t - s) hxx (by first | omega | assumption)) q1304 q1305 q112 q1306 nd_J8_bigMultiplyPowerTen rfl (by decide) [0] rfl [] rfl 4 25 ⟨by omega, by omega⟩ [.ref q] rfl (Nat.le_of_ble_eq_true rfl) dJ8_add_5_71 rfl (fun _ _ h => h.elim) (fun v Ws h => ?_)
        obtain ⟨M1_59, r1_60, a1_61, rfl, hle_62, hat_63, rfl⟩ := h
        show SW x [pl (xg x) M1_59] _ _ _ _ [.ref r1_60, .ref q]
        refine sw_callV (n := 77) F (ct_J19_add_3 (g := xg x) (l := xl x) M1_59 q w a r1_60 (x_ * tn (t - s)) a1_61 (at_.up hx hle_62) hat_63 (by exact Nat.lt_of_lt_of_le hbw (bw_mono (by decide))) (by exact hb6)) (rcvI F 0 rfl (at_.up hx hle_62)) q1492 q1443 q1444 q127 q1445 nd_J19_add_3 rfl (by decide) [0] rfl [] rfl 1 5 ⟨by omega, by omega⟩ [] rfl (Nat.le_of_ble_eq_true rfl) dJ8_add_5_74 rfl (fun _ _ h => h.elim) (fun v Ws h => ?_)
        obtain ⟨M1_64, r1_65, a1_66, rfl, hle_67, hat_68, rfl⟩ := h
        show SW x [pl (xg x) M1_64] _ _ _ _ [.ref r1_65]
        refine sw_astore (n := 79) F (some r1_65) (L2 := [(9, .ref r1_65), (11, .long (jL (cpt (x_ * tn (t - s))))), (5, .int (jI t)), (10, .int (jI (t - s))), (8, .int (jI 1)), (6, .long (jL (s - t))), (0, .long (jL x_)), (2, .int (jI s)), (3, .ref q), (4, .int (jI t))]) rfl rfl (by decide) dJ8_add_5_77 rfl ?_
        refine sw_goto F (n := 90) dJ8_add_5_79 (by decide) ?_
        refine sw_goto F (n := 115) dJ8_add_5_90 (by decide) ?_
        refine sw_loc [2, 4, 0] (L2 := [(5, .int (jI t)), (8, .int (jI 1)), (9, .ref r1_65)]) rfl ?_
        exact K115 1 M1_64 r1_65 a1_66 t (le_.tr hle_62 hle_67) (by first | (rw [hav.1, Int.add_comm]; assumption) | (rcases (show s = t ∨ t < s by omega) with q | q; rw [(adV_e q).1, Int.add_comm]; have e9 : w = w * tn (s - t) := (by rw [tn_0 (by omega), Int.mul_one]); rw [e9]; assumption; rw [(adV_g q).1, Int.add_comm]; assumption)) (by first | omega | assumption) (by omega)
theorem nd_J8_add_6 : yJ8_add_6.cls ≠ "java/lang/invoke/MethodHandle" ∧ yJ8_add_6.cls ≠ "java/lang/invoke/VarHandle" ∧ (parseMethodDescriptor yJ8_add_6.desc).map (fun d => d.parameters.length) = some 4 := by decide +kernel
set_option maxRecDepth 100000 in
set_option maxHeartbeats 16000000 in
theorem ct_J8_add_6 {g : GG} {l : Launch} (M : Nat → Option PV) (q : Nat) (v : Int) (a : Nat) (s : Int) (q2 : Nat) (w : Int) (b : Nat) (t : Int) (hx : at_ g M q (vI v a)) (hy : at_ g M q2 (vI w b)) (hnv : ¬ fit v) (hnw : ¬ fit w) (hbv : v.natAbs < bw 4) (hbw : w.natAbs < bw 4) (hs : -2147483648 ≤ s ∧ s ≤ 2147483647) (ht : -2147483648 ≤ t ∧ t ≤ 2147483647) (hd : -18 ≤ s - t ∧ s - t ≤ 18) : Ct g l yJ8_add_6 (ws_ yJ8_add_6 cJ8_add_6 8 (Option.some (Jvm.ClassFile.FieldType.object "java/math/BigDecimal"))) 6 136 7 45 [.ref q, .int (jI s), .ref q2, .int (jI t)] [pl g M] (fun v9 Ws9 => ∃ M1 : Nat → Option PV, ∃ r1 : Nat, ∃ o1 : Option Nat, v9 = some (.ref r1) ∧ (le_ M M1) ∧ (at_ g M1 r1 (vD (adV v s w t) (grI s t) o1)) ∧ Ws9 = [pl g M1]) (nox) := by
  refine Ct.of (cc := cJ8_add_6) (nL := 8) (ret := (Option.some (Jvm.ClassFile.FieldType.object "java/math/BigDecimal"))) (by decide) rfl (Nat.le_of_ble_eq_true rfl) ?_
  intro x hg hl hPo hPx hmc hms F
  subst hg; subst hl
  refine SW.cast (L' := [(0, .ref q), (1, .int (jI s)), (2, .ref q2), (3, .int (jI t))]) ?_ rfl rfl rfl
  have hgr := grI_cases s t
  have hb5 := adV_bw (u := v) (s := s) (w := w) (t := t) hbv hbw hd
  have hbv6 := Nat.lt_of_lt_of_le hbv (bw_mono (show 4 ≤ 6 by decide))
  have hbw6 := Nat.lt_of_lt_of_le hbw (bw_mono (show 4 ≤ 6 by decide))
  refine sw_iload_n (n := 1) F 1 rfl rfl dJ8_add_6_0 rfl ?_
  refine sw_istore (n := 3) F (L2 := [(4, .int (jI s)), (0, .ref q), (1, .int (jI s)), (2, .ref q2), (3, .int (jI t))]) rfl (by decide) dJ8_add_6_1 rfl ?_
  refine sw_iload (n := 5) F 0 rfl dJ8_add_6_3 rfl ?_
  refine sw_i2l (n := 6) F (by omega) dJ8_add_6_5 rfl ?_
  refine sw_iload_n (n := 7) F 4 rfl rfl dJ8_add_6_6 rfl ?_
  refine sw_i2l (n := 8) F (by omega) dJ8_add_6_7 rfl ?_
  refine sw_lsub (n := 9) F dJ8_add_6_8 rfl ?_
  refine sw_lstore (n := 11) F (L2 := [(5, .long (jL (s - t))), (4, .int (jI s)), (0, .ref q), (1, .int (jI s)), (2, .ref q2), (3, .int (jI t))]) rfl (by decide) dJ8_add_6_9 rfl ?_
  have K62 : ∀ (M2 : Nat → Option PV) (r2 : Nat) (v2 : Int) (a2 : Nat) (r3 : Nat) (w2 : Int) (b2 : Nat) (sc : Int), (le_ M M2) → (at_ (xg x) M2 r2 (vI v2 a2)) → (at_ (xg x) M2 r3 (vI w2 b2)) → (v2 + w2 = adV v s w t) → (sc = grI s t) → (¬ fit v2) → (sgI v2 = sgI v) → (sgI w2 = sgI w) → (v2.natAbs < bw 6) → (w2.natAbs < bw 6) → SW x [pl (xg x) M2] 4 25 62 [(0, .ref r2), (2, .ref r3), (4, .int (jI sc))] [] := by
    intro M2 r2 v2 a2 r3 w2 b2 sc hl2 hr2 hr3 hvw hsc hn2 hs2 hs3 hb2 hb3
    refine sw_aload_n (n := 63) F 0 (some r2) rfl rfl rfl dJ8_add_6_62 rfl ?_
    refine sw_aload_n (n := 64) F 1 (some r3) rfl rfl rfl dJ8_add_6_63 rfl ?_
    refine sw_callV (n := 67) F (ct_J19_add_3 (g := xg x) (l := xl x) M2 r2 v2 a2 r3 w2 b2 hr2 hr3 (by exact hb2) (by exact hb3)) (rcvI F 0 rfl hr2) q1492 q1443 q1444 q127 q1445 nd_J19_add_3 rfl (by decide) [0] rfl [] rfl 1 5 ⟨by omega, by omega⟩ [] rfl (Nat.le_of_ble_eq_true rfl) dJ8_add_6_64 rfl (fun _ _ h => h.elim) (fun v Ws h => ?_)
    obtain ⟨M1_1, r1_2, a1_3, rfl, hle_4, hat_5, rfl⟩ := h
    show SW x [pl (xg x) M1_1] _ _ _ _ [.ref r1_2]
    refine sw_astore (n := 69) F (some r1_2) (L2 := [(7, .ref r1_2), (0, .ref r2), (2, .ref r3), (4, .int (jI sc))]) rfl rfl (by decide) dJ8_add_6_67 rfl ?_
    have hsv := sgI_cases v2
    have hsw := sgI_cases w2
    refine sw_aload_n (n := 70) F 1 (some r2) rfl rfl rfl dJ8_add_6_69 rfl ?_
    refine sw_getI (n := 73) F 0 rfl (at_.up hr2 hle_4) (k := 0) ⟨(RJ19, TJ19, 6), rfl, by decide, q1071, in_J19, Or.inl rfl⟩ (.int (jI (sgI v2))) (fun _ _ _ _ => rfl) dJ8_add_6_70 rfl ?_
    refine sw_aload_n (n := 74) F 2 (some r3) rfl rfl rfl dJ8_add_6_73 rfl ?_
    refine sw_getI (n := 77) F 0 rfl (at_.up hr3 hle_4) (k := 0) ⟨(RJ19, TJ19, 6), rfl, by decide, q1071, in_J19, Or.inl rfl⟩ (.int (jI (sgI w2))) (fun _ _ _ _ => rfl) dJ8_add_6_74 rfl ?_
    refine sw_icmp_ne (n := 80) F (by omega) (by omega) (tgt := 98) dJ8_add_6_77 (by decide) rfl (fun c_77 => ?_) (fun c_77 => ?_)
    ·
      refine sw_aload (n := 100) F 0 (some r1_2) rfl rfl dJ8_add_6_98 rfl ?_
      refine sw_iload (n := 102) F 3 rfl dJ8_add_6_100 rfl ?_
      refine sw_iconst (n := 103) F (0) (by decide) dJ8_add_6_102 rfl ?_
      refine sw_callS (n := 106) F (ct_J8_valueOf_3 (g := xg x) (l := xl x) M1_1 r1_2 (v2 + w2) a1_3 sc 0 hat_5 (by rw [hvw]; exact hb5) (by first | omega | assumption) (by first | omega | assumption)) q1485 q1486 q112 q1487 nd_J8_valueOf_3 rfl (by decide) [0] rfl [] rfl 0 0 ⟨by omega, by omega⟩ [] rfl (Nat.le_of_ble_eq_true rfl) dJ8_add_6_103 rfl (fun _ _ h => h.elim) (fun v Ws h => ?_)
      obtain ⟨M1_6, r1_7, o1_8, rfl, hle_9, hat_10, rfl⟩ := h
      show SW x [pl (xg x) M1_6] _ _ _ _ [.ref r1_7]
      exact sw_aret F (some r1_7) _ rfl rfl (by first | exact Or.inl ⟨_, rfl⟩ | exact Or.inr ⟨_, rfl⟩) dJ8_add_6_106 (by rw [hPo]; exact ⟨M1_6, r1_7, o1_8, rfl, (le_.tr (le_.tr hl2 hle_4) hle_9), (by rw [← hsc, ← hvw]; assumption), rfl⟩)
    ·
      have hnf3 : ¬ fit (adV v s w t) := by rw [← hvw]; exact nofit_add hn2 (sg_same (by omega))
      refine sw_new (n := 83) F (ci := 13) (N := 5) RJ8 TJ8 tyJ8 rfl q251 q252 q112 in_J8 tyJ8_ok (fs := [.null, .int (jI 0), .int (jI 0), .null, .long (jL 0)]) rfl 0 0 ⟨by omega, by omega⟩ dJ8_add_6_80 rfl (fun q_11 => ?_)
      refine sw_dup (n := 84) F rfl dJ8_add_6_83 rfl ?_
      refine sw_aload (n := 86) F 0 (some r1_2) rfl rfl dJ8_add_6_84 rfl ?_
      refine sw_ldc2 (n := 89) F (-9223372036854775808) q250 (by decide) dJ8_add_6_86 rfl ?_
      refine sw_iload (n := 91) F 3 rfl dJ8_add_6_89 rfl ?_
      refine sw_iconst (n := 92) F (0) (by decide) dJ8_add_6_91 rfl ?_
      refine sw_callI (n := 95) F (ct_J8_init (g := xg x) (l := xl x) q_11 (some r1_2) (-9223372036854775808) sc 0 ) q253 q254 q112 q255 rfl nd_J8_init rfl (by decide) [0, 1] rfl [pl (xg x) M1_1] rfl 0 0 ⟨by omega, by omega⟩ [.ref q_11] rfl (Nat.le_of_ble_eq_true rfl) dJ8_add_6_92 rfl (fun _ _ h => h.elim) (fun v Ws h => ?_)
      obtain ⟨rfl, rfl⟩ := h
      show SW x [ob (xg x) q_11 13 [va_rf (some r1_2), .int (jI sc), .int (jI 0), .null, .long (jL (-9223372036854775808))], pl (xg x) M1_1] _ _ _ _ [.ref q_11]
      refine sw_goto F (n := 106) dJ8_add_6_95 (by decide) ?_
      refine SW.cast (Ps' := ob (xg x) q_11 13 (flD (adV v s w t) (grI s t) (some r1_2) 0) :: [pl (xg x) M1_1]) ?_ (by simp only [flD, ← hsc, cpt_0 hnf3] <;> rfl) rfl rfl
      refine sw_absD F (Or.inr rfl) (fun h => by cases h) (fun b h => by cases h; exact ⟨_, by rw [← hvw]; exact hat_5⟩) (fun M_12 hle_13 hat_14 => ?_)
      show SW x [pl (xg x) M_12] _ _ _ _ [.ref q_11]
      exact sw_aret F (some q_11) _ rfl rfl (by first | exact Or.inl ⟨_, rfl⟩ | exact Or.inr ⟨_, rfl⟩) dJ8_add_6_106 (by rw [hPo]; exact ⟨M_12, q_11, some r1_2, rfl, (le_.tr (le_.tr hl2 hle_4) hle_13), hat_14, rfl⟩)
  refine sw_lload (n := 13) F 0 rfl dJ8_add_6_11 rfl ?_
  refine sw_lconst (n := 14) F 0 (by decide) dJ8_add_6_13 rfl ?_
  refine sw_lcmp (n := 15) F (by omega) (by decide) dJ8_add_6_14 rfl ?_
  refine sw_if_eq (n := 18) F (by omega) (tgt := 62) dJ8_add_6_15 (by decide) rfl (fun c_15 => ?_) (fun c_15 => ?_)
  ·
    have c_15 : s - t = 0 := by revert c_15; (repeat' split) <;> omega
    refine sw_room (bc2 := 4) (bs2 := 25) ⟨by omega, by omega⟩ ?_
    refine sw_loc [2, 4, 1] (L2 := [(0, .ref q), (2, .ref q2), (4, .int (jI s))]) rfl ?_
    exact K62 M q v a q2 w b s le_.rf hx hy (by first | (rw [(adV_e (show s = t by omega)).1]) | (rw [(adV_l (show s < t by omega)).1]) | (rw [(adV_g (show t < s by omega)).1])) (by omega) (by first | assumption | exact nofit_mul hnv) (by first | rfl | exact mul_sgn.2.2) (by first | rfl | exact mul_sgn.2.2) (by first | assumption | exact mulT_bw hbv (by omega)) (by first | assumption | exact mulT_bw hbw (by omega))
  ·
    have c_15 : s - t ≠ 0 := by revert c_15; (repeat' split) <;> omega
    refine sw_lload (n := 20) F 0 rfl dJ8_add_6_18 rfl ?_
    refine sw_lconst (n := 21) F 0 (by decide) dJ8_add_6_20 rfl ?_
    refine sw_lcmp (n := 22) F (by omega) (by decide) dJ8_add_6_21 rfl ?_
    refine sw_if_ge (n := 25) F (by omega) (tgt := 47) dJ8_add_6_22 (by decide) rfl (fun c_22 => ?_) (fun c_22 => ?_)
    ·
      have c_22 : s - t ≥ 0 := by revert c_22; (repeat' split) <;> omega
      refine sw_aload_n (n := 48) F 4 (some q2) rfl rfl rfl dJ8_add_6_47 rfl ?_
      refine sw_lload (n := 50) F 0 rfl dJ8_add_6_48 rfl ?_
      refine sw_callS (n := 53) F (ct_J8_checkScale_2 (g := xg x) (l := xl x) q2 (s - t) (by first | omega | assumption)) q1493 q1494 q112 q1495 nd_J8_checkScale_2 rfl (by decide) [0] rfl [pl (xg x) M] rfl 7 45 ⟨by omega, by omega⟩ [] rfl (Nat.le_of_ble_eq_true rfl) dJ8_add_6_50 rfl (fun _ _ h => h.elim) (fun v Ws h => ?_)
      obtain ⟨rfl, rfl⟩ := h
      show SW x [pl (xg x) M] _ _ _ _ [.int (jI (s - t))]
      refine sw_istore (n := 55) F (L2 := [(7, .int (jI (s - t))), (5, .long (jL (s - t))), (4, .int (jI s)), (0, .ref q), (1, .int (jI s)), (2, .ref q2), (3, .int (jI t))]) rfl (by decide) dJ8_add_6_53 rfl ?_
      refine sw_aload_n (n := 56) F 5 (some q2) rfl rfl rfl dJ8_add_6_55 rfl ?_
      refine sw_iload (n := 58) F 0 rfl dJ8_add_6_56 rfl ?_
      refine sw_callS (n := 61) F (ct_J8_bigMultiplyPowerTen_2 (g := xg x) (l := xl x) M q2 w b (s - t) hy hbw (by first | omega | assumption)) q1500 q1501 q112 q1502 nd_J8_bigMultiplyPowerTen_2 rfl (by decide) [0] rfl [] rfl 4 25 ⟨by omega, by omega⟩ [] rfl (Nat.le_of_ble_eq_true rfl) dJ8_add_6_58 rfl (fun _ _ h => h.elim) (fun v Ws h => ?_)
      obtain ⟨M1_15, r1_16, a1_17, rfl, hle_18, hat_19, rfl⟩ := h
      show SW x [pl (xg x) M1_15] _ _ _ _ [.ref r1_16]
      refine sw_astore_n (n := 62) F (some r1_16) (L2 := [(2, .ref r1_16), (7, .int (jI (s - t))), (5, .long (jL (s - t))), (4, .int (jI s)), (0, .ref q), (1, .int (jI s)), (3, .int (jI t))]) rfl rfl (by decide) rfl dJ8_add_6_61 rfl ?_
      refine sw_loc [4, 0, 3] (L2 := [(0, .ref q), (2, .ref r1_16), (4, .int (jI s))]) rfl ?_
      exact K62 M1_15 q v a r1_16 (w * tn (s - t)) a1_17 s hle_18 (at_.up hx hle_18) hat_19 (by first | (rw [(adV_e (show s = t by omega)).1]) | (rw [(adV_l (show s < t by omega)).1]) | (rw [(adV_g (show t < s by omega)).1])) (by omega) (by first | assumption | exact nofit_mul hnv) (by first | rfl | exact mul_sgn.2.2) (by first | rfl | exact mul_sgn.2.2) (by first | assumption | exact mulT_bw hbv (by omega)) (by first | assumption | exact mulT_bw hbw (by omega))
    ·
      have c_22 : s - t < 0 := by revert c_22; (repeat' split) <;> omega
      refine sw_aload_n (n := 26) F 2 (some q) rfl rfl rfl dJ8_add_6_25 rfl ?_
      refine sw_lload (n := 28) F 0 rfl dJ8_add_6_26 rfl ?_
      refine sw_lneg (n := 29) F dJ8_add_6_28 rfl ?_
      refine sw_callS (n := 32) F (ct_J8_checkScale_2 (g := xg x) (l := xl x) q (-(s - t)) (by first | omega | assumption)) q1493 q1494 q112 q1495 nd_J8_checkScale_2 rfl (by decide) [0] rfl [pl (xg x) M] rfl 7 45 ⟨by omega, by omega⟩ [] rfl (Nat.le_of_ble_eq_true rfl) dJ8_add_6_29 rfl (fun _ _ h => h.elim) (fun v Ws h => ?_)
      obtain ⟨rfl, rfl⟩ := h
      show SW x [pl (xg x) M] _ _ _ _ [.int (jI (-(s - t)))]
      refine sw_top (topI (show ((-(s - t)) : Int) = t - s by omega)) ?_
      refine sw_istore (n := 34) F (L2 := [(7, .int (jI (t - s))), (5, .long (jL (s - t))), (4, .int (jI s)), (0, .ref q), (1, .int (jI s)), (2, .ref q2), (3, .int (jI t))]) rfl (by decide) dJ8_add_6_32 rfl ?_
      refine sw_iload_n (n := 35) F 6 rfl rfl dJ8_add_6_34 rfl ?_
      refine sw_istore (n := 37) F (L2 := [(4, .int (jI t)), (7, .int (jI (t - s))), (5, .long (jL (s - t))), (0, .ref q), (1, .int (jI s)), (2, .ref q2), (3, .int (jI t))]) rfl (by decide) dJ8_add_6_35 rfl ?_
      refine sw_aload_n (n := 38) F 3 (some q) rfl rfl rfl dJ8_add_6_37 rfl ?_
      refine sw_iload (n := 40) F 1 rfl dJ8_add_6_38 rfl ?_
      refine sw_callS (n := 43) F (ct_J8_bigMultiplyPowerTen_2 (g := xg x) (l := xl x) M q v a (t - s) hx hbv (by first | omega | assumption)) q1500 q1501 q112 q1502 nd_J8_bigMultiplyPowerTen_2 rfl (by decide) [0] rfl [] rfl 4 25 ⟨by omega, by omega⟩ [] rfl (Nat.le_of_ble_eq_true rfl) dJ8_add_6_40 rfl (fun _ _ h => h.elim) (fun v Ws h => ?_)
      obtain ⟨M1_20, r1_21, a1_22, rfl, hle_23, hat_24, rfl⟩ := h
      show SW x [pl (xg x) M1_20] _ _ _ _ [.ref r1_21]
      refine sw_astore_n (n := 44) F (some r1_21) (L2 := [(0, .ref r1_21), (4, .int (jI t)), (7, .int (jI (t - s))), (5, .long (jL (s - t))), (1, .int (jI s)), (2, .ref q2), (3, .int (jI t))]) rfl rfl (by decide) rfl dJ8_add_6_43 rfl ?_
      refine sw_goto F (n := 62) dJ8_add_6_44 (by decide) ?_
      refine sw_loc [0, 5, 1] (L2 := [(0, .ref r1_21), (2, .ref q2), (4, .int (jI t))]) rfl ?_
      exact K62 M1_20 r1_21 (v * tn (t - s)) a1_22 q2 w b t hle_23 hat_24 (at_.up hy hle_23) (by first | (rw [(adV_e (show s = t by omega)).1]) | (rw [(adV_l (show s < t by omega)).1]) | (rw [(adV_g (show t < s by omega)).1])) (by omega) (by first | assumption | exact nofit_mul hnv) (by first | rfl | exact mul_sgn.2.2) (by first | rfl | exact mul_sgn.2.2) (by first | assumption | exact mulT_bw hbv (by omega)) (by first | assumption | exact mulT_bw hbw (by omega))
theorem adV_c (u s w t : Int) : adV u s w t = adV w t u s ∧ grI s t = grI t s := by
  have h1 := grI_cases s t; have h2 := grI_cases t s
  have e : grI s t = grI t s := by omega
  unfold adV; rw [e, Int.add_comm]; exact ⟨rfl, rfl⟩
theorem nd_J8_add : yJ8_add.cls ≠ "java/lang/invoke/MethodHandle" ∧ yJ8_add.cls ≠ "java/lang/invoke/VarHandle" ∧ (parseMethodDescriptor yJ8_add.desc).map (fun d => d.parameters.length) = some 1 := by decide +kernel
set_option maxRecDepth 100000 in
set_option maxHeartbeats 16000000 in
theorem ct_J8_add {g : GG} {l : Launch} (M : Nat → Option PV) (q : Nat) (u : Int) (s : Int) (o : Option Nat) (q2 : Nat) (w : Int) (t : Int) (o2 : Option Nat) (hx : at_ g M q (vD u s o)) (hy : at_ g M q2 (vD w t o2)) (hbv : u.natAbs < bw 4) (hbw : w.natAbs < bw 4) (hs : -2147483648 ≤ s ∧ s ≤ 2147483647) (ht : -2147483648 ≤ t ∧ t ≤ 2147483647) (hd : -18 ≤ s - t ∧ s - t ≤ 18) : Ct g l yJ8_add (ws_ yJ8_add cJ8_add 2 (Option.some (Jvm.ClassFile.FieldType.object "java/math/BigDecimal"))) 8 182 7 45 [.ref q, .ref q2] [pl g M] (fun v9 Ws9 => ∃ M1 : Nat → Option PV, ∃ r1 : Nat, ∃ o1 : Option Nat, v9 = some (.ref r1) ∧ (le_ M M1) ∧ (at_ g M1 r1 (vD (adV u s w t) (grI s t) o1)) ∧ Ws9 = [pl g M1]) (nox) := by
  refine Ct.of (cc := cJ8_add) (nL := 2) (ret := (Option.some (Jvm.ClassFile.FieldType.object "java/math/BigDecimal"))) (by decide) rfl (Nat.le_of_ble_eq_true rfl) ?_
  intro x hg hl hPo hPx hmc hms F
  subst hg; subst hl
  refine SW.cast (L' := [(0, .ref q), (1, .ref q2)]) ?_ rfl rfl rfl
  refine sw_factD 0 rfl hx (fun hfo hfb => ?_)
  have hcr_u := cpt_rng u
  have hcc_u := cpt_cases u
  refine sw_factD 0 rfl hy (fun hfo2 hfb2 => ?_)
  have hcr_w := cpt_rng w
  have hcc_w := cpt_cases w
  refine sw_aload_n (n := 1) F 0 (some q) rfl rfl rfl dJ8_add_0 rfl ?_
  refine sw_getD (n := 4) F 0 rfl hx (k := 4) ⟨(RJ8, TJ8, 5), rfl, by decide, q264, in_J8, Or.inl rfl⟩ (.long (jL (cpt u))) (fun _ => rfl) dJ8_add_1 rfl ?_
  refine sw_ldc2 (n := 7) F (-9223372036854775808) q250 (by decide) dJ8_add_4 rfl ?_
  refine sw_lcmp (n := 8) F (by omega) (by decide) dJ8_add_7 rfl ?_
  refine sw_if_eq (n := 11) F (by omega) (tgt := 62) dJ8_add_8 (by decide) rfl (fun c_8 => ?_) (fun c_8 => ?_)
  ·
    have c_8 : cpt u = -9223372036854775808 := by revert c_8; (repeat' split) <;> omega
    have hnf_u : ¬ fit u := cpt_y c_8
    obtain ⟨b9, hb9⟩ : ∃ b, o = some b := by cases o9_ : o with | none => exact absurd (hfo o9_) hnf_u | some b => exact ⟨b, rfl⟩
    obtain ⟨a9, ha9⟩ := hfb b9 hb9
    subst hb9
    refine sw_aload_n (n := 63) F 1 (some q2) rfl rfl rfl dJ8_add_62 rfl ?_
    refine sw_getD (n := 66) F 0 rfl hy (k := 4) ⟨(RJ8, TJ8, 5), rfl, by decide, q264, in_J8, Or.inl rfl⟩ (.long (jL (cpt w))) (fun _ => rfl) dJ8_add_63 rfl ?_
    refine sw_ldc2 (n := 69) F (-9223372036854775808) q250 (by decide) dJ8_add_66 rfl ?_
    refine sw_lcmp (n := 70) F (by omega) (by decide) dJ8_add_69 rfl ?_
    refine sw_if_eq (n := 73) F (by omega) (tgt := 93) dJ8_add_70 (by decide) rfl (fun c_70 => ?_) (fun c_70 => ?_)
    ·
      have c_70 : cpt w = -9223372036854775808 := by revert c_70; (repeat' split) <;> omega
      have hnf_w : ¬ fit w := cpt_y c_70
      obtain ⟨b8, hb8⟩ : ∃ b, o2 = some b := by cases o9_ : o2 with | none => exact absurd (hfo2 o9_) hnf_w | some b => exact ⟨b, rfl⟩
      obtain ⟨a8, ha8⟩ := hfb2 b8 hb8
      subst hb8
      refine sw_aload_n (n := 94) F 0 (some q) rfl rfl rfl dJ8_add_93 rfl ?_
      refine sw_getD (n := 97) F 0 rfl hx (k := 0) ⟨(RJ8, TJ8, 5), rfl, by decide, q260, in_J8, Or.inl rfl⟩ (.ref b9) (fun _ => rfl) dJ8_add_94 rfl ?_
      refine sw_aload_n (n := 98) F 0 (some q) rfl rfl rfl dJ8_add_97 rfl ?_
      refine sw_getD (n := 101) F 0 rfl hx (k := 1) ⟨(RJ8, TJ8, 5), rfl, by decide, q261, in_J8, Or.inl rfl⟩ (.int (jI s)) (fun _ => rfl) dJ8_add_98 rfl ?_
      refine sw_aload_n (n := 102) F 1 (some q2) rfl rfl rfl dJ8_add_101 rfl ?_
      refine sw_getD (n := 105) F 0 rfl hy (k := 0) ⟨(RJ8, TJ8, 5), rfl, by decide, q260, in_J8, Or.inl rfl⟩ (.ref b8) (fun _ => rfl) dJ8_add_102 rfl ?_
      refine sw_aload_n (n := 106) F 1 (some q2) rfl rfl rfl dJ8_add_105 rfl ?_
      refine sw_getD (n := 109) F 0 rfl hy (k := 1) ⟨(RJ8, TJ8, 5), rfl, by decide, q261, in_J8, Or.inl rfl⟩ (.int (jI t)) (fun _ => rfl) dJ8_add_106 rfl ?_
      refine sw_callS (n := 112) F (ct_J8_add_6 (g := xg x) (l := xl x) M b9 u a9 s b8 w a8 t ha9 ha8 hnf_u hnf_w hbv hbw hs ht hd) q1504 q1505 q112 q1506 nd_J8_add_6 rfl (by decide) [0] rfl [] rfl 0 0 ⟨by omega, by omega⟩ [] rfl (Nat.le_of_ble_eq_true rfl) dJ8_add_109 rfl (fun _ _ h => h.elim) (fun v Ws h => ?_)
      obtain ⟨M1_1, r1_2, o1_3, rfl, hle_4, hat_5, rfl⟩ := h
      show SW x [pl (xg x) M1_1] _ _ _ _ [.ref r1_2]
      exact sw_aret F (some r1_2) _ rfl rfl (by first | exact Or.inl ⟨_, rfl⟩ | exact Or.inr ⟨_, rfl⟩) dJ8_add_112 (by rw [hPo]; exact ⟨M1_1, r1_2, o1_3, rfl, hle_4, hat_5, rfl⟩)
    ·
      have c_70 : cpt w ≠ -9223372036854775808 := by revert c_70; (repeat' split) <;> omega
      have hfit_w : fit w := cpt_n c_70
      have hfr_w := hfit_w
      unfold fit at hfr_w
      refine sw_aload_n (n := 74) F 1 (some q2) rfl rfl rfl dJ8_add_73 rfl ?_
      refine sw_getD (n := 77) F 0 rfl hy (k := 4) ⟨(RJ8, TJ8, 5), rfl, by decide, q264, in_J8, Or.inl rfl⟩ (.long (jL (cpt w))) (fun _ => rfl) dJ8_add_74 rfl ?_
      refine SW.cast (st' := [.long (jL w)]) ?_ rfl rfl (by rw [cpt_1 hfit_w])
      refine sw_aload_n (n := 78) F 1 (some q2) rfl rfl rfl dJ8_add_77 rfl ?_
      refine sw_getD (n := 81) F 0 rfl hy (k := 1) ⟨(RJ8, TJ8, 5), rfl, by decide, q261, in_J8, Or.inl rfl⟩ (.int (jI t)) (fun _ => rfl) dJ8_add_78 rfl ?_
      refine sw_aload_n (n := 82) F 0 (some q) rfl rfl rfl dJ8_add_81 rfl ?_
      refine sw_getD (n := 85) F 0 rfl hx (k := 0) ⟨(RJ8, TJ8, 5), rfl, by decide, q260, in_J8, Or.inl rfl⟩ (.ref b9) (fun _ => rfl) dJ8_add_82 rfl ?_
      refine sw_aload_n (n := 86) F 0 (some q) rfl rfl rfl dJ8_add_85 rfl ?_
      refine sw_getD (n := 89) F 0 rfl hx (k := 1) ⟨(RJ8, TJ8, 5), rfl, by decide, q261, in_J8, Or.inl rfl⟩ (.int (jI s)) (fun _ => rfl) dJ8_add_86 rfl ?_
      refine sw_callS (n := 92) F (ct_J8_add_5 (g := xg x) (l := xl x) M w t b9 u a9 s ha9 (by first | omega | assumption) hnf_u hbv ht hs (by first | omega | assumption)) q1488 q1489 q112 q1490 nd_J8_add_5 rfl (by decide) [0] rfl [] rfl 0 0 ⟨by omega, by omega⟩ [] rfl (Nat.le_of_ble_eq_true rfl) dJ8_add_89 rfl (fun _ _ h => h.elim) (fun v Ws h => ?_)
      obtain ⟨M1_6, r1_7, o1_8, rfl, hle_9, hat_10, rfl⟩ := h
      show SW x [pl (xg x) M1_6] _ _ _ _ [.ref r1_7]
      exact sw_aret F (some r1_7) _ rfl rfl (by first | exact Or.inl ⟨_, rfl⟩ | exact Or.inr ⟨_, rfl⟩) dJ8_add_92 (by rw [hPo]; exact ⟨M1_6, r1_7, o1_8, rfl, hle_9, (by first | assumption | (rw [(adV_c u s w t).1, (adV_c u s w t).2]; assumption)), rfl⟩)
  ·
    have c_8 : cpt u ≠ -9223372036854775808 := by revert c_8; (repeat' split) <;> omega
    have hfit_u : fit u := cpt_n c_8
    have hfr_u := hfit_u
    unfold fit at hfr_u
    refine sw_aload_n (n := 12) F 1 (some q2) rfl rfl rfl dJ8_add_11 rfl ?_
    refine sw_getD (n := 15) F 0 rfl hy (k := 4) ⟨(RJ8, TJ8, 5), rfl, by decide, q264, in_J8, Or.inl rfl⟩ (.long (jL (cpt w))) (fun _ => rfl) dJ8_add_12 rfl ?_
    refine sw_ldc2 (n := 18) F (-9223372036854775808) q250 (by decide) dJ8_add_15 rfl ?_
    refine sw_lcmp (n := 19) F (by omega) (by decide) dJ8_add_18 rfl ?_
    refine sw_if_eq (n := 22) F (by omega) (tgt := 42) dJ8_add_19 (by decide) rfl (fun c_19 => ?_) (fun c_19 => ?_)
    ·
      have c_19 : cpt w = -9223372036854775808 := by revert c_19; (repeat' split) <;> omega
      have hnf_w : ¬ fit w := cpt_y c_19
      obtain ⟨b8, hb8⟩ : ∃ b, o2 = some b := by cases o9_ : o2 with | none => exact absurd (hfo2 o9_) hnf_w | some b => exact ⟨b, rfl⟩
      obtain ⟨a8, ha8⟩ := hfb2 b8 hb8
      subst hb8
      refine sw_aload_n (n := 43) F 0 (some q) rfl rfl rfl dJ8_add_42 rfl ?_
      refine sw_getD (n := 46) F 0 rfl hx (k := 4) ⟨(RJ8, TJ8, 5), rfl, by decide, q264, in_J8, Or.inl rfl⟩ (.long (jL (cpt u))) (fun _ => rfl) dJ8_add_43 rfl ?_
      refine SW.cast (st' := [.long (jL u)]) ?_ rfl rfl (by rw [cpt_1 hfit_u])
      refine sw_aload_n (n := 47) F 0 (some q) rfl rfl rfl dJ8_add_46 rfl ?_
      refine sw_getD (n := 50) F 0 rfl hx (k := 1) ⟨(RJ8, TJ8, 5), rfl, by decide, q261, in_J8, Or.inl rfl⟩ (.int (jI s)) (fun _ => rfl) dJ8_add_47 rfl ?_
      refine sw_aload_n (n := 51) F 1 (some q2) rfl rfl rfl dJ8_add_50 rfl ?_
      refine sw_getD (n := 54) F 0 rfl hy (k := 0) ⟨(RJ8, TJ8, 5), rfl, by decide, q260, in_J8, Or.inl rfl⟩ (.ref b8) (fun _ => rfl) dJ8_add_51 rfl ?_
      refine sw_aload_n (n := 55) F 1 (some q2) rfl rfl rfl dJ8_add_54 rfl ?_
      refine sw_getD (n := 58) F 0 rfl hy (k := 1) ⟨(RJ8, TJ8, 5), rfl, by decide, q261, in_J8, Or.inl rfl⟩ (.int (jI t)) (fun _ => rfl) dJ8_add_55 rfl ?_
      refine sw_callS (n := 61) F (ct_J8_add_5 (g := xg x) (l := xl x) M u s b8 w a8 t ha8 (by first | omega | assumption) hnf_w hbw hs ht hd) q1488 q1489 q112 q1490 nd_J8_add_5 rfl (by decide) [0] rfl [] rfl 0 0 ⟨by omega, by omega⟩ [] rfl (Nat.le_of_ble_eq_true rfl) dJ8_add_58 rfl (fun _ _ h => h.elim) (fun v Ws h => ?_)
      obtain ⟨M1_11, r1_12, o1_13, rfl, hle_14, hat_15, rfl⟩ := h
      show SW x [pl (xg x) M1_11] _ _ _ _ [.ref r1_12]
      exact sw_aret F (some r1_12) _ rfl rfl (by first | exact Or.inl ⟨_, rfl⟩ | exact Or.inr ⟨_, rfl⟩) dJ8_add_61 (by rw [hPo]; exact ⟨M1_11, r1_12, o1_13, rfl, hle_14, hat_15, rfl⟩)
    ·
      have c_19 : cpt w ≠ -9223372036854775808 := by revert c_19; (repeat' split) <;> omega
      have hfit_w : fit w := cpt_n c_19
      have hfr_w := hfit_w
      unfold fit at hfr_w
      refine sw_aload_n (n := 23) F 0 (some q) rfl rfl rfl dJ8_add_22 rfl ?_
      refine sw_getD (n := 26) F 0 rfl hx (k := 4) ⟨(RJ8, TJ8, 5), rfl, by decide, q264, in_J8, Or.inl rfl⟩ (.long (jL (cpt u))) (fun _ => rfl) dJ8_add_23 rfl ?_
      refine SW.cast (st' := [.long (jL u)]) ?_ rfl rfl (by rw [cpt_1 hfit_u])
      refine sw_aload_n (n := 27) F 0 (some q) rfl rfl rfl dJ8_add_26 rfl ?_
      refine sw_getD (n := 30) F 0 rfl hx (k := 1) ⟨(RJ8, TJ8, 5), rfl, by decide, q261, in_J8, Or.inl rfl⟩ (.int (jI s)) (fun _ => rfl) dJ8_add_27 rfl ?_
      refine sw_aload_n (n := 31) F 1 (some q2) rfl rfl rfl dJ8_add_30 rfl ?_
      refine sw_getD (n := 34) F 0 rfl hy (k := 4) ⟨(RJ8, TJ8, 5), rfl, by decide, q264, in_J8, Or.inl rfl⟩ (.long (jL (cpt w))) (fun _ => rfl) dJ8_add_31 rfl ?_
      refine SW.cast (st' := [.long (jL w), .int (jI s), .long (jL u)]) ?_ rfl rfl (by rw [cpt_1 hfit_w])
      refine sw_aload_n (n := 35) F 1 (some q2) rfl rfl rfl dJ8_add_34 rfl ?_
      refine sw_getD (n := 38) F 0 rfl hy (k := 1) ⟨(RJ8, TJ8, 5), rfl, by decide, q261, in_J8, Or.inl rfl⟩ (.int (jI t)) (fun _ => rfl) dJ8_add_35 rfl ?_
      refine sw_callS (n := 41) F (ct_J8_add_2 (g := xg x) (l := xl x) M u s w t (by first | omega | assumption) (by first | omega | assumption) hs ht hd) q1034 q1035 q112 q1036 nd_J8_add_2 rfl (by decide) [0] rfl [] rfl 0 0 ⟨by omega, by omega⟩ [] rfl (Nat.le_of_ble_eq_true rfl) dJ8_add_38 rfl (fun _ _ h => h.elim) (fun v Ws h => ?_)
      obtain ⟨M1_16, r1_17, o1_18, rfl, hle_19, hat_20, rfl⟩ := h
      show SW x [pl (xg x) M1_16] _ _ _ _ [.ref r1_17]
      exact sw_aret F (some r1_17) _ rfl rfl (by first | exact Or.inl ⟨_, rfl⟩ | exact Or.inr ⟨_, rfl⟩) dJ8_add_41 (by rw [hPo]; exact ⟨M1_16, r1_17, o1_18, rfl, hle_19, hat_20, rfl⟩)
theorem nA_neg {w : Int} {k : Nat} (h : w.natAbs < bw k) : (-w).natAbs < bw k := by rw [Int.natAbs_neg]; exact h
theorem nofit_neg {w : Int} (h : ¬ fit w) : ¬ fit (-w) ∨ w = -9223372036854775808 := by unfold fit at *; omega
