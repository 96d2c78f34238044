set_option maxRecDepth 100000
def dkwJ19_bitLengthForInt_0 : List UInt8 := [16, 32, 26, 184, 2, 90, 100, 172]
abbrev dktJ19_bitLengthForInt_0 : List UInt8 := dkwJ19_bitLengthForInt_0 ++ []
theorem dksJ19_bitLengthForInt_0 : cJ19_bitLengthForInt.data.toList.drop 0 = dktJ19_bitLengthForInt_0 := by decide +kernel
theorem dJ19_bitLengthForInt_0 : decode cJ19_bitLengthForInt 0 = .ok (.bipush 32, 2) := dk_16 32 (dk_at dksJ19_bitLengthForInt_0 0 rfl rfl)
theorem dJ19_bitLengthForInt_2 : decode cJ19_bitLengthForInt 2 = .ok (.iload_n 0, 1) := dk_26 (dk_at dksJ19_bitLengthForInt_0 2 rfl rfl)
theorem dJ19_bitLengthForInt_3 : decode cJ19_bitLengthForInt 3 = .ok (.invokestatic 602, 3) := dk_184 2 90 (dk_at dksJ19_bitLengthForInt_0 3 rfl rfl)
theorem dJ19_bitLengthForInt_6 : decode cJ19_bitLengthForInt 6 = .ok (.isub, 1) := dk_100 (dk_at dksJ19_bitLengthForInt_0 6 rfl rfl)
theorem dJ19_bitLengthForInt_7 : decode cJ19_bitLengthForInt 7 = .ok (.ireturn, 1) := dk_172 (dk_at dksJ19_bitLengthForInt_0 7 rfl rfl)
def dkwJ35_primitiveLeftShift_3 : List UInt8 := [42, 180, 0, 11, 42, 180, 0, 21, 96, 4, 100, 92, 46, 27, 120, 79, 177]
abbrev dktJ35_primitiveLeftShift_3 : List UInt8 := dkwJ35_primitiveLeftShift_3 ++ []
def dkwJ35_primitiveLeftShift_2 : List UInt8 := [96, 46, 54, 5, 44, 21, 4, 21, 7, 27, 120, 21, 5, 29, 124, 128, 79, 132, 4, 1, 167, 255, 221, 44]
abbrev dktJ35_primitiveLeftShift_2 : List UInt8 := dkwJ35_primitiveLeftShift_2 ++ dktJ35_primitiveLeftShift_3
def dkwJ35_primitiveLeftShift_1 : List UInt8 := [42, 180, 0, 21, 96, 4, 100, 54, 6, 21, 4, 21, 6, 162, 0, 34, 21, 5, 54, 7, 44, 21, 4, 4]
abbrev dktJ35_primitiveLeftShift_1 : List UInt8 := dkwJ35_primitiveLeftShift_1 ++ dktJ35_primitiveLeftShift_2
def dkwJ35_primitiveLeftShift_0 : List UInt8 := [42, 180, 0, 17, 77, 16, 32, 27, 100, 62, 42, 180, 0, 11, 54, 4, 44, 21, 4, 46, 54, 5, 21, 4]
abbrev dktJ35_primitiveLeftShift_0 : List UInt8 := dkwJ35_primitiveLeftShift_0 ++ dktJ35_primitiveLeftShift_1
theorem dksJ35_primitiveLeftShift_0 : cJ35_primitiveLeftShift.data.toList.drop 0 = dktJ35_primitiveLeftShift_0 := by decide +kernel
theorem dksJ35_primitiveLeftShift_1 : cJ35_primitiveLeftShift.data.toList.drop 24 = dktJ35_primitiveLeftShift_1 := dk_seg dksJ35_primitiveLeftShift_0 24 rfl rfl
theorem dksJ35_primitiveLeftShift_2 : cJ35_primitiveLeftShift.data.toList.drop 48 = dktJ35_primitiveLeftShift_2 := dk_seg dksJ35_primitiveLeftShift_1 24 rfl rfl
theorem dksJ35_primitiveLeftShift_3 : cJ35_primitiveLeftShift.data.toList.drop 72 = dktJ35_primitiveLeftShift_3 := dk_seg dksJ35_primitiveLeftShift_2 24 rfl rfl
theorem dJ35_primitiveLeftShift_0 : decode cJ35_primitiveLeftShift 0 = .ok (.aload_n 0, 1) := dk_42 (dk_at dksJ35_primitiveLeftShift_0 0 rfl rfl)
theorem dJ35_primitiveLeftShift_1 : decode cJ35_primitiveLeftShift 1 = .ok (.getfield 17, 3) := dk_180 0 17 (dk_at dksJ35_primitiveLeftShift_0 1 rfl rfl)
theorem dJ35_primitiveLeftShift_4 : decode cJ35_primitiveLeftShift 4 = .ok (.astore_n 2, 1) := dk_77 (dk_at dksJ35_primitiveLeftShift_0 4 rfl rfl)
theorem dJ35_primitiveLeftShift_5 : decode cJ35_primitiveLeftShift 5 = .ok (.bipush 32, 2) := dk_16 32 (dk_at dksJ35_primitiveLeftShift_0 5 rfl rfl)
theorem dJ35_primitiveLeftShift_7 : decode cJ35_primitiveLeftShift 7 = .ok (.iload_n 1, 1) := dk_27 (dk_at dksJ35_primitiveLeftShift_0 7 rfl rfl)
theorem dJ35_primitiveLeftShift_8 : decode cJ35_primitiveLeftShift 8 = .ok (.isub, 1) := dk_100 (dk_at dksJ35_primitiveLeftShift_0 8 rfl rfl)
theorem dJ35_primitiveLeftShift_9 : decode cJ35_primitiveLeftShift 9 = .ok (.istore_n 3, 1) := dk_62 (dk_at dksJ35_primitiveLeftShift_0 9 rfl rfl)
theorem dJ35_primitiveLeftShift_10 : decode cJ35_primitiveLeftShift 10 = .ok (.aload_n 0, 1) := dk_42 (dk_at dksJ35_primitiveLeftShift_0 10 rfl rfl)
theorem dJ35_primitiveLeftShift_11 : decode cJ35_primitiveLeftShift 11 = .ok (.getfield 11, 3) := dk_180 0 11 (dk_at dksJ35_primitiveLeftShift_0 11 rfl rfl)
theorem dJ35_primitiveLeftShift_14 : decode cJ35_primitiveLeftShift 14 = .ok (.istore 4, 2) := dk_54 4 (dk_at dksJ35_primitiveLeftShift_0 14 rfl rfl)
theorem dJ35_primitiveLeftShift_16 : decode cJ35_primitiveLeftShift 16 = .ok (.aload_n 2, 1) := dk_44 (dk_at dksJ35_primitiveLeftShift_0 16 rfl rfl)
theorem dJ35_primitiveLeftShift_17 : decode cJ35_primitiveLeftShift 17 = .ok (.iload 4, 2) := dk_21 4 (dk_at dksJ35_primitiveLeftShift_0 17 rfl rfl)
theorem dJ35_primitiveLeftShift_19 : decode cJ35_primitiveLeftShift 19 = .ok (.iaload, 1) := dk_46 (dk_at dksJ35_primitiveLeftShift_0 19 rfl rfl)
theorem dJ35_primitiveLeftShift_20 : decode cJ35_primitiveLeftShift 20 = .ok (.istore 5, 2) := dk_54 5 (dk_at dksJ35_primitiveLeftShift_0 20 rfl rfl)
theorem dJ35_primitiveLeftShift_22 : decode cJ35_primitiveLeftShift 22 = .ok (.iload 4, 2) := dk_21 4 (dk_at dksJ35_primitiveLeftShift_0 22 rfl rfl)
theorem dJ35_primitiveLeftShift_24 : decode cJ35_primitiveLeftShift 24 = .ok (.aload_n 0, 1) := dk_42 (dk_at dksJ35_primitiveLeftShift_1 0 rfl rfl)
theorem dJ35_primitiveLeftShift_25 : decode cJ35_primitiveLeftShift 25 = .ok (.getfield 21, 3) := dk_180 0 21 (dk_at dksJ35_primitiveLeftShift_1 1 rfl rfl)
theorem dJ35_primitiveLeftShift_28 : decode cJ35_primitiveLeftShift 28 = .ok (.iadd, 1) := dk_96 (dk_at dksJ35_primitiveLeftShift_1 4 rfl rfl)
theorem dJ35_primitiveLeftShift_29 : decode cJ35_primitiveLeftShift 29 = .ok (.iconst 1, 1) := dk_4 (dk_at dksJ35_primitiveLeftShift_1 5 rfl rfl)
theorem dJ35_primitiveLeftShift_30 : decode cJ35_primitiveLeftShift 30 = .ok (.isub, 1) := dk_100 (dk_at dksJ35_primitiveLeftShift_1 6 rfl rfl)
theorem dJ35_primitiveLeftShift_31 : decode cJ35_primitiveLeftShift 31 = .ok (.istore 6, 2) := dk_54 6 (dk_at dksJ35_primitiveLeftShift_1 7 rfl rfl)
theorem dJ35_primitiveLeftShift_33 : decode cJ35_primitiveLeftShift 33 = .ok (.iload 4, 2) := dk_21 4 (dk_at dksJ35_primitiveLeftShift_1 9 rfl rfl)
theorem dJ35_primitiveLeftShift_35 : decode cJ35_primitiveLeftShift 35 = .ok (.iload 6, 2) := dk_21 6 (dk_at dksJ35_primitiveLeftShift_1 11 rfl rfl)
theorem dJ35_primitiveLeftShift_37 : decode cJ35_primitiveLeftShift 37 = .ok (.if_icmp .ge 34, 3) := dk_162 0 34 (dk_at dksJ35_primitiveLeftShift_1 13 rfl rfl)
theorem dJ35_primitiveLeftShift_40 : decode cJ35_primitiveLeftShift 40 = .ok (.iload 5, 2) := dk_21 5 (dk_at dksJ35_primitiveLeftShift_1 16 rfl rfl)
theorem dJ35_primitiveLeftShift_42 : decode cJ35_primitiveLeftShift 42 = .ok (.istore 7, 2) := dk_54 7 (dk_at dksJ35_primitiveLeftShift_1 18 rfl rfl)
theorem dJ35_primitiveLeftShift_44 : decode cJ35_primitiveLeftShift 44 = .ok (.aload_n 2, 1) := dk_44 (dk_at dksJ35_primitiveLeftShift_1 20 rfl rfl)
theorem dJ35_primitiveLeftShift_45 : decode cJ35_primitiveLeftShift 45 = .ok (.iload 4, 2) := dk_21 4 (dk_at dksJ35_primitiveLeftShift_1 21 rfl rfl)
theorem dJ35_primitiveLeftShift_47 : decode cJ35_primitiveLeftShift 47 = .ok (.iconst 1, 1) := dk_4 (dk_at dksJ35_primitiveLeftShift_1 23 rfl rfl)
theorem dJ35_primitiveLeftShift_48 : decode cJ35_primitiveLeftShift 48 = .ok (.iadd, 1) := dk_96 (dk_at dksJ35_primitiveLeftShift_2 0 rfl rfl)
theorem dJ35_primitiveLeftShift_49 : decode cJ35_primitiveLeftShift 49 = .ok (.iaload, 1) := dk_46 (dk_at dksJ35_primitiveLeftShift_2 1 rfl rfl)
theorem dJ35_primitiveLeftShift_50 : decode cJ35_primitiveLeftShift 50 = .ok (.istore 5, 2) := dk_54 5 (dk_at dksJ35_primitiveLeftShift_2 2 rfl rfl)
theorem dJ35_primitiveLeftShift_52 : decode cJ35_primitiveLeftShift 52 = .ok (.aload_n 2, 1) := dk_44 (dk_at dksJ35_primitiveLeftShift_2 4 rfl rfl)
theorem dJ35_primitiveLeftShift_53 : decode cJ35_primitiveLeftShift 53 = .ok (.iload 4, 2) := dk_21 4 (dk_at dksJ35_primitiveLeftShift_2 5 rfl rfl)
theorem dJ35_primitiveLeftShift_55 : decode cJ35_primitiveLeftShift 55 = .ok (.iload 7, 2) := dk_21 7 (dk_at dksJ35_primitiveLeftShift_2 7 rfl rfl)
theorem dJ35_primitiveLeftShift_57 : decode cJ35_primitiveLeftShift 57 = .ok (.iload_n 1, 1) := dk_27 (dk_at dksJ35_primitiveLeftShift_2 9 rfl rfl)
theorem dJ35_primitiveLeftShift_58 : decode cJ35_primitiveLeftShift 58 = .ok (.ishl, 1) := dk_120 (dk_at dksJ35_primitiveLeftShift_2 10 rfl rfl)
theorem dJ35_primitiveLeftShift_59 : decode cJ35_primitiveLeftShift 59 = .ok (.iload 5, 2) := dk_21 5 (dk_at dksJ35_primitiveLeftShift_2 11 rfl rfl)
theorem dJ35_primitiveLeftShift_61 : decode cJ35_primitiveLeftShift 61 = .ok (.iload_n 3, 1) := dk_29 (dk_at dksJ35_primitiveLeftShift_2 13 rfl rfl)
theorem dJ35_primitiveLeftShift_62 : decode cJ35_primitiveLeftShift 62 = .ok (.iushr, 1) := dk_124 (dk_at dksJ35_primitiveLeftShift_2 14 rfl rfl)
theorem dJ35_primitiveLeftShift_63 : decode cJ35_primitiveLeftShift 63 = .ok (.ior, 1) := dk_128 (dk_at dksJ35_primitiveLeftShift_2 15 rfl rfl)
theorem dJ35_primitiveLeftShift_64 : decode cJ35_primitiveLeftShift 64 = .ok (.iastore, 1) := dk_79 (dk_at dksJ35_primitiveLeftShift_2 16 rfl rfl)
theorem dJ35_primitiveLeftShift_65 : decode cJ35_primitiveLeftShift 65 = .ok (.iinc 4 1, 3) := dk_132 4 1 (dk_at dksJ35_primitiveLeftShift_2 17 rfl rfl)
theorem dJ35_primitiveLeftShift_68 : decode cJ35_primitiveLeftShift 68 = .ok (.goto (-35), 3) := dk_167 255 221 (dk_at dksJ35_primitiveLeftShift_2 20 rfl rfl)
theorem dJ35_primitiveLeftShift_71 : decode cJ35_primitiveLeftShift 71 = .ok (.aload_n 2, 1) := dk_44 (dk_at dksJ35_primitiveLeftShift_2 23 rfl rfl)
theorem dJ35_primitiveLeftShift_72 : decode cJ35_primitiveLeftShift 72 = .ok (.aload_n 0, 1) := dk_42 (dk_at dksJ35_primitiveLeftShift_3 0 rfl rfl)
theorem dJ35_primitiveLeftShift_73 : decode cJ35_primitiveLeftShift 73 = .ok (.getfield 11, 3) := dk_180 0 11 (dk_at dksJ35_primitiveLeftShift_3 1 rfl rfl)
theorem dJ35_primitiveLeftShift_76 : decode cJ35_primitiveLeftShift 76 = .ok (.aload_n 0, 1) := dk_42 (dk_at dksJ35_primitiveLeftShift_3 4 rfl rfl)
theorem dJ35_primitiveLeftShift_77 : decode cJ35_primitiveLeftShift 77 = .ok (.getfield 21, 3) := dk_180 0 21 (dk_at dksJ35_primitiveLeftShift_3 5 rfl rfl)
theorem dJ35_primitiveLeftShift_80 : decode cJ35_primitiveLeftShift 80 = .ok (.iadd, 1) := dk_96 (dk_at dksJ35_primitiveLeftShift_3 8 rfl rfl)
theorem dJ35_primitiveLeftShift_81 : decode cJ35_primitiveLeftShift 81 = .ok (.iconst 1, 1) := dk_4 (dk_at dksJ35_primitiveLeftShift_3 9 rfl rfl)
theorem dJ35_primitiveLeftShift_82 : decode cJ35_primitiveLeftShift 82 = .ok (.isub, 1) := dk_100 (dk_at dksJ35_primitiveLeftShift_3 10 rfl rfl)
theorem dJ35_primitiveLeftShift_83 : decode cJ35_primitiveLeftShift 83 = .ok (.dup2, 1) := dk_92 (dk_at dksJ35_primitiveLeftShift_3 11 rfl rfl)
theorem dJ35_primitiveLeftShift_84 : decode cJ35_primitiveLeftShift 84 = .ok (.iaload, 1) := dk_46 (dk_at dksJ35_primitiveLeftShift_3 12 rfl rfl)
theorem dJ35_primitiveLeftShift_85 : decode cJ35_primitiveLeftShift 85 = .ok (.iload_n 1, 1) := dk_27 (dk_at dksJ35_primitiveLeftShift_3 13 rfl rfl)
theorem dJ35_primitiveLeftShift_86 : decode cJ35_primitiveLeftShift 86 = .ok (.ishl, 1) := dk_120 (dk_at dksJ35_primitiveLeftShift_3 14 rfl rfl)
theorem dJ35_primitiveLeftShift_87 : decode cJ35_primitiveLeftShift 87 = .ok (.iastore, 1) := dk_79 (dk_at dksJ35_primitiveLeftShift_3 15 rfl rfl)
theorem dJ35_primitiveLeftShift_88 : decode cJ35_primitiveLeftShift 88 = .ok (.return_, 1) := dk_177 (dk_at dksJ35_primitiveLeftShift_3 16 rfl rfl)
def dkwJ35_setValue_0 : List UInt8 := [42, 43, 181, 0, 17, 42, 28, 181, 0, 21, 42, 3, 181, 0, 11, 177]
abbrev dktJ35_setValue_0 : List UInt8 := dkwJ35_setValue_0 ++ []
theorem dksJ35_setValue_0 : cJ35_setValue.data.toList.drop 0 = dktJ35_setValue_0 := by decide +kernel
theorem dJ35_setValue_0 : decode cJ35_setValue 0 = .ok (.aload_n 0, 1) := dk_42 (dk_at dksJ35_setValue_0 0 rfl rfl)
theorem dJ35_setValue_1 : decode cJ35_setValue 1 = .ok (.aload_n 1, 1) := dk_43 (dk_at dksJ35_setValue_0 1 rfl rfl)
theorem dJ35_setValue_2 : decode cJ35_setValue 2 = .ok (.putfield 17, 3) := dk_181 0 17 (dk_at dksJ35_setValue_0 2 rfl rfl)
theorem dJ35_setValue_5 : decode cJ35_setValue 5 = .ok (.aload_n 0, 1) := dk_42 (dk_at dksJ35_setValue_0 5 rfl rfl)
theorem dJ35_setValue_6 : decode cJ35_setValue 6 = .ok (.iload_n 2, 1) := dk_28 (dk_at dksJ35_setValue_0 6 rfl rfl)
theorem dJ35_setValue_7 : decode cJ35_setValue 7 = .ok (.putfield 21, 3) := dk_181 0 21 (dk_at dksJ35_setValue_0 7 rfl rfl)
theorem dJ35_setValue_10 : decode cJ35_setValue 10 = .ok (.aload_n 0, 1) := dk_42 (dk_at dksJ35_setValue_0 10 rfl rfl)
theorem dJ35_setValue_11 : decode cJ35_setValue 11 = .ok (.iconst 0, 1) := dk_3 (dk_at dksJ35_setValue_0 11 rfl rfl)
theorem dJ35_setValue_12 : decode cJ35_setValue 12 = .ok (.putfield 11, 3) := dk_181 0 11 (dk_at dksJ35_setValue_0 12 rfl rfl)
theorem dJ35_setValue_15 : decode cJ35_setValue 15 = .ok (.return_, 1) := dk_177 (dk_at dksJ35_setValue_0 15 rfl rfl)
def dkwJ35_primitiveRightShift_3 : List UInt8 := [180, 0, 11, 92, 46, 27, 124, 79, 177]
abbrev dktJ35_primitiveRightShift_3 : List UInt8 := dkwJ35_primitiveRightShift_3 ++ []
def dkwJ35_primitiveRightShift_2 : List UInt8 := [54, 5, 44, 21, 4, 21, 5, 29, 120, 21, 6, 27, 124, 128, 79, 132, 4, 255, 167, 255, 219, 44, 42]
abbrev dktJ35_primitiveRightShift_2 : List UInt8 := dkwJ35_primitiveRightShift_2 ++ dktJ35_primitiveRightShift_3
def dkwJ35_primitiveRightShift_1 : List UInt8 := [21, 4, 46, 54, 5, 21, 4, 42, 180, 0, 11, 164, 0, 34, 21, 5, 54, 6, 44, 21, 4, 4, 100, 46]
abbrev dktJ35_primitiveRightShift_1 : List UInt8 := dkwJ35_primitiveRightShift_1 ++ dktJ35_primitiveRightShift_2
def dkwJ35_primitiveRightShift_0 : List UInt8 := [42, 180, 0, 17, 77, 16, 32, 27, 100, 62, 42, 180, 0, 11, 42, 180, 0, 21, 96, 4, 100, 54, 4, 44]
abbrev dktJ35_primitiveRightShift_0 : List UInt8 := dkwJ35_primitiveRightShift_0 ++ dktJ35_primitiveRightShift_1
theorem dksJ35_primitiveRightShift_0 : cJ35_primitiveRightShift.data.toList.drop 0 = dktJ35_primitiveRightShift_0 := by decide +kernel
theorem dksJ35_primitiveRightShift_1 : cJ35_primitiveRightShift.data.toList.drop 24 = dktJ35_primitiveRightShift_1 := dk_seg dksJ35_primitiveRightShift_0 24 rfl rfl
theorem dksJ35_primitiveRightShift_2 : cJ35_primitiveRightShift.data.toList.drop 48 = dktJ35_primitiveRightShift_2 := dk_seg dksJ35_primitiveRightShift_1 24 rfl rfl
theorem dksJ35_primitiveRightShift_3 : cJ35_primitiveRightShift.data.toList.drop 71 = dktJ35_primitiveRightShift_3 := dk_seg dksJ35_primitiveRightShift_2 23 rfl rfl
theorem dJ35_primitiveRightShift_0 : decode cJ35_primitiveRightShift 0 = .ok (.aload_n 0, 1) := dk_42 (dk_at dksJ35_primitiveRightShift_0 0 rfl rfl)
theorem dJ35_primitiveRightShift_1 : decode cJ35_primitiveRightShift 1 = .ok (.getfield 17, 3) := dk_180 0 17 (dk_at dksJ35_primitiveRightShift_0 1 rfl rfl)
theorem dJ35_primitiveRightShift_4 : decode cJ35_primitiveRightShift 4 = .ok (.astore_n 2, 1) := dk_77 (dk_at dksJ35_primitiveRightShift_0 4 rfl rfl)
theorem dJ35_primitiveRightShift_5 : decode cJ35_primitiveRightShift 5 = .ok (.bipush 32, 2) := dk_16 32 (dk_at dksJ35_primitiveRightShift_0 5 rfl rfl)
theorem dJ35_primitiveRightShift_7 : decode cJ35_primitiveRightShift 7 = .ok (.iload_n 1, 1) := dk_27 (dk_at dksJ35_primitiveRightShift_0 7 rfl rfl)
theorem dJ35_primitiveRightShift_8 : decode cJ35_primitiveRightShift 8 = .ok (.isub, 1) := dk_100 (dk_at dksJ35_primitiveRightShift_0 8 rfl rfl)
theorem dJ35_primitiveRightShift_9 : decode cJ35_primitiveRightShift 9 = .ok (.istore_n 3, 1) := dk_62 (dk_at dksJ35_primitiveRightShift_0 9 rfl rfl)
theorem dJ35_primitiveRightShift_10 : decode cJ35_primitiveRightShift 10 = .ok (.aload_n 0, 1) := dk_42 (dk_at dksJ35_primitiveRightShift_0 10 rfl rfl)
theorem dJ35_primitiveRightShift_11 : decode cJ35_primitiveRightShift 11 = .ok (.getfield 11, 3) := dk_180 0 11 (dk_at dksJ35_primitiveRightShift_0 11 rfl rfl)
theorem dJ35_primitiveRightShift_14 : decode cJ35_primitiveRightShift 14 = .ok (.aload_n 0, 1) := dk_42 (dk_at dksJ35_primitiveRightShift_0 14 rfl rfl)
theorem dJ35_primitiveRightShift_15 : decode cJ35_primitiveRightShift 15 = .ok (.getfield 21, 3) := dk_180 0 21 (dk_at dksJ35_primitiveRightShift_0 15 rfl rfl)
theorem dJ35_primitiveRightShift_18 : decode cJ35_primitiveRightShift 18 = .ok (.iadd, 1) := dk_96 (dk_at dksJ35_primitiveRightShift_0 18 rfl rfl)
theorem dJ35_primitiveRightShift_19 : decode cJ35_primitiveRightShift 19 = .ok (.iconst 1, 1) := dk_4 (dk_at dksJ35_primitiveRightShift_0 19 rfl rfl)
theorem dJ35_primitiveRightShift_20 : decode cJ35_primitiveRightShift 20 = .ok (.isub, 1) := dk_100 (dk_at dksJ35_primitiveRightShift_0 20 rfl rfl)
theorem dJ35_primitiveRightShift_21 : decode cJ35_primitiveRightShift 21 = .ok (.istore 4, 2) := dk_54 4 (dk_at dksJ35_primitiveRightShift_0 21 rfl rfl)
theorem dJ35_primitiveRightShift_23 : decode cJ35_primitiveRightShift 23 = .ok (.aload_n 2, 1) := dk_44 (dk_at dksJ35_primitiveRightShift_0 23 rfl rfl)
theorem dJ35_primitiveRightShift_24 : decode cJ35_primitiveRightShift 24 = .ok (.iload 4, 2) := dk_21 4 (dk_at dksJ35_primitiveRightShift_1 0 rfl rfl)
theorem dJ35_primitiveRightShift_26 : decode cJ35_primitiveRightShift 26 = .ok (.iaload, 1) := dk_46 (dk_at dksJ35_primitiveRightShift_1 2 rfl rfl)
theorem dJ35_primitiveRightShift_27 : decode cJ35_primitiveRightShift 27 = .ok (.istore 5, 2) := dk_54 5 (dk_at dksJ35_primitiveRightShift_1 3 rfl rfl)
theorem dJ35_primitiveRightShift_29 : decode cJ35_primitiveRightShift 29 = .ok (.iload 4, 2) := dk_21 4 (dk_at dksJ35_primitiveRightShift_1 5 rfl rfl)
theorem dJ35_primitiveRightShift_31 : decode cJ35_primitiveRightShift 31 = .ok (.aload_n 0, 1) := dk_42 (dk_at dksJ35_primitiveRightShift_1 7 rfl rfl)
theorem dJ35_primitiveRightShift_32 : decode cJ35_primitiveRightShift 32 = .ok (.getfield 11, 3) := dk_180 0 11 (dk_at dksJ35_primitiveRightShift_1 8 rfl rfl)
theorem dJ35_primitiveRightShift_35 : decode cJ35_primitiveRightShift 35 = .ok (.if_icmp .le 34, 3) := dk_164 0 34 (dk_at dksJ35_primitiveRightShift_1 11 rfl rfl)
theorem dJ35_primitiveRightShift_38 : decode cJ35_primitiveRightShift 38 = .ok (.iload 5, 2) := dk_21 5 (dk_at dksJ35_primitiveRightShift_1 14 rfl rfl)
theorem dJ35_primitiveRightShift_40 : decode cJ35_primitiveRightShift 40 = .ok (.istore 6, 2) := dk_54 6 (dk_at dksJ35_primitiveRightShift_1 16 rfl rfl)
theorem dJ35_primitiveRightShift_42 : decode cJ35_primitiveRightShift 42 = .ok (.aload_n 2, 1) := dk_44 (dk_at dksJ35_primitiveRightShift_1 18 rfl rfl)
theorem dJ35_primitiveRightShift_43 : decode cJ35_primitiveRightShift 43 = .ok (.iload 4, 2) := dk_21 4 (dk_at dksJ35_primitiveRightShift_1 19 rfl rfl)
theorem dJ35_primitiveRightShift_45 : decode cJ35_primitiveRightShift 45 = .ok (.iconst 1, 1) := dk_4 (dk_at dksJ35_primitiveRightShift_1 21 rfl rfl)
theorem dJ35_primitiveRightShift_46 : decode cJ35_primitiveRightShift 46 = .ok (.isub, 1) := dk_100 (dk_at dksJ35_primitiveRightShift_1 22 rfl rfl)
theorem dJ35_primitiveRightShift_47 : decode cJ35_primitiveRightShift 47 = .ok (.iaload, 1) := dk_46 (dk_at dksJ35_primitiveRightShift_1 23 rfl rfl)
theorem dJ35_primitiveRightShift_48 : decode cJ35_primitiveRightShift 48 = .ok (.istore 5, 2) := dk_54 5 (dk_at dksJ35_primitiveRightShift_2 0 rfl rfl)
theorem dJ35_primitiveRightShift_50 : decode cJ35_primitiveRightShift 50 = .ok (.aload_n 2, 1) := dk_44 (dk_at dksJ35_primitiveRightShift_2 2 rfl rfl)
theorem dJ35_primitiveRightShift_51 : decode cJ35_primitiveRightShift 51 = .ok (.iload 4, 2) := dk_21 4 (dk_at dksJ35_primitiveRightShift_2 3 rfl rfl)
theorem dJ35_primitiveRightShift_53 : decode cJ35_primitiveRightShift 53 = .ok (.iload 5, 2) := dk_21 5 (dk_at dksJ35_primitiveRightShift_2 5 rfl rfl)
theorem dJ35_primitiveRightShift_55 : decode cJ35_primitiveRightShift 55 = .ok (.iload_n 3, 1) := dk_29 (dk_at dksJ35_primitiveRightShift_2 7 rfl rfl)
theorem dJ35_primitiveRightShift_56 : decode cJ35_primitiveRightShift 56 = .ok (.ishl, 1) := dk_120 (dk_at dksJ35_primitiveRightShift_2 8 rfl rfl)
theorem dJ35_primitiveRightShift_57 : decode cJ35_primitiveRightShift 57 = .ok (.iload 6, 2) := dk_21 6 (dk_at dksJ35_primitiveRightShift_2 9 rfl rfl)
theorem dJ35_primitiveRightShift_59 : decode cJ35_primitiveRightShift 59 = .ok (.iload_n 1, 1) := dk_27 (dk_at dksJ35_primitiveRightShift_2 11 rfl rfl)
theorem dJ35_primitiveRightShift_60 : decode cJ35_primitiveRightShift 60 = .ok (.iushr, 1) := dk_124 (dk_at dksJ35_primitiveRightShift_2 12 rfl rfl)
theorem dJ35_primitiveRightShift_61 : decode cJ35_primitiveRightShift 61 = .ok (.ior, 1) := dk_128 (dk_at dksJ35_primitiveRightShift_2 13 rfl rfl)
theorem dJ35_primitiveRightShift_62 : decode cJ35_primitiveRightShift 62 = .ok (.iastore, 1) := dk_79 (dk_at dksJ35_primitiveRightShift_2 14 rfl rfl)
theorem dJ35_primitiveRightShift_63 : decode cJ35_primitiveRightShift 63 = .ok (.iinc 4 (-1), 3) := dk_132 4 255 (dk_at dksJ35_primitiveRightShift_2 15 rfl rfl)
theorem dJ35_primitiveRightShift_66 : decode cJ35_primitiveRightShift 66 = .ok (.goto (-37), 3) := dk_167 255 219 (dk_at dksJ35_primitiveRightShift_2 18 rfl rfl)
theorem dJ35_primitiveRightShift_69 : decode cJ35_primitiveRightShift 69 = .ok (.aload_n 2, 1) := dk_44 (dk_at dksJ35_primitiveRightShift_2 21 rfl rfl)
theorem dJ35_primitiveRightShift_70 : decode cJ35_primitiveRightShift 70 = .ok (.aload_n 0, 1) := dk_42 (dk_at dksJ35_primitiveRightShift_2 22 rfl rfl)
theorem dJ35_primitiveRightShift_71 : decode cJ35_primitiveRightShift 71 = .ok (.getfield 11, 3) := dk_180 0 11 (dk_at dksJ35_primitiveRightShift_3 0 rfl rfl)
theorem dJ35_primitiveRightShift_74 : decode cJ35_primitiveRightShift 74 = .ok (.dup2, 1) := dk_92 (dk_at dksJ35_primitiveRightShift_3 3 rfl rfl)
theorem dJ35_primitiveRightShift_75 : decode cJ35_primitiveRightShift 75 = .ok (.iaload, 1) := dk_46 (dk_at dksJ35_primitiveRightShift_3 4 rfl rfl)
theorem dJ35_primitiveRightShift_76 : decode cJ35_primitiveRightShift 76 = .ok (.iload_n 1, 1) := dk_27 (dk_at dksJ35_primitiveRightShift_3 5 rfl rfl)
theorem dJ35_primitiveRightShift_77 : decode cJ35_primitiveRightShift 77 = .ok (.iushr, 1) := dk_124 (dk_at dksJ35_primitiveRightShift_3 6 rfl rfl)
theorem dJ35_primitiveRightShift_78 : decode cJ35_primitiveRightShift 78 = .ok (.iastore, 1) := dk_79 (dk_at dksJ35_primitiveRightShift_3 7 rfl rfl)
theorem dJ35_primitiveRightShift_79 : decode cJ35_primitiveRightShift 79 = .ok (.return_, 1) := dk_177 (dk_at dksJ35_primitiveRightShift_3 8 rfl rfl)
/-- words shifted by less than a word -/
theorem shl_words {F G : Nat → Nat} {P Q : Nat} (hPQ : P * Q = 4294967296) (hP : 0 < P) : ∀ t, (∀ j, j < t → G j = F j * P % 4294967296 + F (j + 1) / Q) → wv F t * P + F t / Q = F 0 / Q * bw t + wv G t := by
  intro t
  induction t with
  | zero => intro _; rw [bw_0]; show 0 * P + _ = _ * 1 + 0; omega
  | succ t ih =>
    intro h
    have h1 := ih fun j hj => h j (by omega)
    have h2 := h t (by omega)
    have h3 := Nat.div_add_mod (F t * P) 4294967296
    have h4 : F t * P / 4294967296 = F t / Q := by rw [← hPQ, Nat.mul_comm (F t), Nat.mul_div_mul_left _ _ hP]
    rw [h4] at h3
    have h5 : (wv F t * 4294967296 + F t) * P = wv F t * P * 4294967296 + F t * P := by rw [Nat.add_mul, Nat.mul_right_comm]
    have h6 : F 0 / Q * (bw t * 4294967296) = F 0 / Q * bw t * 4294967296 := by rw [Nat.mul_assoc]
    rw [wv_s, wv_s, bw_s, h5, h6, h2]
    omega
theorem shl_end {f g : Nat → Nat} {o m k : Nat} (hm : 0 < m) (hk : k ≤ 32) (h0 : f o < 2 ^ (32 - k)) (hg : ∀ j, j + 1 < m → g (o + j) = f (o + j) * 2 ^ k % 4294967296 + f (o + j + 1) / 2 ^ (32 - k)) (he : g (o + (m - 1)) = f (o + (m - 1)) * 2 ^ k % 4294967296) : mw g o m = mw f o m * 2 ^ k := by
  have hPQ : 2 ^ k * 2 ^ (32 - k) = 4294967296 := by rw [← Nat.pow_add, show k + (32 - k) = 32 by omega]
  have h := shl_words (F := fun j => if j < m then f (o + j) else 0) (G := fun j => g (o + j)) hPQ (Nat.pow_pos (by decide)) m (fun j hj => by
    simp only [if_pos hj]
    rcases Nat.lt_or_ge (j + 1) m with c | c
    · rw [if_pos c, hg j c]; rfl
    · rw [if_neg (by omega), Nat.zero_div, show j = m - 1 by omega, he, Nat.add_zero])
  simp only [if_neg (Nat.lt_irrefl m), Nat.zero_div, if_pos hm, Nat.add_zero] at h
  rw [Nat.div_eq_of_lt h0, Nat.zero_mul, Nat.zero_add] at h
  unfold mw
  rw [← h]
  congr 1
  exact wv_cong fun j hj => by simp [hj]
theorem shr_words {F G : Nat → Nat} {P Q : Nat} (hPQ : P * Q = 4294967296) (h0 : G 0 = F 0 / P) : ∀ t, (∀ j, j < t → G (j + 1) = F j * Q % 4294967296 + F (j + 1) / P) → wv F (t + 1) = wv G (t + 1) * P + F t % P := by
  intro t
  induction t with
  | zero =>
    intro _
    have h3 := Nat.div_add_mod (F 0) P
    show 0 * 4294967296 + F 0 = (0 * 4294967296 + G 0) * P + F 0 % P
    rw [h0, Nat.zero_mul, Nat.zero_add, Nat.zero_add, Nat.mul_comm]; omega
  | succ t ih =>
    intro h
    have h1 := ih fun j hj => h j (by omega)
    have h2 := h t (by omega)
    have h3 := Nat.div_add_mod (F (t + 1)) P
    have h4 : F t * Q % 4294967296 = F t % P * Q := by rw [← hPQ, Nat.mul_mod_mul_right]
    have e1 : (wv G (t + 1) * P + F t % P) * 4294967296 = wv G (t + 1) * P * 4294967296 + F t % P * 4294967296 := Nat.add_mul ..
    have e2 : (wv G (t + 1) * 4294967296 + (F t % P * Q + F (t + 1) / P)) * P = wv G (t + 1) * P * 4294967296 + F t % P * 4294967296 + P * (F (t + 1) / P) := by
      have q1 : wv G (t + 1) * 4294967296 * P = wv G (t + 1) * P * 4294967296 := Nat.mul_right_comm ..
      have q2 : F t % P * Q * P = F t % P * 4294967296 := by rw [Nat.mul_assoc, Nat.mul_comm Q P, hPQ]
      rw [Nat.add_mul, Nat.add_mul, q1, q2, Nat.mul_comm (F (t + 1) / P), Nat.add_assoc]
    rw [wv_s F (t + 1), wv_s G (t + 1), h1, h2, h4, e1, e2, Nat.add_assoc (wv G (t + 1) * P * 4294967296 + F t % P * 4294967296), h3]
theorem shr_end {f g : Nat → Nat} {o m k : Nat} (hm : 0 < m) (hk : k ≤ 32) (h0 : g o = f o / 2 ^ k) (hg : ∀ j, j + 1 < m → g (o + (j + 1)) = f (o + j) * 2 ^ (32 - k) % 4294967296 + f (o + (j + 1)) / 2 ^ k) : mw g o m = mw f o m / 2 ^ k := by
  obtain ⟨t, rfl⟩ : ∃ t, m = t + 1 := ⟨m - 1, by omega⟩
  have hPQ : 2 ^ k * 2 ^ (32 - k) = 4294967296 := by rw [← Nat.pow_add, show k + (32 - k) = 32 by omega]
  have hp : 0 < 2 ^ k := Nat.pow_pos (by decide)
  have h := shr_words (F := fun j => f (o + j)) (G := fun j => g (o + j)) hPQ h0 t (fun j hj => hg j (by omega))
  unfold mw
  rw [h, Nat.mul_comm, Nat.mul_add_div hp, Nat.div_eq_of_lt (Nat.mod_lt _ hp)]; exact (Nat.add_zero _).symm
theorem blen_w {v : Nat} (h : v < 4294967296) : 32 - nlz (wI (v : Int)) = (blen v : Int) ∧ blen v ≤ 32 := by
  rw [nlz_w, nlz_p (by omega), Int.toNat_natCast]
  have := blen_lm (n := v) (k := 32) (by rw [show (2 ^ 32 : Nat) = 4294967296 from by decide]; exact h)
  omega
theorem shlw_lt {b k : Nat} {c : Nat} (hk : k ≤ 32) (hc : c < 4294967296) : b * 2 ^ k % 4294967296 + c / 2 ^ (32 - k) < 4294967296 := by
  have hPQ : 2 ^ k * 2 ^ (32 - k) = 4294967296 := by rw [← Nat.pow_add, show k + (32 - k) = 32 by omega]
  have hp : 0 < 2 ^ k := Nat.pow_pos (by decide)
  have h4 : b * 2 ^ k % 4294967296 = b % 2 ^ (32 - k) * 2 ^ k := by rw [← hPQ, Nat.mul_comm (2 ^ k), Nat.mul_mod_mul_right]
  have h5 : b % 2 ^ (32 - k) < 2 ^ (32 - k) := Nat.mod_lt _ (Nat.pow_pos (by decide))
  have h6 : c / 2 ^ (32 - k) < 2 ^ k := Nat.div_lt_of_lt_mul (by rw [Nat.mul_comm, hPQ]; exact hc)
  have h7 : (b % 2 ^ (32 - k) + 1) * 2 ^ k ≤ 2 ^ (32 - k) * 2 ^ k := Nat.mul_le_mul_right _ h5
  rw [Nat.add_mul, Nat.one_mul, Nat.mul_comm (2 ^ (32 - k)), hPQ] at h7
  rw [h4]; omega
theorem shrw_lt {b k : Nat} {c : Nat} (hk : k ≤ 32) (hc : c < 4294967296) : b * 2 ^ (32 - k) % 4294967296 + c / 2 ^ k < 4294967296 := by
  have h := shlw_lt (b := b) (k := 32 - k) (c := c) (by omega) hc
  rw [show 32 - (32 - k) = k by omega] at h; exact h
theorem divw_lt {c k : Nat} (hk : k ≤ 32) (hc : c < 4294967296) : c / 2 ^ k < 2 ^ (32 - k) := by
  have hPQ : 2 ^ k * 2 ^ (32 - k) = 4294967296 := by rw [← Nat.pow_add, show k + (32 - k) = 32 by omega]
  exact Nat.div_lt_of_lt_mul (by rw [hPQ]; exact hc)
theorem divw_lt' {c k : Nat} (hk : k ≤ 32) (hc : c < 4294967296) : c / 2 ^ (32 - k) < 2 ^ k := by
  have h := divw_lt (k := 32 - k) (by omega) hc
  rw [show 32 - (32 - k) = k by omega] at h; exact h
theorem mul_mod_self (z : Int) (k : Nat) : z * ((2 ^ k : Nat) : Int) % ((2 ^ k : Nat) : Int) = 0 := Int.mul_emod_left ..
/-- a word as the stack has it after (b << k) | (c >>> (32 - k)) -/
theorem shl_w {b k : Nat} {c : Int} : ((b : Int) * ((2 ^ k : Nat) : Int) + c) % 4294967296 = (((b * 2 ^ k % 4294967296 : Nat) : Int) + c) % 4294967296 := by
  rw [Int.natCast_emod, Int.natCast_mul]; omega
theorem up_o {f : Nat → Nat} {i v j : Nat} (h : j ≠ i) : va_up f i v j = f j := vu_ne h
theorem nd_J19_bitLengthForInt : yJ19_bitLengthForInt.cls ≠ "java/lang/invoke/MethodHandle" ∧ yJ19_bitLengthForInt.cls ≠ "java/lang/invoke/VarHandle" ∧ (parseMethodDescriptor yJ19_bitLengthForInt.desc).map (fun d => d.parameters.length) = some 1 := by decide +kernel
set_option maxRecDepth 100000 in
set_option maxHeartbeats 16000000 in
theorem ct_J19_bitLengthForInt {g : GG} {l : Launch} (v : Nat) (hv : v < 4294967296) : Ct g l yJ19_bitLengthForInt (ws_ yJ19_bitLengthForInt cJ19_bitLengthForInt 1 (Option.some Jvm.ClassFile.FieldType.int)) 2 33 0 0 [.int (jI (↑v))] [] (fun v9 Ws9 => v9 = some (.int (jI (↑(blen v)))) ∧ Ws9 = []) (nox) := by
  refine Ct.of (cc := cJ19_bitLengthForInt) (nL := 1) (ret := (Option.some Jvm.ClassFile.FieldType.int)) (by decide) rfl (Nat.le_of_ble_eq_true rfl) ?_
  intro x hg hl hPo hPx hmc hms F
  subst hg; subst hl
  refine SW.cast (L' := [(0, .int (jI (↑v)))]) ?_ rfl rfl rfl
  have hbl := blen_w hv
  refine sw_bipush (n := 2) F (32) (by decide) dJ19_bitLengthForInt_0 rfl ?_
  refine sw_iload_n (n := 3) F 0 rfl rfl dJ19_bitLengthForInt_2 rfl ?_
  refine sw_top (topIm (show (↑v : Int) % 4294967296 = (wI ↑(v)) % 4294967296 by exact (wI_s _).2.2.symm)) ?_
  refine sw_callS (n := 6) F (ct_J22_numberOfLeadingZeros (g := xg x) (l := xl x) (wI ↑(v)) (by exact ⟨(wI_s _).1, (wI_s _).2.1⟩)) q1224 q1225 q130 q1226 nd_J22_numberOfLeadingZeros rfl (by decide) [] rfl [] rfl 0 0 ⟨by omega, by omega⟩ [.int (jI 32)] rfl (Nat.le_of_ble_eq_true rfl) dJ19_bitLengthForInt_3 rfl (fun _ _ h => h.elim) (fun v Ws h => ?_)
  obtain ⟨rfl, rfl⟩ := h
  show SW x [] _ _ _ _ [.int (jI (nlz (wI ↑(v)))), .int (jI 32)]
  refine sw_isub (n := 7) F dJ19_bitLengthForInt_6 rfl ?_
  exact sw_iret F _ rfl (by first | rfl | exact jI_nz (by omega) | exact jI_nc (by omega)) dJ19_bitLengthForInt_7 (by rw [hPo]; exact ⟨(by rw [hbl.1]), rfl⟩)
theorem nd_J35_setValue : yJ35_setValue.cls ≠ "java/lang/invoke/MethodHandle" ∧ yJ35_setValue.cls ≠ "java/lang/invoke/VarHandle" ∧ (parseMethodDescriptor yJ35_setValue.desc).map (fun d => d.parameters.length) = some 2 := by decide +kernel
set_option maxRecDepth 100000 in
set_option maxHeartbeats 16000000 in
theorem ct_J35_setValue {g : GG} {l : Launch} (q : Nat) (a : Nat) (b : Nat) (n : Nat) (m : Int) (o : Int)  : Ct g l yJ35_setValue (ws_ yJ35_setValue cJ35_setValue 3 (Option.none : Option Jvm.ClassFile.FieldType)) 1 12 0 0 [.ref q, .ref b, .int (jI (↑n))] [ob g q 19 [.ref a, .int (jI m), .int (jI o)]] (fun v9 Ws9 => v9 = none ∧ Ws9 = [ob g q 19 [.ref b, .int (jI (↑n)), .int (jI 0)]]) (nox) := by
  refine Ct.of (cc := cJ35_setValue) (nL := 3) (ret := (Option.none : Option Jvm.ClassFile.FieldType)) (by decide) rfl (Nat.le_of_ble_eq_true rfl) ?_
  intro x hg hl hPo hPx hmc hms F
  subst hg; subst hl
  refine SW.cast (L' := [(0, .ref q), (1, .ref b), (2, .int (jI (↑n)))]) ?_ rfl rfl rfl
  refine sw_aload_n (n := 1) F 0 (some q) rfl rfl rfl dJ35_setValue_0 rfl ?_
  refine sw_aload_n (n := 2) F 1 (some b) rfl rfl rfl dJ35_setValue_1 rfl ?_
  refine sw_put (n := 5) F 0 rfl (k := 0) ⟨(RJ35, TJ35, 3), rfl, by decide, q1836, in_J35, Or.inl rfl⟩ (tyJ35 0) ⟨(RJ35, TJ35, 3), rfl, rfl, tyJ35_ok 0 (by decide), nmJ35, tyJ35, tyJ35_ok⟩ rfl rfl (Nat.le_of_ble_eq_true rfl) rfl [ob (xg x) q 19 [.ref b, .int (jI m), .int (jI o)]] rfl dJ35_setValue_2 rfl ?_
  refine sw_aload_n (n := 6) F 0 (some q) rfl rfl rfl dJ35_setValue_5 rfl ?_
  refine sw_iload_n (n := 7) F 2 rfl rfl dJ35_setValue_6 rfl ?_
  refine sw_put (n := 10) F 0 rfl (k := 1) ⟨(RJ35, TJ35, 3), rfl, by decide, q1837, in_J35, Or.inl rfl⟩ .int ⟨(RJ35, TJ35, 3), rfl, rfl, tyJ35_ok 1 (by decide), nmJ35, tyJ35, tyJ35_ok⟩ rfl rfl (Nat.le_of_ble_eq_true rfl) rfl [ob (xg x) q 19 [.ref b, .int (jI (↑n)), .int (jI o)]] rfl dJ35_setValue_7 rfl ?_
  refine sw_aload_n (n := 11) F 0 (some q) rfl rfl rfl dJ35_setValue_10 rfl ?_
  refine sw_iconst (n := 12) F (0) (by decide) dJ35_setValue_11 rfl ?_
  refine sw_put (n := 15) F 0 rfl (k := 2) ⟨(RJ35, TJ35, 3), rfl, by decide, q1838, in_J35, Or.inl rfl⟩ .int ⟨(RJ35, TJ35, 3), rfl, rfl, tyJ35_ok 2 (by decide), nmJ35, tyJ35, tyJ35_ok⟩ rfl rfl (Nat.le_of_ble_eq_true rfl) rfl [ob (xg x) q 19 [.ref b, .int (jI (↑n)), .int (jI 0)]] rfl dJ35_setValue_12 rfl ?_
  exact sw_vret F rfl dJ35_setValue_15 (by rw [hPo]; exact ⟨rfl, rfl⟩)
theorem nd_J35_primitiveLeftShift : yJ35_primitiveLeftShift.cls ≠ "java/lang/invoke/MethodHandle" ∧ yJ35_primitiveLeftShift.cls ≠ "java/lang/invoke/VarHandle" ∧ (parseMethodDescriptor yJ35_primitiveLeftShift.desc).map (fun d => d.parameters.length) = some 1 := by decide +kernel
set_option maxRecDepth 100000 in
set_option maxHeartbeats 16000000 in
theorem ct_J35_primitiveLeftShift {g : GG} {l : Launch} (q : Nat) (a : Nat) (N : Nat) (f : Nat → Nat) (m : Nat) (o : Nat) (sh : Nat) (hN : o + m ≤ N ∧ N ≤ 64) (hf : ∀ k, k < N → f k < 4294967296) (hm : 0 < m) (hk : 1 ≤ sh ∧ sh ≤ 31) (h0 : f o < 2 ^ (32 - sh)) : Ct g l yJ35_primitiveLeftShift (ws_ yJ35_primitiveLeftShift cJ35_primitiveLeftShift 8 (Option.none : Option Jvm.ClassFile.FieldType)) 1 12 0 0 [.ref q, .int (jI (↑sh))] [ob g q 19 [.ref a, .int (jI (↑m)), .int (jI (↑o))], aN g 0 a N f] (fun v9 Ws9 => ∃ f1 : Nat → Nat, v9 = none ∧ (∀ k, k < N → f1 k < 4294967296) ∧ (mw f1 o m = mw f o m * 2 ^ sh) ∧ (f1 o = f o * 2 ^ sh % 4294967296 + (if 1 < m then f (o + 1) / 2 ^ (32 - sh) else 0)) ∧ Ws9 = [ob g q 19 [.ref a, .int (jI (↑m)), .int (jI (↑o))], aN g 0 a N f1]) (nox) := by
  refine Ct.of (cc := cJ35_primitiveLeftShift) (nL := 8) (ret := (Option.none : Option Jvm.ClassFile.FieldType)) (by decide) rfl (Nat.le_of_ble_eq_true rfl) ?_
  intro x hg hl hPo hPx hmc hms F
  subst hg; subst hl
  refine SW.cast (L' := [(0, .ref q), (1, .int (jI (↑sh)))]) ?_ rfl rfl rfl
  refine sw_aload_n (n := 1) F 0 (some q) rfl rfl rfl dJ35_primitiveLeftShift_0 rfl ?_
  refine sw_get (n := 4) F 0 rfl (k := 0) ⟨(RJ35, TJ35, 3), rfl, by decide, q1836, in_J35, Or.inl rfl⟩ rfl dJ35_primitiveLeftShift_1 rfl ?_
  refine sw_astore_n (n := 5) F (some a) (L2 := [(2, .ref a), (0, .ref q), (1, .int (jI (↑sh)))]) rfl rfl (by decide) rfl dJ35_primitiveLeftShift_4 rfl ?_
  refine sw_bipush (n := 7) F (32) (by decide) dJ35_primitiveLeftShift_5 rfl ?_
  refine sw_iload_n (n := 8) F 2 rfl rfl dJ35_primitiveLeftShift_7 rfl ?_
  refine sw_isub (n := 9) F dJ35_primitiveLeftShift_8 rfl ?_
  refine sw_istore_n (n := 10) F (L2 := [(3, .int (jI (32 - (↑sh)))), (2, .ref a), (0, .ref q), (1, .int (jI (↑sh)))]) rfl (by decide) rfl dJ35_primitiveLeftShift_9 rfl ?_
  refine sw_aload_n (n := 11) F 2 (some q) rfl rfl rfl dJ35_primitiveLeftShift_10 rfl ?_
  refine sw_get (n := 14) F 0 rfl (k := 2) ⟨(RJ35, TJ35, 3), rfl, by decide, q1838, in_J35, Or.inl rfl⟩ rfl dJ35_primitiveLeftShift_11 rfl ?_
  refine sw_istore (n := 16) F (L2 := [(4, .int (jI (↑o))), (3, .int (jI (32 - (↑sh)))), (2, .ref a), (0, .ref q), (1, .int (jI (↑sh)))]) rfl (by decide) dJ35_primitiveLeftShift_14 rfl ?_
  refine sw_aload_n (n := 17) F 2 (some a) rfl rfl rfl dJ35_primitiveLeftShift_16 rfl ?_
  refine sw_iload (n := 19) F 0 rfl dJ35_primitiveLeftShift_17 rfl ?_
  refine sw_ialoadN (n := 20) F 1 rfl (fun _ => rfl) o rfl (by omega) dJ35_primitiveLeftShift_19 rfl ?_
  refine sw_istore (n := 22) F (L2 := [(5, .int (jI (↑(f o)))), (4, .int (jI (↑o))), (3, .int (jI (32 - (↑sh)))), (2, .ref a), (0, .ref q), (1, .int (jI (↑sh)))]) rfl (by decide) dJ35_primitiveLeftShift_20 rfl ?_
  refine sw_iload (n := 24) F 1 rfl dJ35_primitiveLeftShift_22 rfl ?_
  refine sw_aload_n (n := 25) F 4 (some q) rfl rfl rfl dJ35_primitiveLeftShift_24 rfl ?_
  refine sw_get (n := 28) F 0 rfl (k := 1) ⟨(RJ35, TJ35, 3), rfl, by decide, q1837, in_J35, Or.inl rfl⟩ rfl dJ35_primitiveLeftShift_25 rfl ?_
  refine sw_iadd (n := 29) F dJ35_primitiveLeftShift_28 rfl ?_
  refine sw_iconst (n := 30) F (1) (by decide) dJ35_primitiveLeftShift_29 rfl ?_
  refine sw_isub (n := 31) F dJ35_primitiveLeftShift_30 rfl ?_
  refine sw_istore (n := 33) F (L2 := [(6, .int (jI (((↑o) + (↑m)) - 1))), (5, .int (jI (↑(f o)))), (4, .int (jI (↑o))), (3, .int (jI (32 - (↑sh)))), (2, .ref a), (0, .ref q), (1, .int (jI (↑sh)))]) rfl (by decide) dJ35_primitiveLeftShift_31 rfl ?_
  have K33 : ∀ N33 : Nat, ∀ (t : Nat) (g : Nat → Nat), (t < m) → (∀ k, k < N → g k < 4294967296) → (∀ j, j < t → g (o + j) = f (o + j) * 2 ^ sh % 4294967296 + f (o + j + 1) / 2 ^ (32 - sh)) → (∀ j, o + t ≤ j → g j = f j) → ((m - t) < N33) → SW x [ob (xg x) q 19 [.ref a, .int (jI (↑m)), .int (jI (↑o))], aN (xg x) 0 a N g] 0 0 33 [(0, .ref q), (1, .int (jI (↑sh))), (2, .ref a), (3, .int (jI (32 - ↑sh))), (4, .int (jI (↑o + ↑t))), (5, .int (jI (↑(f (o + t))))), (6, .int (jI (↑o + ↑m - 1)))] [] := by
    intro N33; induction N33 with
    | zero => intro t g ht hgb hg hr hmu33; omega
    | succ N33 ih33 =>
      intro t g ht hgb hg hr hmu33
      refine sw_iload (n := 35) F 4 rfl dJ35_primitiveLeftShift_33 rfl ?_
      refine sw_iload (n := 37) F 6 rfl dJ35_primitiveLeftShift_35 rfl ?_
      refine sw_icmp_ge (n := 40) F (by omega) (by omega) (tgt := 71) dJ35_primitiveLeftShift_37 (by decide) rfl (fun c_37 => ?_) (fun c_37 => ?_)
      ·
        refine sw_aload_n (n := 72) F 2 (some a) rfl rfl rfl dJ35_primitiveLeftShift_71 rfl ?_
        refine sw_aload_n (n := 73) F 0 (some q) rfl rfl rfl dJ35_primitiveLeftShift_72 rfl ?_
        refine sw_get (n := 76) F 0 rfl (k := 2) ⟨(RJ35, TJ35, 3), rfl, by decide, q1838, in_J35, Or.inl rfl⟩ rfl dJ35_primitiveLeftShift_73 rfl ?_
        refine sw_aload_n (n := 77) F 0 (some q) rfl rfl rfl dJ35_primitiveLeftShift_76 rfl ?_
        refine sw_get (n := 80) F 0 rfl (k := 1) ⟨(RJ35, TJ35, 3), rfl, by decide, q1837, in_J35, Or.inl rfl⟩ rfl dJ35_primitiveLeftShift_77 rfl ?_
        refine sw_iadd (n := 81) F dJ35_primitiveLeftShift_80 rfl ?_
        refine sw_iconst (n := 82) F (1) (by decide) dJ35_primitiveLeftShift_81 rfl ?_
        refine sw_isub (n := 83) F dJ35_primitiveLeftShift_82 rfl ?_
        refine sw_dup2_1 (n := 84) F rfl rfl dJ35_primitiveLeftShift_83 rfl ?_
        refine sw_ialoadN (n := 85) F 1 rfl (fun _ => rfl) (((o) + (m)) - 1) (by omega) (by omega) dJ35_primitiveLeftShift_84 rfl ?_
        have hgt : g (o + t) = f (o + t) := hr _ (by omega)
        have htm : t = m - 1 := by omega
        refine sw_top (topI (show (↑(g (((o) + (m)) - 1)) : Int) = ↑(f (o + t)) by rw [show o + m - 1 = o + t by omega, hgt])) ?_
        refine sw_iload_n (n := 86) F 1 rfl rfl dJ35_primitiveLeftShift_85 rfl ?_
        refine sw_ishl (n := 87) F (jI ((↑(f (o + t))) * ((2 ^ sh : Nat) : Int))) (by have h7s := jI_shl (↑(f (o + t))) (c := ↑sh) (k := sh) (by omega); exact h7s) dJ35_primitiveLeftShift_86 rfl ?_
        refine sw_iastoreW (n := 88) F 1 rfl (fun _ => rfl) (((o) + (m)) - 1) (by omega) (by omega) (f (o + t) * 2 ^ sh % 4294967296) (by rw [Int.natCast_emod, Int.natCast_mul]; omega) [ob (xg x) q 19 [.ref a, .int (jI (↑m)), .int (jI (↑o))], aN (xg x) 0 a N (va_up g (((o) + (m)) - 1) (f (o + t) * 2 ^ sh % 4294967296))] (by rfl) dJ35_primitiveLeftShift_87 rfl ?_
        exact sw_vret F rfl dJ35_primitiveLeftShift_88 (by rw [hPo]; exact ⟨va_up g (((o) + (m)) - 1) (f (o + t) * 2 ^ sh % 4294967296), rfl, (by exact up_lt hgb (by omega)), (by refine shl_end hm (by omega) h0 (fun j hj => ?_) ?_; rw [vu_ne (by omega)]; exact hg j (by omega); rw [vu_eq (by omega), htm]), (by rcases Nat.lt_or_ge 1 m with c | c; rw [if_pos c, vu_ne (by omega)]; exact hg 0 (by omega); rw [if_neg (by omega), vu_eq (by omega), show t = 0 by omega]; rfl), rfl⟩)
      ·
        refine sw_iload (n := 42) F 5 rfl dJ35_primitiveLeftShift_40 rfl ?_
        refine sw_istore (n := 44) F (L2 := [(7, .int (jI (↑(f (o + t))))), (0, .ref q), (1, .int (jI (↑sh))), (2, .ref a), (3, .int (jI (32 - ↑sh))), (4, .int (jI (↑o + ↑t))), (5, .int (jI (↑(f (o + t))))), (6, .int (jI (↑o + ↑m - 1)))]) rfl (by decide) dJ35_primitiveLeftShift_42 rfl ?_
        refine sw_aload_n (n := 45) F 3 (some a) rfl rfl rfl dJ35_primitiveLeftShift_44 rfl ?_
        refine sw_iload (n := 47) F 5 rfl dJ35_primitiveLeftShift_45 rfl ?_
        refine sw_iconst (n := 48) F (1) (by decide) dJ35_primitiveLeftShift_47 rfl ?_
        refine sw_iadd (n := 49) F dJ35_primitiveLeftShift_48 rfl ?_
        refine sw_ialoadN (n := 50) F 1 rfl (fun _ => rfl) ((o + t) + 1) (by omega) (by omega) dJ35_primitiveLeftShift_49 rfl ?_
        refine sw_top (topI (show (↑(g ((o + t) + 1)) : Int) = ↑(f (o + (t + 1))) by rw [hr _ (by omega)]; rfl)) ?_
        refine sw_istore (n := 52) F (L2 := [(5, .int (jI (↑(f (o + (t + 1)))))), (7, .int (jI (↑(f (o + t))))), (0, .ref q), (1, .int (jI (↑sh))), (2, .ref a), (3, .int (jI (32 - ↑sh))), (4, .int (jI (↑o + ↑t))), (6, .int (jI (↑o + ↑m - 1)))]) rfl (by decide) dJ35_primitiveLeftShift_50 rfl ?_
        refine sw_aload_n (n := 53) F 4 (some a) rfl rfl rfl dJ35_primitiveLeftShift_52 rfl ?_
        refine sw_iload (n := 55) F 6 rfl dJ35_primitiveLeftShift_53 rfl ?_
        refine sw_iload (n := 57) F 1 rfl dJ35_primitiveLeftShift_55 rfl ?_
        refine sw_iload_n (n := 58) F 3 rfl rfl dJ35_primitiveLeftShift_57 rfl ?_
        refine sw_ishl (n := 59) F (jI ((↑(f (o + t))) * ((2 ^ sh : Nat) : Int))) (by have h7s := jI_shl (↑(f (o + t))) (c := ↑sh) (k := sh) (by omega); exact h7s) dJ35_primitiveLeftShift_58 rfl ?_
        refine sw_iload (n := 61) F 0 rfl dJ35_primitiveLeftShift_59 rfl ?_
        refine sw_iload_n (n := 62) F 5 rfl rfl dJ35_primitiveLeftShift_61 rfl ?_
        have hb_x : f (o + (t + 1)) < 4294967296 := hf _ (by omega)
        have hdw := divw_lt' (c := f (o + (t + 1))) (k := sh) (by omega) hb_x
        refine sw_iushr (n := 63) F (jI ((↑(f (o + (t + 1)))) / ((2 ^ (32 - sh) : Nat) : Int))) (by have h7s := jI_ushrP (z := ↑(f (o + (t + 1)))) (c := 32 - ↑sh) (k := (32 - sh)) (by omega) (by omega); exact h7s) dJ35_primitiveLeftShift_62 rfl ?_
        refine sw_ior (n := 64) F (jI (((↑(f (o + t))) * ((2 ^ sh : Nat) : Int)) + ((↑(f (o + (t + 1)))) / ((2 ^ (32 - sh) : Nat) : Int)))) (jI_or sh (by omega) (by exact mul_mod_self _ _) (by rw [← Int.natCast_ediv]; exact ⟨Int.natCast_nonneg _, Int.ofNat_lt.mpr hdw⟩)) dJ35_primitiveLeftShift_63 rfl ?_
        refine sw_iastoreW (n := 65) F 1 rfl (fun _ => rfl) (o + t) (by omega) (by omega) (f (o + t) * 2 ^ sh % 4294967296 + f (o + (t + 1)) / 2 ^ (32 - sh)) (by rw [Int.natCast_add, Int.natCast_ediv]; exact shl_w) [ob (xg x) q 19 [.ref a, .int (jI (↑m)), .int (jI (↑o))], aN (xg x) 0 a N (va_up g (o + t) (f (o + t) * 2 ^ sh % 4294967296 + f (o + (t + 1)) / 2 ^ (32 - sh)))] (by rfl) dJ35_primitiveLeftShift_64 rfl ?_
        refine sw_iinc (n := 68) F 6 (L2 := [(4, .int (jI (↑o + ↑t + 1))), (5, .int (jI (↑(f (o + (t + 1)))))), (7, .int (jI (↑(f (o + t))))), (0, .ref q), (1, .int (jI (↑sh))), (2, .ref a), (3, .int (jI (32 - ↑sh))), (6, .int (jI (↑o + ↑m - 1)))]) rfl rfl (by decide) dJ35_primitiveLeftShift_65 rfl ?_
        refine sw_goto F (n := 33) dJ35_primitiveLeftShift_68 (by decide) ?_
        refine sw_loc [3, 4, 5, 6, 0, 1, 7] (L2 := [(0, .ref q), (1, .int (jI (↑sh))), (2, .ref a), (3, .int (jI (32 - ↑sh))), (4, .int (jI (↑o + ↑t + 1))), (5, .int (jI (↑(f (o + (t + 1)))))), (6, .int (jI (↑o + ↑m - 1)))]) rfl ?_
        rw [show (↑o + ↑t + 1 : Int) = ↑o + ↑(t + 1) by omega]
        exact ih33 (t + 1) (va_up g (o + t) (f (o + t) * 2 ^ sh % 4294967296 + f (o + (t + 1)) / 2 ^ (32 - sh))) (by omega) (by first | assumption | exact up_lt hgb (shlw_lt (by omega) hb_x)) (by first | (intro j hj; omega) | (intro j hj; rcases Nat.lt_or_ge j t with c | c; rw [vu_ne (by omega)]; exact hg j c; rw [show j = t by omega, vu_eq rfl]; rfl)) (by first | (intro j hj; rfl) | (intro j hj; rw [vu_ne (by omega)]; exact hr j (by omega))) (by omega)
  refine SW.cast (L' := [(6, .int (jI (((↑o) + (↑m)) - 1))), (5, .int (jI (↑(f o)))), (4, .int (jI (↑o + 0))), (3, .int (jI (32 - (↑sh)))), (2, .ref a), (0, .ref q), (1, .int (jI (↑sh)))]) ?_ rfl (by rw [show Value.int (jI (↑o)) = Value.int (jI (↑o + 0)) from topI (by omega)]) rfl
  refine SW.cast (L' := [(6, .int (jI (((↑o) + (↑m)) - 1))), (5, .int (jI (↑(f (o + 0))))), (4, .int (jI (↑o + 0))), (3, .int (jI (32 - (↑sh)))), (2, .ref a), (0, .ref q), (1, .int (jI (↑sh)))]) ?_ rfl (by rw [show Value.int (jI (↑(f o))) = Value.int (jI (↑(f (o + 0)))) from topI (by rfl)]) rfl
  refine sw_loc [5, 6, 4, 3, 2, 1, 0] (L2 := [(0, .ref q), (1, .int (jI (↑sh))), (2, .ref a), (3, .int (jI (32 - (↑sh)))), (4, .int (jI (↑o + 0))), (5, .int (jI (↑(f (o + 0))))), (6, .int (jI (((↑o) + (↑m)) - 1)))]) rfl ?_
  exact K33 _ 0 f (by omega) (by first | assumption | exact up_lt hgb (shlw_lt (by omega) hb_x)) (by intro j hj; omega) (by first | (intro j hj; rfl) | (intro j hj; rw [vu_ne (by omega)]; exact hr j (by omega))) (Nat.lt_succ_self _)
theorem nd_J35_primitiveRightShift : yJ35_primitiveRightShift.cls ≠ "java/lang/invoke/MethodHandle" ∧ yJ35_primitiveRightShift.cls ≠ "java/lang/invoke/VarHandle" ∧ (parseMethodDescriptor yJ35_primitiveRightShift.desc).map (fun d => d.parameters.length) = some 1 := by decide +kernel
set_option maxRecDepth 100000 in
set_option maxHeartbeats 16000000 in
theorem ct_J35_primitiveRightShift {g : GG} {l : Launch} (q : Nat) (a : Nat) (N : Nat) (f : Nat → Nat) (m : Nat) (o : Nat) (sh : Nat) (hN : o + m ≤ N ∧ N ≤ 64) (hf : ∀ k, k < N → f k < 4294967296) (hm : 0 < m) (hk : 1 ≤ sh ∧ sh ≤ 31) : Ct g l yJ35_primitiveRightShift (ws_ yJ35_primitiveRightShift cJ35_primitiveRightShift 7 (Option.none : Option Jvm.ClassFile.FieldType)) 1 12 0 0 [.ref q, .int (jI (↑sh))] [ob g q 19 [.ref a, .int (jI (↑m)), .int (jI (↑o))], aN g 0 a N f] (fun v9 Ws9 => ∃ f1 : Nat → Nat, v9 = none ∧ (∀ k, k < N → f1 k < 4294967296) ∧ (mw f1 o m = mw f o m / 2 ^ sh) ∧ (f1 o = f o / 2 ^ sh) ∧ Ws9 = [ob g q 19 [.ref a, .int (jI (↑m)), .int (jI (↑o))], aN g 0 a N f1]) (nox) := by
  refine Ct.of (cc := cJ35_primitiveRightShift) (nL := 7) (ret := (Option.none : Option Jvm.ClassFile.FieldType)) (by decide) rfl (Nat.le_of_ble_eq_true rfl) ?_
  intro x hg hl hPo hPx hmc hms F
  subst hg; subst hl
  refine SW.cast (L' := [(0, .ref q), (1, .int (jI (↑sh)))]) ?_ rfl rfl rfl
  refine sw_aload_n (n := 1) F 0 (some q) rfl rfl rfl dJ35_primitiveRightShift_0 rfl ?_
  refine sw_get (n := 4) F 0 rfl (k := 0) ⟨(RJ35, TJ35, 3), rfl, by decide, q1836, in_J35, Or.inl rfl⟩ rfl dJ35_primitiveRightShift_1 rfl ?_
  refine sw_astore_n (n := 5) F (some a) (L2 := [(2, .ref a), (0, .ref q), (1, .int (jI (↑sh)))]) rfl rfl (by decide) rfl dJ35_primitiveRightShift_4 rfl ?_
  refine sw_bipush (n := 7) F (32) (by decide) dJ35_primitiveRightShift_5 rfl ?_
  refine sw_iload_n (n := 8) F 2 rfl rfl dJ35_primitiveRightShift_7 rfl ?_
  refine sw_isub (n := 9) F dJ35_primitiveRightShift_8 rfl ?_
  refine sw_istore_n (n := 10) F (L2 := [(3, .int (jI (32 - (↑sh)))), (2, .ref a), (0, .ref q), (1, .int (jI (↑sh)))]) rfl (by decide) rfl dJ35_primitiveRightShift_9 rfl ?_
  refine sw_aload_n (n := 11) F 2 (some q) rfl rfl rfl dJ35_primitiveRightShift_10 rfl ?_
  refine sw_get (n := 14) F 0 rfl (k := 2) ⟨(RJ35, TJ35, 3), rfl, by decide, q1838, in_J35, Or.inl rfl⟩ rfl dJ35_primitiveRightShift_11 rfl ?_
  refine sw_aload_n (n := 15) F 2 (some q) rfl rfl rfl dJ35_primitiveRightShift_14 rfl ?_
  refine sw_get (n := 18) F 0 rfl (k := 1) ⟨(RJ35, TJ35, 3), rfl, by decide, q1837, in_J35, Or.inl rfl⟩ rfl dJ35_primitiveRightShift_15 rfl ?_
  refine sw_iadd (n := 19) F dJ35_primitiveRightShift_18 rfl ?_
  refine sw_iconst (n := 20) F (1) (by decide) dJ35_primitiveRightShift_19 rfl ?_
  refine sw_isub (n := 21) F dJ35_primitiveRightShift_20 rfl ?_
  refine sw_istore (n := 23) F (L2 := [(4, .int (jI (((↑o) + (↑m)) - 1))), (3, .int (jI (32 - (↑sh)))), (2, .ref a), (0, .ref q), (1, .int (jI (↑sh)))]) rfl (by decide) dJ35_primitiveRightShift_21 rfl ?_
  refine sw_aload_n (n := 24) F 2 (some a) rfl rfl rfl dJ35_primitiveRightShift_23 rfl ?_
  refine sw_iload (n := 26) F 0 rfl dJ35_primitiveRightShift_24 rfl ?_
  refine sw_ialoadN (n := 27) F 1 rfl (fun _ => rfl) (((o) + (m)) - 1) (by omega) (by omega) dJ35_primitiveRightShift_26 rfl ?_
  refine sw_top (topI (show (↑(f (((o) + (m)) - 1)) : Int) = ↑(f (o + (m - 1))) by rw [show o + m - 1 = o + (m - 1) by omega])) ?_
  refine sw_istore (n := 29) F (L2 := [(5, .int (jI (↑(f (o + (m - 1)))))), (4, .int (jI (((↑o) + (↑m)) - 1))), (3, .int (jI (32 - (↑sh)))), (2, .ref a), (0, .ref q), (1, .int (jI (↑sh)))]) rfl (by decide) dJ35_primitiveRightShift_27 rfl ?_
  have K29 : ∀ N29 : Nat, ∀ (t : Nat) (g : Nat → Nat), (t < m) → (∀ k, k < N → g k < 4294967296) → (∀ j, t ≤ j → j + 1 < m → g (o + (j + 1)) = f (o + j) * 2 ^ (32 - sh) % 4294967296 + f (o + (j + 1)) / 2 ^ sh) → (∀ j, j ≤ o + t → g j = f j) → ((t) < N29) → SW x [ob (xg x) q 19 [.ref a, .int (jI (↑m)), .int (jI (↑o))], aN (xg x) 0 a N g] 0 0 29 [(0, .ref q), (1, .int (jI (↑sh))), (2, .ref a), (3, .int (jI (32 - ↑sh))), (4, .int (jI (↑o + ↑t))), (5, .int (jI (↑(f (o + t)))))] [] := by
    intro N29; induction N29 with
    | zero => intro t g ht hgb hg hr hmu29; omega
    | succ N29 ih29 =>
      intro t g ht hgb hg hr hmu29
      refine sw_iload (n := 31) F 4 rfl dJ35_primitiveRightShift_29 rfl ?_
      refine sw_aload_n (n := 32) F 0 (some q) rfl rfl rfl dJ35_primitiveRightShift_31 rfl ?_
      refine sw_get (n := 35) F 0 rfl (k := 2) ⟨(RJ35, TJ35, 3), rfl, by decide, q1838, in_J35, Or.inl rfl⟩ rfl dJ35_primitiveRightShift_32 rfl ?_
      refine sw_icmp_le (n := 38) F (by omega) (by omega) (tgt := 69) dJ35_primitiveRightShift_35 (by decide) rfl (fun c_35 => ?_) (fun c_35 => ?_)
      ·
        refine sw_aload_n (n := 70) F 2 (some a) rfl rfl rfl dJ35_primitiveRightShift_69 rfl ?_
        refine sw_aload_n (n := 71) F 0 (some q) rfl rfl rfl dJ35_primitiveRightShift_70 rfl ?_
        refine sw_get (n := 74) F 0 rfl (k := 2) ⟨(RJ35, TJ35, 3), rfl, by decide, q1838, in_J35, Or.inl rfl⟩ rfl dJ35_primitiveRightShift_71 rfl ?_
        refine sw_dup2_1 (n := 75) F rfl rfl dJ35_primitiveRightShift_74 rfl ?_
        refine sw_ialoadN (n := 76) F 1 rfl (fun _ => rfl) o rfl (by omega) dJ35_primitiveRightShift_75 rfl ?_
        have ht0 : t = 0 := by omega
        have hgt : g o = f o := hr _ (by omega)
        have hb_o : f o < 4294967296 := hf _ (by omega)
        have hdl := Nat.div_le_self (f o) (2 ^ sh)
        refine sw_top (topI (show (↑(g o) : Int) = ↑(f o) by rw [hgt])) ?_
        refine sw_iload_n (n := 77) F 1 rfl rfl dJ35_primitiveRightShift_76 rfl ?_
        refine sw_iushr (n := 78) F (jI ((↑(f o)) / ((2 ^ sh : Nat) : Int))) (by have h7s := jI_ushrP (z := ↑(f o)) (c := ↑sh) (k := sh) (by omega) (by omega); exact h7s) dJ35_primitiveRightShift_77 rfl ?_
        refine sw_iastoreW (n := 79) F 1 rfl (fun _ => rfl) o rfl (by omega) (f o / 2 ^ sh) (by rw [Int.natCast_ediv]) [ob (xg x) q 19 [.ref a, .int (jI (↑m)), .int (jI (↑o))], aN (xg x) 0 a N (va_up g o (f o / 2 ^ sh))] (by rfl) dJ35_primitiveRightShift_78 rfl ?_
        exact sw_vret F rfl dJ35_primitiveRightShift_79 (by rw [hPo]; exact ⟨va_up g o (f o / 2 ^ sh), rfl, (by exact up_lt hgb (by omega)), (by refine shr_end hm (by omega) (vu_eq rfl) (fun j hj => ?_); rw [vu_ne (by omega)]; exact hg j (by omega) hj), (by exact vu_eq rfl), rfl⟩)
      ·
        refine sw_iload (n := 40) F 5 rfl dJ35_primitiveRightShift_38 rfl ?_
        refine sw_istore (n := 42) F (L2 := [(6, .int (jI (↑(f (o + t))))), (0, .ref q), (1, .int (jI (↑sh))), (2, .ref a), (3, .int (jI (32 - ↑sh))), (4, .int (jI (↑o + ↑t))), (5, .int (jI (↑(f (o + t)))))]) rfl (by decide) dJ35_primitiveRightShift_40 rfl ?_
        refine sw_aload_n (n := 43) F 3 (some a) rfl rfl rfl dJ35_primitiveRightShift_42 rfl ?_
        refine sw_iload (n := 45) F 5 rfl dJ35_primitiveRightShift_43 rfl ?_
        refine sw_iconst (n := 46) F (1) (by decide) dJ35_primitiveRightShift_45 rfl ?_
        refine sw_isub (n := 47) F dJ35_primitiveRightShift_46 rfl ?_
        refine sw_ialoadN (n := 48) F 1 rfl (fun _ => rfl) ((o + t) - 1) (by omega) (by omega) dJ35_primitiveRightShift_47 rfl ?_
        refine sw_top (topI (show (↑(g ((o + t) - 1)) : Int) = ↑(f (o + (t - 1))) by rw [hr _ (by omega), show o + t - 1 = o + (t - 1) by omega])) ?_
        refine sw_istore (n := 50) F (L2 := [(5, .int (jI (↑(f (o + (t - 1)))))), (6, .int (jI (↑(f (o + t))))), (0, .ref q), (1, .int (jI (↑sh))), (2, .ref a), (3, .int (jI (32 - ↑sh))), (4, .int (jI (↑o + ↑t)))]) rfl (by decide) dJ35_primitiveRightShift_48 rfl ?_
        refine sw_aload_n (n := 51) F 4 (some a) rfl rfl rfl dJ35_primitiveRightShift_50 rfl ?_
        refine sw_iload (n := 53) F 6 rfl dJ35_primitiveRightShift_51 rfl ?_
        refine sw_iload (n := 55) F 0 rfl dJ35_primitiveRightShift_53 rfl ?_
        refine sw_iload_n (n := 56) F 5 rfl rfl dJ35_primitiveRightShift_55 rfl ?_
        refine sw_ishl (n := 57) F (jI ((↑(f (o + (t - 1)))) * ((2 ^ (32 - sh) : Nat) : Int))) (by have h7s := jI_shl (↑(f (o + (t - 1)))) (c := 32 - ↑sh) (k := (32 - sh)) (by omega); exact h7s) dJ35_primitiveRightShift_56 rfl ?_
        refine sw_iload (n := 59) F 1 rfl dJ35_primitiveRightShift_57 rfl ?_
        refine sw_iload_n (n := 60) F 3 rfl rfl dJ35_primitiveRightShift_59 rfl ?_
        have hb_x : f (o + t) < 4294967296 := hf _ (by omega)
        have hdw := divw_lt (c := f (o + t)) (k := sh) (by omega) hb_x
        refine sw_iushr (n := 61) F (jI ((↑(f (o + t))) / ((2 ^ sh : Nat) : Int))) (by have h7s := jI_ushrP (z := ↑(f (o + t))) (c := ↑sh) (k := sh) (by omega) (by omega); exact h7s) dJ35_primitiveRightShift_60 rfl ?_
        refine sw_ior (n := 62) F (jI (((↑(f (o + (t - 1)))) * ((2 ^ (32 - sh) : Nat) : Int)) + ((↑(f (o + t))) / ((2 ^ sh : Nat) : Int)))) (jI_or (32 - sh) (by omega) (by exact mul_mod_self _ _) (by rw [← Int.natCast_ediv]; exact ⟨Int.natCast_nonneg _, Int.ofNat_lt.mpr hdw⟩)) dJ35_primitiveRightShift_61 rfl ?_
        refine sw_iastoreW (n := 63) F 1 rfl (fun _ => rfl) (o + t) (by omega) (by omega) (f (o + (t - 1)) * 2 ^ (32 - sh) % 4294967296 + f (o + t) / 2 ^ sh) (by rw [Int.natCast_add, Int.natCast_ediv]; exact shl_w) [ob (xg x) q 19 [.ref a, .int (jI (↑m)), .int (jI (↑o))], aN (xg x) 0 a N (va_up g (o + t) (f (o + (t - 1)) * 2 ^ (32 - sh) % 4294967296 + f (o + t) / 2 ^ sh))] (by rfl) dJ35_primitiveRightShift_62 rfl ?_
        refine sw_iinc (n := 66) F 6 (L2 := [(4, .int (jI (↑o + ↑t + (-1)))), (5, .int (jI (↑(f (o + (t - 1)))))), (6, .int (jI (↑(f (o + t))))), (0, .ref q), (1, .int (jI (↑sh))), (2, .ref a), (3, .int (jI (32 - ↑sh)))]) rfl rfl (by decide) dJ35_primitiveRightShift_63 rfl ?_
        refine sw_goto F (n := 29) dJ35_primitiveRightShift_66 (by decide) ?_
        refine sw_loc [3, 4, 5, 6, 0, 1] (L2 := [(0, .ref q), (1, .int (jI (↑sh))), (2, .ref a), (3, .int (jI (32 - ↑sh))), (4, .int (jI (↑o + ↑t + (-1)))), (5, .int (jI (↑(f (o + (t - 1))))))]) rfl ?_
        rw [show (↑o + ↑t + (-1) : Int) = ↑o + ↑(t - 1) by omega]
        exact ih29 (t - 1) (va_up g (o + t) (f (o + (t - 1)) * 2 ^ (32 - sh) % 4294967296 + f (o + t) / 2 ^ sh)) (by omega) (by first | assumption | exact up_lt hgb (shrw_lt (by omega) hb_x)) (by first | (intro j hj hj2; omega) | (intro j hj hj2; rcases Nat.lt_or_ge j t with c | c; rw [vu_eq (by omega), show j = t - 1 by omega, show t - 1 + 1 = t by omega]; rw [vu_ne (by omega)]; exact hg j c hj2)) (by first | (intro j hj; rfl) | (intro j hj; rw [vu_ne (by omega)]; exact hr j (by omega))) (by omega)
  refine sw_loc [4, 5, 3, 2, 1, 0] (L2 := [(0, .ref q), (1, .int (jI (↑sh))), (2, .ref a), (3, .int (jI (32 - (↑sh)))), (4, .int (jI (((↑o) + (↑m)) - 1))), (5, .int (jI (↑(f (o + (m - 1))))))]) rfl ?_
  rw [show (((↑o) + (↑m)) - 1 : Int) = ↑o + ↑(m - 1) by omega]
  exact K29 _ (m - 1) f (by omega) (by first | assumption | exact up_lt hgb (shrw_lt (by omega) hb_x)) (by first | (intro j hj hj2; omega) | (intro j hj hj2; rcases Nat.lt_or_ge j t with c | c; rw [vu_eq (by omega), show j = t - 1 by omega, show t - 1 + 1 = t by omega]; rw [vu_ne (by omega)]; exact hg j c hj2)) (by first | (intro j hj; rfl) | (intro j hj; rw [vu_ne (by omega)]; exact hr j (by omega))) (Nat.lt_succ_self _)
