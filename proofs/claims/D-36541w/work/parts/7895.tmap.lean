/-! java.util.TreeMap -/
def clO (cl : Nat → Int) (o : Option Nat) : Int := match o with | none => 1 | some x => cl x
def cuO (cl : Nat → Int) (o : Option Nat) (c : Int) : Nat → Int := fun t => if o = some t then c else cl t
theorem clO_b {cl : Nat → Int} (h : ∀ t, cl t = 0 ∨ cl t = 1) (o : Option Nat) : clO cl o = 0 ∨ clO cl o = 1 := by cases o with | none => exact Or.inr rfl | some x => exact h x
theorem clO_s {cl : Nat → Int} {o : Option Nat} (h : clO cl o ≠ 1) : ∃ x, o = some x := by cases o with | none => exact absurd rfl h | some x => exact ⟨x, rfl⟩
theorem cb_up {cl : Nat → Int} {x : Nat} {v : Int} (h : ∀ t, cl t = 0 ∨ cl t = 1) (hv : v = 0 ∨ v = 1) : ∀ t, va_up cl x v t = 0 ∨ va_up cl x v t = 1 := fun t => by unfold va_up; split; exact hv; exact h t
theorem cb_cu {cl : Nat → Int} {o : Option Nat} {v : Int} (h : ∀ t, cl t = 0 ∨ cl t = 1) (hv : v = 0 ∨ v = 1) : ∀ t, cuO cl o v t = 0 ∨ cuO cl o v t = 1 := fun t => by unfold cuO; split; exact hv; exact h t
theorem cuO_no {cl : Nat → Int} {o : Option Nat} {v : Int} {t : Nat} (h : o ≠ some t) : cuO cl o v t = cl t := if_neg h
section NDS
variable {Ks : List Nat} {ka va : Nat → Nat} {L R P : OP} {cl : Nat → Int} {q t : Nat}
theorem flN_ne {ka' va' : Nat → Nat} {L' R' P' : OP} {cl' : Nat → Int} (h1 : ka' t = ka t) (h2 : va' t = va t) (h3 : L' t = L t) (h4 : R' t = R t) (h5 : P' t = P t) (h6 : cl' t = cl t) : flN ka' va' L' R' P' cl' t = flN ka va L R P cl t := by unfold flN; rw [h1, h2, h3, h4, h5, h6]
end NDS
set_option maxRecDepth 100000
def dkwJ10_fixAfterInsertion_11 : List UInt8 := [42, 180, 0, 101, 4, 181, 1, 34, 177]
abbrev dktJ10_fixAfterInsertion_11 : List UInt8 := dkwJ10_fixAfterInsertion_11 ++ []
def dkwJ10_fixAfterInsertion_10 : List UInt8 := [184, 1, 38, 184, 1, 38, 3, 184, 1, 51, 42, 43, 184, 1, 38, 184, 1, 38, 182, 1, 55, 167, 255, 6]
abbrev dktJ10_fixAfterInsertion_10 : List UInt8 := dkwJ10_fixAfterInsertion_10 ++ dktJ10_fixAfterInsertion_11
def dkwJ10_fixAfterInsertion_9 : List UInt8 := [166, 0, 13, 43, 184, 1, 38, 76, 42, 43, 182, 1, 58, 43, 184, 1, 38, 4, 184, 1, 51, 43]
abbrev dktJ10_fixAfterInsertion_9 : List UInt8 := dkwJ10_fixAfterInsertion_9 ++ dktJ10_fixAfterInsertion_10
def dkwJ10_fixAfterInsertion_8 : List UInt8 := [184, 1, 51, 43, 184, 1, 38, 184, 1, 38, 76, 167, 0, 54, 43, 43, 184, 1, 38, 184, 1, 41]
abbrev dktJ10_fixAfterInsertion_8 : List UInt8 := dkwJ10_fixAfterInsertion_8 ++ dktJ10_fixAfterInsertion_9
def dkwJ10_fixAfterInsertion_7 : List UInt8 := [154, 0, 38, 43, 184, 1, 38, 4, 184, 1, 51, 44, 4, 184, 1, 51, 43, 184, 1, 38, 184, 1, 38, 3]
abbrev dktJ10_fixAfterInsertion_7 : List UInt8 := dkwJ10_fixAfterInsertion_7 ++ dktJ10_fixAfterInsertion_8
def dkwJ10_fixAfterInsertion_6 : List UInt8 := [184, 1, 38, 182, 1, 58, 167, 255, 113, 43, 184, 1, 38, 184, 1, 38, 184, 1, 41, 77, 44, 184, 1, 47]
abbrev dktJ10_fixAfterInsertion_6 : List UInt8 := dkwJ10_fixAfterInsertion_6 ++ dktJ10_fixAfterInsertion_7
def dkwJ10_fixAfterInsertion_5 : List UInt8 := [43, 184, 1, 38, 4, 184, 1, 51, 43, 184, 1, 38, 184, 1, 38, 3, 184, 1, 51, 42, 43, 184, 1, 38]
abbrev dktJ10_fixAfterInsertion_5 : List UInt8 := dkwJ10_fixAfterInsertion_5 ++ dktJ10_fixAfterInsertion_6
def dkwJ10_fixAfterInsertion_4 : List UInt8 := [167, 0, 54, 43, 43, 184, 1, 38, 184, 1, 44, 166, 0, 13, 43, 184, 1, 38, 76, 42, 43, 182, 1, 55]
abbrev dktJ10_fixAfterInsertion_4 : List UInt8 := dkwJ10_fixAfterInsertion_4 ++ dktJ10_fixAfterInsertion_5
def dkwJ10_fixAfterInsertion_3 : List UInt8 := [184, 1, 51, 43, 184, 1, 38, 184, 1, 38, 3, 184, 1, 51, 43, 184, 1, 38, 184, 1, 38, 76]
abbrev dktJ10_fixAfterInsertion_3 : List UInt8 := dkwJ10_fixAfterInsertion_3 ++ dktJ10_fixAfterInsertion_4
def dkwJ10_fixAfterInsertion_2 : List UInt8 := [184, 1, 38, 184, 1, 44, 77, 44, 184, 1, 47, 154, 0, 38, 43, 184, 1, 38, 4, 184, 1, 51, 44, 4]
abbrev dktJ10_fixAfterInsertion_2 : List UInt8 := dkwJ10_fixAfterInsertion_2 ++ dktJ10_fixAfterInsertion_3
def dkwJ10_fixAfterInsertion_1 : List UInt8 := [154, 0, 234, 43, 184, 1, 38, 43, 184, 1, 38, 184, 1, 38, 184, 1, 41, 166, 0, 110, 43, 184, 1, 38]
abbrev dktJ10_fixAfterInsertion_1 : List UInt8 := dkwJ10_fixAfterInsertion_1 ++ dktJ10_fixAfterInsertion_2
def dkwJ10_fixAfterInsertion_0 : List UInt8 := [43, 3, 181, 1, 34, 43, 198, 0, 252, 43, 42, 180, 0, 101, 165, 0, 244, 43, 180, 0, 124, 180, 1, 34]
abbrev dktJ10_fixAfterInsertion_0 : List UInt8 := dkwJ10_fixAfterInsertion_0 ++ dktJ10_fixAfterInsertion_1
theorem dksJ10_fixAfterInsertion_0 : cJ10_fixAfterInsertion.data.toList.drop 0 = dktJ10_fixAfterInsertion_0 := by decide +kernel
theorem dksJ10_fixAfterInsertion_1 : cJ10_fixAfterInsertion.data.toList.drop 24 = dktJ10_fixAfterInsertion_1 := dk_seg dksJ10_fixAfterInsertion_0 24 rfl rfl
theorem dksJ10_fixAfterInsertion_2 : cJ10_fixAfterInsertion.data.toList.drop 48 = dktJ10_fixAfterInsertion_2 := dk_seg dksJ10_fixAfterInsertion_1 24 rfl rfl
theorem dksJ10_fixAfterInsertion_3 : cJ10_fixAfterInsertion.data.toList.drop 72 = dktJ10_fixAfterInsertion_3 := dk_seg dksJ10_fixAfterInsertion_2 24 rfl rfl
theorem dksJ10_fixAfterInsertion_4 : cJ10_fixAfterInsertion.data.toList.drop 94 = dktJ10_fixAfterInsertion_4 := dk_seg dksJ10_fixAfterInsertion_3 22 rfl rfl
theorem dksJ10_fixAfterInsertion_5 : cJ10_fixAfterInsertion.data.toList.drop 118 = dktJ10_fixAfterInsertion_5 := dk_seg dksJ10_fixAfterInsertion_4 24 rfl rfl
theorem dksJ10_fixAfterInsertion_6 : cJ10_fixAfterInsertion.data.toList.drop 142 = dktJ10_fixAfterInsertion_6 := dk_seg dksJ10_fixAfterInsertion_5 24 rfl rfl
theorem dksJ10_fixAfterInsertion_7 : cJ10_fixAfterInsertion.data.toList.drop 166 = dktJ10_fixAfterInsertion_7 := dk_seg dksJ10_fixAfterInsertion_6 24 rfl rfl
theorem dksJ10_fixAfterInsertion_8 : cJ10_fixAfterInsertion.data.toList.drop 190 = dktJ10_fixAfterInsertion_8 := dk_seg dksJ10_fixAfterInsertion_7 24 rfl rfl
theorem dksJ10_fixAfterInsertion_9 : cJ10_fixAfterInsertion.data.toList.drop 212 = dktJ10_fixAfterInsertion_9 := dk_seg dksJ10_fixAfterInsertion_8 22 rfl rfl
theorem dksJ10_fixAfterInsertion_10 : cJ10_fixAfterInsertion.data.toList.drop 234 = dktJ10_fixAfterInsertion_10 := dk_seg dksJ10_fixAfterInsertion_9 22 rfl rfl
theorem dksJ10_fixAfterInsertion_11 : cJ10_fixAfterInsertion.data.toList.drop 258 = dktJ10_fixAfterInsertion_11 := dk_seg dksJ10_fixAfterInsertion_10 24 rfl rfl
theorem dJ10_fixAfterInsertion_0 : decode cJ10_fixAfterInsertion 0 = .ok (.aload_n 1, 1) := dk_43 (dk_at dksJ10_fixAfterInsertion_0 0 rfl rfl)
theorem dJ10_fixAfterInsertion_1 : decode cJ10_fixAfterInsertion 1 = .ok (.iconst 0, 1) := dk_3 (dk_at dksJ10_fixAfterInsertion_0 1 rfl rfl)
theorem dJ10_fixAfterInsertion_2 : decode cJ10_fixAfterInsertion 2 = .ok (.putfield 290, 3) := dk_181 1 34 (dk_at dksJ10_fixAfterInsertion_0 2 rfl rfl)
theorem dJ10_fixAfterInsertion_5 : decode cJ10_fixAfterInsertion 5 = .ok (.aload_n 1, 1) := dk_43 (dk_at dksJ10_fixAfterInsertion_0 5 rfl rfl)
theorem dJ10_fixAfterInsertion_6 : decode cJ10_fixAfterInsertion 6 = .ok (.ifnull 252, 3) := dk_198 0 252 (dk_at dksJ10_fixAfterInsertion_0 6 rfl rfl)
theorem dJ10_fixAfterInsertion_9 : decode cJ10_fixAfterInsertion 9 = .ok (.aload_n 1, 1) := dk_43 (dk_at dksJ10_fixAfterInsertion_0 9 rfl rfl)
theorem dJ10_fixAfterInsertion_10 : decode cJ10_fixAfterInsertion 10 = .ok (.aload_n 0, 1) := dk_42 (dk_at dksJ10_fixAfterInsertion_0 10 rfl rfl)
theorem dJ10_fixAfterInsertion_11 : decode cJ10_fixAfterInsertion 11 = .ok (.getfield 101, 3) := dk_180 0 101 (dk_at dksJ10_fixAfterInsertion_0 11 rfl rfl)
theorem dJ10_fixAfterInsertion_14 : decode cJ10_fixAfterInsertion 14 = .ok (.if_acmp .eq 244, 3) := dk_165 0 244 (dk_at dksJ10_fixAfterInsertion_0 14 rfl rfl)
theorem dJ10_fixAfterInsertion_17 : decode cJ10_fixAfterInsertion 17 = .ok (.aload_n 1, 1) := dk_43 (dk_at dksJ10_fixAfterInsertion_0 17 rfl rfl)
theorem dJ10_fixAfterInsertion_18 : decode cJ10_fixAfterInsertion 18 = .ok (.getfield 124, 3) := dk_180 0 124 (dk_at dksJ10_fixAfterInsertion_0 18 rfl rfl)
theorem dJ10_fixAfterInsertion_21 : decode cJ10_fixAfterInsertion 21 = .ok (.getfield 290, 3) := dk_180 1 34 (dk_at dksJ10_fixAfterInsertion_0 21 rfl rfl)
theorem dJ10_fixAfterInsertion_24 : decode cJ10_fixAfterInsertion 24 = .ok (.ifCond .ne 234, 3) := dk_154 0 234 (dk_at dksJ10_fixAfterInsertion_1 0 rfl rfl)
theorem dJ10_fixAfterInsertion_27 : decode cJ10_fixAfterInsertion 27 = .ok (.aload_n 1, 1) := dk_43 (dk_at dksJ10_fixAfterInsertion_1 3 rfl rfl)
theorem dJ10_fixAfterInsertion_28 : decode cJ10_fixAfterInsertion 28 = .ok (.invokestatic 294, 3) := dk_184 1 38 (dk_at dksJ10_fixAfterInsertion_1 4 rfl rfl)
theorem dJ10_fixAfterInsertion_31 : decode cJ10_fixAfterInsertion 31 = .ok (.aload_n 1, 1) := dk_43 (dk_at dksJ10_fixAfterInsertion_1 7 rfl rfl)
theorem dJ10_fixAfterInsertion_32 : decode cJ10_fixAfterInsertion 32 = .ok (.invokestatic 294, 3) := dk_184 1 38 (dk_at dksJ10_fixAfterInsertion_1 8 rfl rfl)
theorem dJ10_fixAfterInsertion_35 : decode cJ10_fixAfterInsertion 35 = .ok (.invokestatic 294, 3) := dk_184 1 38 (dk_at dksJ10_fixAfterInsertion_1 11 rfl rfl)
theorem dJ10_fixAfterInsertion_38 : decode cJ10_fixAfterInsertion 38 = .ok (.invokestatic 297, 3) := dk_184 1 41 (dk_at dksJ10_fixAfterInsertion_1 14 rfl rfl)
theorem dJ10_fixAfterInsertion_41 : decode cJ10_fixAfterInsertion 41 = .ok (.if_acmp .ne 110, 3) := dk_166 0 110 (dk_at dksJ10_fixAfterInsertion_1 17 rfl rfl)
theorem dJ10_fixAfterInsertion_44 : decode cJ10_fixAfterInsertion 44 = .ok (.aload_n 1, 1) := dk_43 (dk_at dksJ10_fixAfterInsertion_1 20 rfl rfl)
theorem dJ10_fixAfterInsertion_45 : decode cJ10_fixAfterInsertion 45 = .ok (.invokestatic 294, 3) := dk_184 1 38 (dk_at dksJ10_fixAfterInsertion_1 21 rfl rfl)
theorem dJ10_fixAfterInsertion_48 : decode cJ10_fixAfterInsertion 48 = .ok (.invokestatic 294, 3) := dk_184 1 38 (dk_at dksJ10_fixAfterInsertion_2 0 rfl rfl)
theorem dJ10_fixAfterInsertion_51 : decode cJ10_fixAfterInsertion 51 = .ok (.invokestatic 300, 3) := dk_184 1 44 (dk_at dksJ10_fixAfterInsertion_2 3 rfl rfl)
theorem dJ10_fixAfterInsertion_54 : decode cJ10_fixAfterInsertion 54 = .ok (.astore_n 2, 1) := dk_77 (dk_at dksJ10_fixAfterInsertion_2 6 rfl rfl)
theorem dJ10_fixAfterInsertion_55 : decode cJ10_fixAfterInsertion 55 = .ok (.aload_n 2, 1) := dk_44 (dk_at dksJ10_fixAfterInsertion_2 7 rfl rfl)
theorem dJ10_fixAfterInsertion_56 : decode cJ10_fixAfterInsertion 56 = .ok (.invokestatic 303, 3) := dk_184 1 47 (dk_at dksJ10_fixAfterInsertion_2 8 rfl rfl)
theorem dJ10_fixAfterInsertion_59 : decode cJ10_fixAfterInsertion 59 = .ok (.ifCond .ne 38, 3) := dk_154 0 38 (dk_at dksJ10_fixAfterInsertion_2 11 rfl rfl)
theorem dJ10_fixAfterInsertion_62 : decode cJ10_fixAfterInsertion 62 = .ok (.aload_n 1, 1) := dk_43 (dk_at dksJ10_fixAfterInsertion_2 14 rfl rfl)
theorem dJ10_fixAfterInsertion_63 : decode cJ10_fixAfterInsertion 63 = .ok (.invokestatic 294, 3) := dk_184 1 38 (dk_at dksJ10_fixAfterInsertion_2 15 rfl rfl)
theorem dJ10_fixAfterInsertion_66 : decode cJ10_fixAfterInsertion 66 = .ok (.iconst 1, 1) := dk_4 (dk_at dksJ10_fixAfterInsertion_2 18 rfl rfl)
theorem dJ10_fixAfterInsertion_67 : decode cJ10_fixAfterInsertion 67 = .ok (.invokestatic 307, 3) := dk_184 1 51 (dk_at dksJ10_fixAfterInsertion_2 19 rfl rfl)
theorem dJ10_fixAfterInsertion_70 : decode cJ10_fixAfterInsertion 70 = .ok (.aload_n 2, 1) := dk_44 (dk_at dksJ10_fixAfterInsertion_2 22 rfl rfl)
theorem dJ10_fixAfterInsertion_71 : decode cJ10_fixAfterInsertion 71 = .ok (.iconst 1, 1) := dk_4 (dk_at dksJ10_fixAfterInsertion_2 23 rfl rfl)
theorem dJ10_fixAfterInsertion_72 : decode cJ10_fixAfterInsertion 72 = .ok (.invokestatic 307, 3) := dk_184 1 51 (dk_at dksJ10_fixAfterInsertion_3 0 rfl rfl)
theorem dJ10_fixAfterInsertion_75 : decode cJ10_fixAfterInsertion 75 = .ok (.aload_n 1, 1) := dk_43 (dk_at dksJ10_fixAfterInsertion_3 3 rfl rfl)
theorem dJ10_fixAfterInsertion_76 : decode cJ10_fixAfterInsertion 76 = .ok (.invokestatic 294, 3) := dk_184 1 38 (dk_at dksJ10_fixAfterInsertion_3 4 rfl rfl)
theorem dJ10_fixAfterInsertion_79 : decode cJ10_fixAfterInsertion 79 = .ok (.invokestatic 294, 3) := dk_184 1 38 (dk_at dksJ10_fixAfterInsertion_3 7 rfl rfl)
theorem dJ10_fixAfterInsertion_82 : decode cJ10_fixAfterInsertion 82 = .ok (.iconst 0, 1) := dk_3 (dk_at dksJ10_fixAfterInsertion_3 10 rfl rfl)
theorem dJ10_fixAfterInsertion_83 : decode cJ10_fixAfterInsertion 83 = .ok (.invokestatic 307, 3) := dk_184 1 51 (dk_at dksJ10_fixAfterInsertion_3 11 rfl rfl)
theorem dJ10_fixAfterInsertion_86 : decode cJ10_fixAfterInsertion 86 = .ok (.aload_n 1, 1) := dk_43 (dk_at dksJ10_fixAfterInsertion_3 14 rfl rfl)
theorem dJ10_fixAfterInsertion_87 : decode cJ10_fixAfterInsertion 87 = .ok (.invokestatic 294, 3) := dk_184 1 38 (dk_at dksJ10_fixAfterInsertion_3 15 rfl rfl)
theorem dJ10_fixAfterInsertion_90 : decode cJ10_fixAfterInsertion 90 = .ok (.invokestatic 294, 3) := dk_184 1 38 (dk_at dksJ10_fixAfterInsertion_3 18 rfl rfl)
theorem dJ10_fixAfterInsertion_93 : decode cJ10_fixAfterInsertion 93 = .ok (.astore_n 1, 1) := dk_76 (dk_at dksJ10_fixAfterInsertion_3 21 rfl rfl)
theorem dJ10_fixAfterInsertion_94 : decode cJ10_fixAfterInsertion 94 = .ok (.goto 54, 3) := dk_167 0 54 (dk_at dksJ10_fixAfterInsertion_4 0 rfl rfl)
theorem dJ10_fixAfterInsertion_97 : decode cJ10_fixAfterInsertion 97 = .ok (.aload_n 1, 1) := dk_43 (dk_at dksJ10_fixAfterInsertion_4 3 rfl rfl)
theorem dJ10_fixAfterInsertion_98 : decode cJ10_fixAfterInsertion 98 = .ok (.aload_n 1, 1) := dk_43 (dk_at dksJ10_fixAfterInsertion_4 4 rfl rfl)
theorem dJ10_fixAfterInsertion_99 : decode cJ10_fixAfterInsertion 99 = .ok (.invokestatic 294, 3) := dk_184 1 38 (dk_at dksJ10_fixAfterInsertion_4 5 rfl rfl)
theorem dJ10_fixAfterInsertion_102 : decode cJ10_fixAfterInsertion 102 = .ok (.invokestatic 300, 3) := dk_184 1 44 (dk_at dksJ10_fixAfterInsertion_4 8 rfl rfl)
theorem dJ10_fixAfterInsertion_105 : decode cJ10_fixAfterInsertion 105 = .ok (.if_acmp .ne 13, 3) := dk_166 0 13 (dk_at dksJ10_fixAfterInsertion_4 11 rfl rfl)
theorem dJ10_fixAfterInsertion_108 : decode cJ10_fixAfterInsertion 108 = .ok (.aload_n 1, 1) := dk_43 (dk_at dksJ10_fixAfterInsertion_4 14 rfl rfl)
theorem dJ10_fixAfterInsertion_109 : decode cJ10_fixAfterInsertion 109 = .ok (.invokestatic 294, 3) := dk_184 1 38 (dk_at dksJ10_fixAfterInsertion_4 15 rfl rfl)
theorem dJ10_fixAfterInsertion_112 : decode cJ10_fixAfterInsertion 112 = .ok (.astore_n 1, 1) := dk_76 (dk_at dksJ10_fixAfterInsertion_4 18 rfl rfl)
theorem dJ10_fixAfterInsertion_113 : decode cJ10_fixAfterInsertion 113 = .ok (.aload_n 0, 1) := dk_42 (dk_at dksJ10_fixAfterInsertion_4 19 rfl rfl)
theorem dJ10_fixAfterInsertion_114 : decode cJ10_fixAfterInsertion 114 = .ok (.aload_n 1, 1) := dk_43 (dk_at dksJ10_fixAfterInsertion_4 20 rfl rfl)
theorem dJ10_fixAfterInsertion_115 : decode cJ10_fixAfterInsertion 115 = .ok (.invokevirtual 311, 3) := dk_182 1 55 (dk_at dksJ10_fixAfterInsertion_4 21 rfl rfl)
theorem dJ10_fixAfterInsertion_118 : decode cJ10_fixAfterInsertion 118 = .ok (.aload_n 1, 1) := dk_43 (dk_at dksJ10_fixAfterInsertion_5 0 rfl rfl)
theorem dJ10_fixAfterInsertion_119 : decode cJ10_fixAfterInsertion 119 = .ok (.invokestatic 294, 3) := dk_184 1 38 (dk_at dksJ10_fixAfterInsertion_5 1 rfl rfl)
theorem dJ10_fixAfterInsertion_122 : decode cJ10_fixAfterInsertion 122 = .ok (.iconst 1, 1) := dk_4 (dk_at dksJ10_fixAfterInsertion_5 4 rfl rfl)
theorem dJ10_fixAfterInsertion_123 : decode cJ10_fixAfterInsertion 123 = .ok (.invokestatic 307, 3) := dk_184 1 51 (dk_at dksJ10_fixAfterInsertion_5 5 rfl rfl)
theorem dJ10_fixAfterInsertion_126 : decode cJ10_fixAfterInsertion 126 = .ok (.aload_n 1, 1) := dk_43 (dk_at dksJ10_fixAfterInsertion_5 8 rfl rfl)
theorem dJ10_fixAfterInsertion_127 : decode cJ10_fixAfterInsertion 127 = .ok (.invokestatic 294, 3) := dk_184 1 38 (dk_at dksJ10_fixAfterInsertion_5 9 rfl rfl)
theorem dJ10_fixAfterInsertion_130 : decode cJ10_fixAfterInsertion 130 = .ok (.invokestatic 294, 3) := dk_184 1 38 (dk_at dksJ10_fixAfterInsertion_5 12 rfl rfl)
theorem dJ10_fixAfterInsertion_133 : decode cJ10_fixAfterInsertion 133 = .ok (.iconst 0, 1) := dk_3 (dk_at dksJ10_fixAfterInsertion_5 15 rfl rfl)
theorem dJ10_fixAfterInsertion_134 : decode cJ10_fixAfterInsertion 134 = .ok (.invokestatic 307, 3) := dk_184 1 51 (dk_at dksJ10_fixAfterInsertion_5 16 rfl rfl)
theorem dJ10_fixAfterInsertion_137 : decode cJ10_fixAfterInsertion 137 = .ok (.aload_n 0, 1) := dk_42 (dk_at dksJ10_fixAfterInsertion_5 19 rfl rfl)
theorem dJ10_fixAfterInsertion_138 : decode cJ10_fixAfterInsertion 138 = .ok (.aload_n 1, 1) := dk_43 (dk_at dksJ10_fixAfterInsertion_5 20 rfl rfl)
theorem dJ10_fixAfterInsertion_139 : decode cJ10_fixAfterInsertion 139 = .ok (.invokestatic 294, 3) := dk_184 1 38 (dk_at dksJ10_fixAfterInsertion_5 21 rfl rfl)
theorem dJ10_fixAfterInsertion_142 : decode cJ10_fixAfterInsertion 142 = .ok (.invokestatic 294, 3) := dk_184 1 38 (dk_at dksJ10_fixAfterInsertion_6 0 rfl rfl)
theorem dJ10_fixAfterInsertion_145 : decode cJ10_fixAfterInsertion 145 = .ok (.invokevirtual 314, 3) := dk_182 1 58 (dk_at dksJ10_fixAfterInsertion_6 3 rfl rfl)
theorem dJ10_fixAfterInsertion_148 : decode cJ10_fixAfterInsertion 148 = .ok (.goto (-143), 3) := dk_167 255 113 (dk_at dksJ10_fixAfterInsertion_6 6 rfl rfl)
theorem dJ10_fixAfterInsertion_151 : decode cJ10_fixAfterInsertion 151 = .ok (.aload_n 1, 1) := dk_43 (dk_at dksJ10_fixAfterInsertion_6 9 rfl rfl)
theorem dJ10_fixAfterInsertion_152 : decode cJ10_fixAfterInsertion 152 = .ok (.invokestatic 294, 3) := dk_184 1 38 (dk_at dksJ10_fixAfterInsertion_6 10 rfl rfl)
theorem dJ10_fixAfterInsertion_155 : decode cJ10_fixAfterInsertion 155 = .ok (.invokestatic 294, 3) := dk_184 1 38 (dk_at dksJ10_fixAfterInsertion_6 13 rfl rfl)
theorem dJ10_fixAfterInsertion_158 : decode cJ10_fixAfterInsertion 158 = .ok (.invokestatic 297, 3) := dk_184 1 41 (dk_at dksJ10_fixAfterInsertion_6 16 rfl rfl)
theorem dJ10_fixAfterInsertion_161 : decode cJ10_fixAfterInsertion 161 = .ok (.astore_n 2, 1) := dk_77 (dk_at dksJ10_fixAfterInsertion_6 19 rfl rfl)
theorem dJ10_fixAfterInsertion_162 : decode cJ10_fixAfterInsertion 162 = .ok (.aload_n 2, 1) := dk_44 (dk_at dksJ10_fixAfterInsertion_6 20 rfl rfl)
theorem dJ10_fixAfterInsertion_163 : decode cJ10_fixAfterInsertion 163 = .ok (.invokestatic 303, 3) := dk_184 1 47 (dk_at dksJ10_fixAfterInsertion_6 21 rfl rfl)
theorem dJ10_fixAfterInsertion_166 : decode cJ10_fixAfterInsertion 166 = .ok (.ifCond .ne 38, 3) := dk_154 0 38 (dk_at dksJ10_fixAfterInsertion_7 0 rfl rfl)
theorem dJ10_fixAfterInsertion_169 : decode cJ10_fixAfterInsertion 169 = .ok (.aload_n 1, 1) := dk_43 (dk_at dksJ10_fixAfterInsertion_7 3 rfl rfl)
theorem dJ10_fixAfterInsertion_170 : decode cJ10_fixAfterInsertion 170 = .ok (.invokestatic 294, 3) := dk_184 1 38 (dk_at dksJ10_fixAfterInsertion_7 4 rfl rfl)
theorem dJ10_fixAfterInsertion_173 : decode cJ10_fixAfterInsertion 173 = .ok (.iconst 1, 1) := dk_4 (dk_at dksJ10_fixAfterInsertion_7 7 rfl rfl)
theorem dJ10_fixAfterInsertion_174 : decode cJ10_fixAfterInsertion 174 = .ok (.invokestatic 307, 3) := dk_184 1 51 (dk_at dksJ10_fixAfterInsertion_7 8 rfl rfl)
theorem dJ10_fixAfterInsertion_177 : decode cJ10_fixAfterInsertion 177 = .ok (.aload_n 2, 1) := dk_44 (dk_at dksJ10_fixAfterInsertion_7 11 rfl rfl)
theorem dJ10_fixAfterInsertion_178 : decode cJ10_fixAfterInsertion 178 = .ok (.iconst 1, 1) := dk_4 (dk_at dksJ10_fixAfterInsertion_7 12 rfl rfl)
theorem dJ10_fixAfterInsertion_179 : decode cJ10_fixAfterInsertion 179 = .ok (.invokestatic 307, 3) := dk_184 1 51 (dk_at dksJ10_fixAfterInsertion_7 13 rfl rfl)
theorem dJ10_fixAfterInsertion_182 : decode cJ10_fixAfterInsertion 182 = .ok (.aload_n 1, 1) := dk_43 (dk_at dksJ10_fixAfterInsertion_7 16 rfl rfl)
theorem dJ10_fixAfterInsertion_183 : decode cJ10_fixAfterInsertion 183 = .ok (.invokestatic 294, 3) := dk_184 1 38 (dk_at dksJ10_fixAfterInsertion_7 17 rfl rfl)
theorem dJ10_fixAfterInsertion_186 : decode cJ10_fixAfterInsertion 186 = .ok (.invokestatic 294, 3) := dk_184 1 38 (dk_at dksJ10_fixAfterInsertion_7 20 rfl rfl)
theorem dJ10_fixAfterInsertion_189 : decode cJ10_fixAfterInsertion 189 = .ok (.iconst 0, 1) := dk_3 (dk_at dksJ10_fixAfterInsertion_7 23 rfl rfl)
theorem dJ10_fixAfterInsertion_190 : decode cJ10_fixAfterInsertion 190 = .ok (.invokestatic 307, 3) := dk_184 1 51 (dk_at dksJ10_fixAfterInsertion_8 0 rfl rfl)
theorem dJ10_fixAfterInsertion_193 : decode cJ10_fixAfterInsertion 193 = .ok (.aload_n 1, 1) := dk_43 (dk_at dksJ10_fixAfterInsertion_8 3 rfl rfl)
theorem dJ10_fixAfterInsertion_194 : decode cJ10_fixAfterInsertion 194 = .ok (.invokestatic 294, 3) := dk_184 1 38 (dk_at dksJ10_fixAfterInsertion_8 4 rfl rfl)
theorem dJ10_fixAfterInsertion_197 : decode cJ10_fixAfterInsertion 197 = .ok (.invokestatic 294, 3) := dk_184 1 38 (dk_at dksJ10_fixAfterInsertion_8 7 rfl rfl)
theorem dJ10_fixAfterInsertion_200 : decode cJ10_fixAfterInsertion 200 = .ok (.astore_n 1, 1) := dk_76 (dk_at dksJ10_fixAfterInsertion_8 10 rfl rfl)
theorem dJ10_fixAfterInsertion_201 : decode cJ10_fixAfterInsertion 201 = .ok (.goto 54, 3) := dk_167 0 54 (dk_at dksJ10_fixAfterInsertion_8 11 rfl rfl)
theorem dJ10_fixAfterInsertion_204 : decode cJ10_fixAfterInsertion 204 = .ok (.aload_n 1, 1) := dk_43 (dk_at dksJ10_fixAfterInsertion_8 14 rfl rfl)
theorem dJ10_fixAfterInsertion_205 : decode cJ10_fixAfterInsertion 205 = .ok (.aload_n 1, 1) := dk_43 (dk_at dksJ10_fixAfterInsertion_8 15 rfl rfl)
theorem dJ10_fixAfterInsertion_206 : decode cJ10_fixAfterInsertion 206 = .ok (.invokestatic 294, 3) := dk_184 1 38 (dk_at dksJ10_fixAfterInsertion_8 16 rfl rfl)
theorem dJ10_fixAfterInsertion_209 : decode cJ10_fixAfterInsertion 209 = .ok (.invokestatic 297, 3) := dk_184 1 41 (dk_at dksJ10_fixAfterInsertion_8 19 rfl rfl)
theorem dJ10_fixAfterInsertion_212 : decode cJ10_fixAfterInsertion 212 = .ok (.if_acmp .ne 13, 3) := dk_166 0 13 (dk_at dksJ10_fixAfterInsertion_9 0 rfl rfl)
theorem dJ10_fixAfterInsertion_215 : decode cJ10_fixAfterInsertion 215 = .ok (.aload_n 1, 1) := dk_43 (dk_at dksJ10_fixAfterInsertion_9 3 rfl rfl)
theorem dJ10_fixAfterInsertion_216 : decode cJ10_fixAfterInsertion 216 = .ok (.invokestatic 294, 3) := dk_184 1 38 (dk_at dksJ10_fixAfterInsertion_9 4 rfl rfl)
theorem dJ10_fixAfterInsertion_219 : decode cJ10_fixAfterInsertion 219 = .ok (.astore_n 1, 1) := dk_76 (dk_at dksJ10_fixAfterInsertion_9 7 rfl rfl)
theorem dJ10_fixAfterInsertion_220 : decode cJ10_fixAfterInsertion 220 = .ok (.aload_n 0, 1) := dk_42 (dk_at dksJ10_fixAfterInsertion_9 8 rfl rfl)
theorem dJ10_fixAfterInsertion_221 : decode cJ10_fixAfterInsertion 221 = .ok (.aload_n 1, 1) := dk_43 (dk_at dksJ10_fixAfterInsertion_9 9 rfl rfl)
theorem dJ10_fixAfterInsertion_222 : decode cJ10_fixAfterInsertion 222 = .ok (.invokevirtual 314, 3) := dk_182 1 58 (dk_at dksJ10_fixAfterInsertion_9 10 rfl rfl)
theorem dJ10_fixAfterInsertion_225 : decode cJ10_fixAfterInsertion 225 = .ok (.aload_n 1, 1) := dk_43 (dk_at dksJ10_fixAfterInsertion_9 13 rfl rfl)
theorem dJ10_fixAfterInsertion_226 : decode cJ10_fixAfterInsertion 226 = .ok (.invokestatic 294, 3) := dk_184 1 38 (dk_at dksJ10_fixAfterInsertion_9 14 rfl rfl)
theorem dJ10_fixAfterInsertion_229 : decode cJ10_fixAfterInsertion 229 = .ok (.iconst 1, 1) := dk_4 (dk_at dksJ10_fixAfterInsertion_9 17 rfl rfl)
theorem dJ10_fixAfterInsertion_230 : decode cJ10_fixAfterInsertion 230 = .ok (.invokestatic 307, 3) := dk_184 1 51 (dk_at dksJ10_fixAfterInsertion_9 18 rfl rfl)
theorem dJ10_fixAfterInsertion_233 : decode cJ10_fixAfterInsertion 233 = .ok (.aload_n 1, 1) := dk_43 (dk_at dksJ10_fixAfterInsertion_9 21 rfl rfl)
theorem dJ10_fixAfterInsertion_234 : decode cJ10_fixAfterInsertion 234 = .ok (.invokestatic 294, 3) := dk_184 1 38 (dk_at dksJ10_fixAfterInsertion_10 0 rfl rfl)
theorem dJ10_fixAfterInsertion_237 : decode cJ10_fixAfterInsertion 237 = .ok (.invokestatic 294, 3) := dk_184 1 38 (dk_at dksJ10_fixAfterInsertion_10 3 rfl rfl)
theorem dJ10_fixAfterInsertion_240 : decode cJ10_fixAfterInsertion 240 = .ok (.iconst 0, 1) := dk_3 (dk_at dksJ10_fixAfterInsertion_10 6 rfl rfl)
theorem dJ10_fixAfterInsertion_241 : decode cJ10_fixAfterInsertion 241 = .ok (.invokestatic 307, 3) := dk_184 1 51 (dk_at dksJ10_fixAfterInsertion_10 7 rfl rfl)
theorem dJ10_fixAfterInsertion_244 : decode cJ10_fixAfterInsertion 244 = .ok (.aload_n 0, 1) := dk_42 (dk_at dksJ10_fixAfterInsertion_10 10 rfl rfl)
theorem dJ10_fixAfterInsertion_245 : decode cJ10_fixAfterInsertion 245 = .ok (.aload_n 1, 1) := dk_43 (dk_at dksJ10_fixAfterInsertion_10 11 rfl rfl)
theorem dJ10_fixAfterInsertion_246 : decode cJ10_fixAfterInsertion 246 = .ok (.invokestatic 294, 3) := dk_184 1 38 (dk_at dksJ10_fixAfterInsertion_10 12 rfl rfl)
theorem dJ10_fixAfterInsertion_249 : decode cJ10_fixAfterInsertion 249 = .ok (.invokestatic 294, 3) := dk_184 1 38 (dk_at dksJ10_fixAfterInsertion_10 15 rfl rfl)
theorem dJ10_fixAfterInsertion_252 : decode cJ10_fixAfterInsertion 252 = .ok (.invokevirtual 311, 3) := dk_182 1 55 (dk_at dksJ10_fixAfterInsertion_10 18 rfl rfl)
theorem dJ10_fixAfterInsertion_255 : decode cJ10_fixAfterInsertion 255 = .ok (.goto (-250), 3) := dk_167 255 6 (dk_at dksJ10_fixAfterInsertion_10 21 rfl rfl)
theorem dJ10_fixAfterInsertion_258 : decode cJ10_fixAfterInsertion 258 = .ok (.aload_n 0, 1) := dk_42 (dk_at dksJ10_fixAfterInsertion_11 0 rfl rfl)
theorem dJ10_fixAfterInsertion_259 : decode cJ10_fixAfterInsertion 259 = .ok (.getfield 101, 3) := dk_180 0 101 (dk_at dksJ10_fixAfterInsertion_11 1 rfl rfl)
theorem dJ10_fixAfterInsertion_262 : decode cJ10_fixAfterInsertion 262 = .ok (.iconst 1, 1) := dk_4 (dk_at dksJ10_fixAfterInsertion_11 4 rfl rfl)
theorem dJ10_fixAfterInsertion_263 : decode cJ10_fixAfterInsertion 263 = .ok (.putfield 290, 3) := dk_181 1 34 (dk_at dksJ10_fixAfterInsertion_11 5 rfl rfl)
theorem dJ10_fixAfterInsertion_266 : decode cJ10_fixAfterInsertion 266 = .ok (.return_, 1) := dk_177 (dk_at dksJ10_fixAfterInsertion_11 8 rfl rfl)
def dkwJ10_parentOf_0 : List UInt8 := [42, 199, 0, 7, 1, 167, 0, 7, 42, 180, 0, 124, 176]
abbrev dktJ10_parentOf_0 : List UInt8 := dkwJ10_parentOf_0 ++ []
theorem dksJ10_parentOf_0 : cJ10_parentOf.data.toList.drop 0 = dktJ10_parentOf_0 := by decide +kernel
theorem dJ10_parentOf_0 : decode cJ10_parentOf 0 = .ok (.aload_n 0, 1) := dk_42 (dk_at dksJ10_parentOf_0 0 rfl rfl)
theorem dJ10_parentOf_1 : decode cJ10_parentOf 1 = .ok (.ifnonnull 7, 3) := dk_199 0 7 (dk_at dksJ10_parentOf_0 1 rfl rfl)
theorem dJ10_parentOf_4 : decode cJ10_parentOf 4 = .ok (.aconst_null, 1) := dk_1 (dk_at dksJ10_parentOf_0 4 rfl rfl)
theorem dJ10_parentOf_5 : decode cJ10_parentOf 5 = .ok (.goto 7, 3) := dk_167 0 7 (dk_at dksJ10_parentOf_0 5 rfl rfl)
theorem dJ10_parentOf_8 : decode cJ10_parentOf 8 = .ok (.aload_n 0, 1) := dk_42 (dk_at dksJ10_parentOf_0 8 rfl rfl)
theorem dJ10_parentOf_9 : decode cJ10_parentOf 9 = .ok (.getfield 124, 3) := dk_180 0 124 (dk_at dksJ10_parentOf_0 9 rfl rfl)
theorem dJ10_parentOf_12 : decode cJ10_parentOf 12 = .ok (.areturn, 1) := dk_176 (dk_at dksJ10_parentOf_0 12 rfl rfl)
def dkwJ10_leftOf_0 : List UInt8 := [42, 199, 0, 7, 1, 167, 0, 7, 42, 180, 0, 111, 176]
abbrev dktJ10_leftOf_0 : List UInt8 := dkwJ10_leftOf_0 ++ []
theorem dksJ10_leftOf_0 : cJ10_leftOf.data.toList.drop 0 = dktJ10_leftOf_0 := by decide +kernel
theorem dJ10_leftOf_0 : decode cJ10_leftOf 0 = .ok (.aload_n 0, 1) := dk_42 (dk_at dksJ10_leftOf_0 0 rfl rfl)
theorem dJ10_leftOf_1 : decode cJ10_leftOf 1 = .ok (.ifnonnull 7, 3) := dk_199 0 7 (dk_at dksJ10_leftOf_0 1 rfl rfl)
theorem dJ10_leftOf_4 : decode cJ10_leftOf 4 = .ok (.aconst_null, 1) := dk_1 (dk_at dksJ10_leftOf_0 4 rfl rfl)
theorem dJ10_leftOf_5 : decode cJ10_leftOf 5 = .ok (.goto 7, 3) := dk_167 0 7 (dk_at dksJ10_leftOf_0 5 rfl rfl)
theorem dJ10_leftOf_8 : decode cJ10_leftOf 8 = .ok (.aload_n 0, 1) := dk_42 (dk_at dksJ10_leftOf_0 8 rfl rfl)
theorem dJ10_leftOf_9 : decode cJ10_leftOf 9 = .ok (.getfield 111, 3) := dk_180 0 111 (dk_at dksJ10_leftOf_0 9 rfl rfl)
theorem dJ10_leftOf_12 : decode cJ10_leftOf 12 = .ok (.areturn, 1) := dk_176 (dk_at dksJ10_leftOf_0 12 rfl rfl)
def dkwJ10_rightOf_0 : List UInt8 := [42, 199, 0, 7, 1, 167, 0, 7, 42, 180, 0, 114, 176]
abbrev dktJ10_rightOf_0 : List UInt8 := dkwJ10_rightOf_0 ++ []
theorem dksJ10_rightOf_0 : cJ10_rightOf.data.toList.drop 0 = dktJ10_rightOf_0 := by decide +kernel
theorem dJ10_rightOf_0 : decode cJ10_rightOf 0 = .ok (.aload_n 0, 1) := dk_42 (dk_at dksJ10_rightOf_0 0 rfl rfl)
theorem dJ10_rightOf_1 : decode cJ10_rightOf 1 = .ok (.ifnonnull 7, 3) := dk_199 0 7 (dk_at dksJ10_rightOf_0 1 rfl rfl)
theorem dJ10_rightOf_4 : decode cJ10_rightOf 4 = .ok (.aconst_null, 1) := dk_1 (dk_at dksJ10_rightOf_0 4 rfl rfl)
theorem dJ10_rightOf_5 : decode cJ10_rightOf 5 = .ok (.goto 7, 3) := dk_167 0 7 (dk_at dksJ10_rightOf_0 5 rfl rfl)
theorem dJ10_rightOf_8 : decode cJ10_rightOf 8 = .ok (.aload_n 0, 1) := dk_42 (dk_at dksJ10_rightOf_0 8 rfl rfl)
theorem dJ10_rightOf_9 : decode cJ10_rightOf 9 = .ok (.getfield 114, 3) := dk_180 0 114 (dk_at dksJ10_rightOf_0 9 rfl rfl)
theorem dJ10_rightOf_12 : decode cJ10_rightOf 12 = .ok (.areturn, 1) := dk_176 (dk_at dksJ10_rightOf_0 12 rfl rfl)
def dkwJ10_colorOf_0 : List UInt8 := [42, 199, 0, 7, 4, 167, 0, 7, 42, 180, 1, 34, 172]
abbrev dktJ10_colorOf_0 : List UInt8 := dkwJ10_colorOf_0 ++ []
theorem dksJ10_colorOf_0 : cJ10_colorOf.data.toList.drop 0 = dktJ10_colorOf_0 := by decide +kernel
theorem dJ10_colorOf_0 : decode cJ10_colorOf 0 = .ok (.aload_n 0, 1) := dk_42 (dk_at dksJ10_colorOf_0 0 rfl rfl)
theorem dJ10_colorOf_1 : decode cJ10_colorOf 1 = .ok (.ifnonnull 7, 3) := dk_199 0 7 (dk_at dksJ10_colorOf_0 1 rfl rfl)
theorem dJ10_colorOf_4 : decode cJ10_colorOf 4 = .ok (.iconst 1, 1) := dk_4 (dk_at dksJ10_colorOf_0 4 rfl rfl)
theorem dJ10_colorOf_5 : decode cJ10_colorOf 5 = .ok (.goto 7, 3) := dk_167 0 7 (dk_at dksJ10_colorOf_0 5 rfl rfl)
theorem dJ10_colorOf_8 : decode cJ10_colorOf 8 = .ok (.aload_n 0, 1) := dk_42 (dk_at dksJ10_colorOf_0 8 rfl rfl)
theorem dJ10_colorOf_9 : decode cJ10_colorOf 9 = .ok (.getfield 290, 3) := dk_180 1 34 (dk_at dksJ10_colorOf_0 9 rfl rfl)
theorem dJ10_colorOf_12 : decode cJ10_colorOf 12 = .ok (.ireturn, 1) := dk_172 (dk_at dksJ10_colorOf_0 12 rfl rfl)
def dkwJ10_setColor_0 : List UInt8 := [42, 198, 0, 8, 42, 27, 181, 1, 34, 177]
abbrev dktJ10_setColor_0 : List UInt8 := dkwJ10_setColor_0 ++ []
theorem dksJ10_setColor_0 : cJ10_setColor.data.toList.drop 0 = dktJ10_setColor_0 := by decide +kernel
theorem dJ10_setColor_0 : decode cJ10_setColor 0 = .ok (.aload_n 0, 1) := dk_42 (dk_at dksJ10_setColor_0 0 rfl rfl)
theorem dJ10_setColor_1 : decode cJ10_setColor 1 = .ok (.ifnull 8, 3) := dk_198 0 8 (dk_at dksJ10_setColor_0 1 rfl rfl)
theorem dJ10_setColor_4 : decode cJ10_setColor 4 = .ok (.aload_n 0, 1) := dk_42 (dk_at dksJ10_setColor_0 4 rfl rfl)
theorem dJ10_setColor_5 : decode cJ10_setColor 5 = .ok (.iload_n 1, 1) := dk_27 (dk_at dksJ10_setColor_0 5 rfl rfl)
theorem dJ10_setColor_6 : decode cJ10_setColor 6 = .ok (.putfield 290, 3) := dk_181 1 34 (dk_at dksJ10_setColor_0 6 rfl rfl)
theorem dJ10_setColor_9 : decode cJ10_setColor 9 = .ok (.return_, 1) := dk_177 (dk_at dksJ10_setColor_0 9 rfl rfl)
def dkwJ10_rotateLeft_4 : List UInt8 := [177]
abbrev dktJ10_rotateLeft_4 : List UInt8 := dkwJ10_rotateLeft_4 ++ []
def dkwJ10_rotateLeft_3 : List UInt8 := [181, 0, 111, 167, 0, 11, 43, 180, 0, 124, 44, 181, 0, 114, 44, 43, 181, 0, 111, 43, 44, 181, 0, 124]
abbrev dktJ10_rotateLeft_3 : List UInt8 := dkwJ10_rotateLeft_3 ++ dktJ10_rotateLeft_4
def dkwJ10_rotateLeft_2 : List UInt8 := [44, 181, 0, 101, 167, 0, 33, 43, 180, 0, 124, 180, 0, 111, 43, 166, 0, 14, 43, 180, 0, 124, 44]
abbrev dktJ10_rotateLeft_2 : List UInt8 := dkwJ10_rotateLeft_2 ++ dktJ10_rotateLeft_3
def dkwJ10_rotateLeft_1 : List UInt8 := [44, 180, 0, 111, 43, 181, 0, 124, 44, 43, 180, 0, 124, 181, 0, 124, 43, 180, 0, 124, 199, 0, 11, 42]
abbrev dktJ10_rotateLeft_1 : List UInt8 := dkwJ10_rotateLeft_1 ++ dktJ10_rotateLeft_2
def dkwJ10_rotateLeft_0 : List UInt8 := [43, 198, 0, 94, 43, 180, 0, 114, 77, 43, 44, 180, 0, 111, 181, 0, 114, 44, 180, 0, 111, 198, 0, 11]
abbrev dktJ10_rotateLeft_0 : List UInt8 := dkwJ10_rotateLeft_0 ++ dktJ10_rotateLeft_1
theorem dksJ10_rotateLeft_0 : cJ10_rotateLeft.data.toList.drop 0 = dktJ10_rotateLeft_0 := by decide +kernel
theorem dksJ10_rotateLeft_1 : cJ10_rotateLeft.data.toList.drop 24 = dktJ10_rotateLeft_1 := dk_seg dksJ10_rotateLeft_0 24 rfl rfl
theorem dksJ10_rotateLeft_2 : cJ10_rotateLeft.data.toList.drop 48 = dktJ10_rotateLeft_2 := dk_seg dksJ10_rotateLeft_1 24 rfl rfl
theorem dksJ10_rotateLeft_3 : cJ10_rotateLeft.data.toList.drop 71 = dktJ10_rotateLeft_3 := dk_seg dksJ10_rotateLeft_2 23 rfl rfl
theorem dksJ10_rotateLeft_4 : cJ10_rotateLeft.data.toList.drop 95 = dktJ10_rotateLeft_4 := dk_seg dksJ10_rotateLeft_3 24 rfl rfl
theorem dJ10_rotateLeft_0 : decode cJ10_rotateLeft 0 = .ok (.aload_n 1, 1) := dk_43 (dk_at dksJ10_rotateLeft_0 0 rfl rfl)
theorem dJ10_rotateLeft_1 : decode cJ10_rotateLeft 1 = .ok (.ifnull 94, 3) := dk_198 0 94 (dk_at dksJ10_rotateLeft_0 1 rfl rfl)
theorem dJ10_rotateLeft_4 : decode cJ10_rotateLeft 4 = .ok (.aload_n 1, 1) := dk_43 (dk_at dksJ10_rotateLeft_0 4 rfl rfl)
theorem dJ10_rotateLeft_5 : decode cJ10_rotateLeft 5 = .ok (.getfield 114, 3) := dk_180 0 114 (dk_at dksJ10_rotateLeft_0 5 rfl rfl)
theorem dJ10_rotateLeft_8 : decode cJ10_rotateLeft 8 = .ok (.astore_n 2, 1) := dk_77 (dk_at dksJ10_rotateLeft_0 8 rfl rfl)
theorem dJ10_rotateLeft_9 : decode cJ10_rotateLeft 9 = .ok (.aload_n 1, 1) := dk_43 (dk_at dksJ10_rotateLeft_0 9 rfl rfl)
theorem dJ10_rotateLeft_10 : decode cJ10_rotateLeft 10 = .ok (.aload_n 2, 1) := dk_44 (dk_at dksJ10_rotateLeft_0 10 rfl rfl)
theorem dJ10_rotateLeft_11 : decode cJ10_rotateLeft 11 = .ok (.getfield 111, 3) := dk_180 0 111 (dk_at dksJ10_rotateLeft_0 11 rfl rfl)
theorem dJ10_rotateLeft_14 : decode cJ10_rotateLeft 14 = .ok (.putfield 114, 3) := dk_181 0 114 (dk_at dksJ10_rotateLeft_0 14 rfl rfl)
theorem dJ10_rotateLeft_17 : decode cJ10_rotateLeft 17 = .ok (.aload_n 2, 1) := dk_44 (dk_at dksJ10_rotateLeft_0 17 rfl rfl)
theorem dJ10_rotateLeft_18 : decode cJ10_rotateLeft 18 = .ok (.getfield 111, 3) := dk_180 0 111 (dk_at dksJ10_rotateLeft_0 18 rfl rfl)
theorem dJ10_rotateLeft_21 : decode cJ10_rotateLeft 21 = .ok (.ifnull 11, 3) := dk_198 0 11 (dk_at dksJ10_rotateLeft_0 21 rfl rfl)
theorem dJ10_rotateLeft_24 : decode cJ10_rotateLeft 24 = .ok (.aload_n 2, 1) := dk_44 (dk_at dksJ10_rotateLeft_1 0 rfl rfl)
theorem dJ10_rotateLeft_25 : decode cJ10_rotateLeft 25 = .ok (.getfield 111, 3) := dk_180 0 111 (dk_at dksJ10_rotateLeft_1 1 rfl rfl)
theorem dJ10_rotateLeft_28 : decode cJ10_rotateLeft 28 = .ok (.aload_n 1, 1) := dk_43 (dk_at dksJ10_rotateLeft_1 4 rfl rfl)
theorem dJ10_rotateLeft_29 : decode cJ10_rotateLeft 29 = .ok (.putfield 124, 3) := dk_181 0 124 (dk_at dksJ10_rotateLeft_1 5 rfl rfl)
theorem dJ10_rotateLeft_32 : decode cJ10_rotateLeft 32 = .ok (.aload_n 2, 1) := dk_44 (dk_at dksJ10_rotateLeft_1 8 rfl rfl)
theorem dJ10_rotateLeft_33 : decode cJ10_rotateLeft 33 = .ok (.aload_n 1, 1) := dk_43 (dk_at dksJ10_rotateLeft_1 9 rfl rfl)
theorem dJ10_rotateLeft_34 : decode cJ10_rotateLeft 34 = .ok (.getfield 124, 3) := dk_180 0 124 (dk_at dksJ10_rotateLeft_1 10 rfl rfl)
theorem dJ10_rotateLeft_37 : decode cJ10_rotateLeft 37 = .ok (.putfield 124, 3) := dk_181 0 124 (dk_at dksJ10_rotateLeft_1 13 rfl rfl)
theorem dJ10_rotateLeft_40 : decode cJ10_rotateLeft 40 = .ok (.aload_n 1, 1) := dk_43 (dk_at dksJ10_rotateLeft_1 16 rfl rfl)
theorem dJ10_rotateLeft_41 : decode cJ10_rotateLeft 41 = .ok (.getfield 124, 3) := dk_180 0 124 (dk_at dksJ10_rotateLeft_1 17 rfl rfl)
theorem dJ10_rotateLeft_44 : decode cJ10_rotateLeft 44 = .ok (.ifnonnull 11, 3) := dk_199 0 11 (dk_at dksJ10_rotateLeft_1 20 rfl rfl)
theorem dJ10_rotateLeft_47 : decode cJ10_rotateLeft 47 = .ok (.aload_n 0, 1) := dk_42 (dk_at dksJ10_rotateLeft_1 23 rfl rfl)
theorem dJ10_rotateLeft_48 : decode cJ10_rotateLeft 48 = .ok (.aload_n 2, 1) := dk_44 (dk_at dksJ10_rotateLeft_2 0 rfl rfl)
theorem dJ10_rotateLeft_49 : decode cJ10_rotateLeft 49 = .ok (.putfield 101, 3) := dk_181 0 101 (dk_at dksJ10_rotateLeft_2 1 rfl rfl)
theorem dJ10_rotateLeft_52 : decode cJ10_rotateLeft 52 = .ok (.goto 33, 3) := dk_167 0 33 (dk_at dksJ10_rotateLeft_2 4 rfl rfl)
theorem dJ10_rotateLeft_55 : decode cJ10_rotateLeft 55 = .ok (.aload_n 1, 1) := dk_43 (dk_at dksJ10_rotateLeft_2 7 rfl rfl)
theorem dJ10_rotateLeft_56 : decode cJ10_rotateLeft 56 = .ok (.getfield 124, 3) := dk_180 0 124 (dk_at dksJ10_rotateLeft_2 8 rfl rfl)
theorem dJ10_rotateLeft_59 : decode cJ10_rotateLeft 59 = .ok (.getfield 111, 3) := dk_180 0 111 (dk_at dksJ10_rotateLeft_2 11 rfl rfl)
theorem dJ10_rotateLeft_62 : decode cJ10_rotateLeft 62 = .ok (.aload_n 1, 1) := dk_43 (dk_at dksJ10_rotateLeft_2 14 rfl rfl)
theorem dJ10_rotateLeft_63 : decode cJ10_rotateLeft 63 = .ok (.if_acmp .ne 14, 3) := dk_166 0 14 (dk_at dksJ10_rotateLeft_2 15 rfl rfl)
theorem dJ10_rotateLeft_66 : decode cJ10_rotateLeft 66 = .ok (.aload_n 1, 1) := dk_43 (dk_at dksJ10_rotateLeft_2 18 rfl rfl)
theorem dJ10_rotateLeft_67 : decode cJ10_rotateLeft 67 = .ok (.getfield 124, 3) := dk_180 0 124 (dk_at dksJ10_rotateLeft_2 19 rfl rfl)
theorem dJ10_rotateLeft_70 : decode cJ10_rotateLeft 70 = .ok (.aload_n 2, 1) := dk_44 (dk_at dksJ10_rotateLeft_2 22 rfl rfl)
theorem dJ10_rotateLeft_71 : decode cJ10_rotateLeft 71 = .ok (.putfield 111, 3) := dk_181 0 111 (dk_at dksJ10_rotateLeft_3 0 rfl rfl)
theorem dJ10_rotateLeft_74 : decode cJ10_rotateLeft 74 = .ok (.goto 11, 3) := dk_167 0 11 (dk_at dksJ10_rotateLeft_3 3 rfl rfl)
theorem dJ10_rotateLeft_77 : decode cJ10_rotateLeft 77 = .ok (.aload_n 1, 1) := dk_43 (dk_at dksJ10_rotateLeft_3 6 rfl rfl)
theorem dJ10_rotateLeft_78 : decode cJ10_rotateLeft 78 = .ok (.getfield 124, 3) := dk_180 0 124 (dk_at dksJ10_rotateLeft_3 7 rfl rfl)
theorem dJ10_rotateLeft_81 : decode cJ10_rotateLeft 81 = .ok (.aload_n 2, 1) := dk_44 (dk_at dksJ10_rotateLeft_3 10 rfl rfl)
theorem dJ10_rotateLeft_82 : decode cJ10_rotateLeft 82 = .ok (.putfield 114, 3) := dk_181 0 114 (dk_at dksJ10_rotateLeft_3 11 rfl rfl)
theorem dJ10_rotateLeft_85 : decode cJ10_rotateLeft 85 = .ok (.aload_n 2, 1) := dk_44 (dk_at dksJ10_rotateLeft_3 14 rfl rfl)
theorem dJ10_rotateLeft_86 : decode cJ10_rotateLeft 86 = .ok (.aload_n 1, 1) := dk_43 (dk_at dksJ10_rotateLeft_3 15 rfl rfl)
theorem dJ10_rotateLeft_87 : decode cJ10_rotateLeft 87 = .ok (.putfield 111, 3) := dk_181 0 111 (dk_at dksJ10_rotateLeft_3 16 rfl rfl)
theorem dJ10_rotateLeft_90 : decode cJ10_rotateLeft 90 = .ok (.aload_n 1, 1) := dk_43 (dk_at dksJ10_rotateLeft_3 19 rfl rfl)
theorem dJ10_rotateLeft_91 : decode cJ10_rotateLeft 91 = .ok (.aload_n 2, 1) := dk_44 (dk_at dksJ10_rotateLeft_3 20 rfl rfl)
theorem dJ10_rotateLeft_92 : decode cJ10_rotateLeft 92 = .ok (.putfield 124, 3) := dk_181 0 124 (dk_at dksJ10_rotateLeft_3 21 rfl rfl)
theorem dJ10_rotateLeft_95 : decode cJ10_rotateLeft 95 = .ok (.return_, 1) := dk_177 (dk_at dksJ10_rotateLeft_4 0 rfl rfl)
def dkwJ10_rotateRight_4 : List UInt8 := [177]
abbrev dktJ10_rotateRight_4 : List UInt8 := dkwJ10_rotateRight_4 ++ []
def dkwJ10_rotateRight_3 : List UInt8 := [181, 0, 114, 167, 0, 11, 43, 180, 0, 124, 44, 181, 0, 111, 44, 43, 181, 0, 114, 43, 44, 181, 0, 124]
abbrev dktJ10_rotateRight_3 : List UInt8 := dkwJ10_rotateRight_3 ++ dktJ10_rotateRight_4
def dkwJ10_rotateRight_2 : List UInt8 := [44, 181, 0, 101, 167, 0, 33, 43, 180, 0, 124, 180, 0, 114, 43, 166, 0, 14, 43, 180, 0, 124, 44]
abbrev dktJ10_rotateRight_2 : List UInt8 := dkwJ10_rotateRight_2 ++ dktJ10_rotateRight_3
def dkwJ10_rotateRight_1 : List UInt8 := [44, 180, 0, 114, 43, 181, 0, 124, 44, 43, 180, 0, 124, 181, 0, 124, 43, 180, 0, 124, 199, 0, 11, 42]
abbrev dktJ10_rotateRight_1 : List UInt8 := dkwJ10_rotateRight_1 ++ dktJ10_rotateRight_2
def dkwJ10_rotateRight_0 : List UInt8 := [43, 198, 0, 94, 43, 180, 0, 111, 77, 43, 44, 180, 0, 114, 181, 0, 111, 44, 180, 0, 114, 198, 0, 11]
abbrev dktJ10_rotateRight_0 : List UInt8 := dkwJ10_rotateRight_0 ++ dktJ10_rotateRight_1
theorem dksJ10_rotateRight_0 : cJ10_rotateRight.data.toList.drop 0 = dktJ10_rotateRight_0 := by decide +kernel
theorem dksJ10_rotateRight_1 : cJ10_rotateRight.data.toList.drop 24 = dktJ10_rotateRight_1 := dk_seg dksJ10_rotateRight_0 24 rfl rfl
theorem dksJ10_rotateRight_2 : cJ10_rotateRight.data.toList.drop 48 = dktJ10_rotateRight_2 := dk_seg dksJ10_rotateRight_1 24 rfl rfl
theorem dksJ10_rotateRight_3 : cJ10_rotateRight.data.toList.drop 71 = dktJ10_rotateRight_3 := dk_seg dksJ10_rotateRight_2 23 rfl rfl
theorem dksJ10_rotateRight_4 : cJ10_rotateRight.data.toList.drop 95 = dktJ10_rotateRight_4 := dk_seg dksJ10_rotateRight_3 24 rfl rfl
theorem dJ10_rotateRight_0 : decode cJ10_rotateRight 0 = .ok (.aload_n 1, 1) := dk_43 (dk_at dksJ10_rotateRight_0 0 rfl rfl)
theorem dJ10_rotateRight_1 : decode cJ10_rotateRight 1 = .ok (.ifnull 94, 3) := dk_198 0 94 (dk_at dksJ10_rotateRight_0 1 rfl rfl)
theorem dJ10_rotateRight_4 : decode cJ10_rotateRight 4 = .ok (.aload_n 1, 1) := dk_43 (dk_at dksJ10_rotateRight_0 4 rfl rfl)
theorem dJ10_rotateRight_5 : decode cJ10_rotateRight 5 = .ok (.getfield 111, 3) := dk_180 0 111 (dk_at dksJ10_rotateRight_0 5 rfl rfl)
theorem dJ10_rotateRight_8 : decode cJ10_rotateRight 8 = .ok (.astore_n 2, 1) := dk_77 (dk_at dksJ10_rotateRight_0 8 rfl rfl)
theorem dJ10_rotateRight_9 : decode cJ10_rotateRight 9 = .ok (.aload_n 1, 1) := dk_43 (dk_at dksJ10_rotateRight_0 9 rfl rfl)
theorem dJ10_rotateRight_10 : decode cJ10_rotateRight 10 = .ok (.aload_n 2, 1) := dk_44 (dk_at dksJ10_rotateRight_0 10 rfl rfl)
theorem dJ10_rotateRight_11 : decode cJ10_rotateRight 11 = .ok (.getfield 114, 3) := dk_180 0 114 (dk_at dksJ10_rotateRight_0 11 rfl rfl)
theorem dJ10_rotateRight_14 : decode cJ10_rotateRight 14 = .ok (.putfield 111, 3) := dk_181 0 111 (dk_at dksJ10_rotateRight_0 14 rfl rfl)
theorem dJ10_rotateRight_17 : decode cJ10_rotateRight 17 = .ok (.aload_n 2, 1) := dk_44 (dk_at dksJ10_rotateRight_0 17 rfl rfl)
theorem dJ10_rotateRight_18 : decode cJ10_rotateRight 18 = .ok (.getfield 114, 3) := dk_180 0 114 (dk_at dksJ10_rotateRight_0 18 rfl rfl)
theorem dJ10_rotateRight_21 : decode cJ10_rotateRight 21 = .ok (.ifnull 11, 3) := dk_198 0 11 (dk_at dksJ10_rotateRight_0 21 rfl rfl)
theorem dJ10_rotateRight_24 : decode cJ10_rotateRight 24 = .ok (.aload_n 2, 1) := dk_44 (dk_at dksJ10_rotateRight_1 0 rfl rfl)
theorem dJ10_rotateRight_25 : decode cJ10_rotateRight 25 = .ok (.getfield 114, 3) := dk_180 0 114 (dk_at dksJ10_rotateRight_1 1 rfl rfl)
theorem dJ10_rotateRight_28 : decode cJ10_rotateRight 28 = .ok (.aload_n 1, 1) := dk_43 (dk_at dksJ10_rotateRight_1 4 rfl rfl)
theorem dJ10_rotateRight_29 : decode cJ10_rotateRight 29 = .ok (.putfield 124, 3) := dk_181 0 124 (dk_at dksJ10_rotateRight_1 5 rfl rfl)
theorem dJ10_rotateRight_32 : decode cJ10_rotateRight 32 = .ok (.aload_n 2, 1) := dk_44 (dk_at dksJ10_rotateRight_1 8 rfl rfl)
theorem dJ10_rotateRight_33 : decode cJ10_rotateRight 33 = .ok (.aload_n 1, 1) := dk_43 (dk_at dksJ10_rotateRight_1 9 rfl rfl)
theorem dJ10_rotateRight_34 : decode cJ10_rotateRight 34 = .ok (.getfield 124, 3) := dk_180 0 124 (dk_at dksJ10_rotateRight_1 10 rfl rfl)
theorem dJ10_rotateRight_37 : decode cJ10_rotateRight 37 = .ok (.putfield 124, 3) := dk_181 0 124 (dk_at dksJ10_rotateRight_1 13 rfl rfl)
theorem dJ10_rotateRight_40 : decode cJ10_rotateRight 40 = .ok (.aload_n 1, 1) := dk_43 (dk_at dksJ10_rotateRight_1 16 rfl rfl)
theorem dJ10_rotateRight_41 : decode cJ10_rotateRight 41 = .ok (.getfield 124, 3) := dk_180 0 124 (dk_at dksJ10_rotateRight_1 17 rfl rfl)
theorem dJ10_rotateRight_44 : decode cJ10_rotateRight 44 = .ok (.ifnonnull 11, 3) := dk_199 0 11 (dk_at dksJ10_rotateRight_1 20 rfl rfl)
theorem dJ10_rotateRight_47 : decode cJ10_rotateRight 47 = .ok (.aload_n 0, 1) := dk_42 (dk_at dksJ10_rotateRight_1 23 rfl rfl)
theorem dJ10_rotateRight_48 : decode cJ10_rotateRight 48 = .ok (.aload_n 2, 1) := dk_44 (dk_at dksJ10_rotateRight_2 0 rfl rfl)
theorem dJ10_rotateRight_49 : decode cJ10_rotateRight 49 = .ok (.putfield 101, 3) := dk_181 0 101 (dk_at dksJ10_rotateRight_2 1 rfl rfl)
theorem dJ10_rotateRight_52 : decode cJ10_rotateRight 52 = .ok (.goto 33, 3) := dk_167 0 33 (dk_at dksJ10_rotateRight_2 4 rfl rfl)
theorem dJ10_rotateRight_55 : decode cJ10_rotateRight 55 = .ok (.aload_n 1, 1) := dk_43 (dk_at dksJ10_rotateRight_2 7 rfl rfl)
theorem dJ10_rotateRight_56 : decode cJ10_rotateRight 56 = .ok (.getfield 124, 3) := dk_180 0 124 (dk_at dksJ10_rotateRight_2 8 rfl rfl)
theorem dJ10_rotateRight_59 : decode cJ10_rotateRight 59 = .ok (.getfield 114, 3) := dk_180 0 114 (dk_at dksJ10_rotateRight_2 11 rfl rfl)
theorem dJ10_rotateRight_62 : decode cJ10_rotateRight 62 = .ok (.aload_n 1, 1) := dk_43 (dk_at dksJ10_rotateRight_2 14 rfl rfl)
theorem dJ10_rotateRight_63 : decode cJ10_rotateRight 63 = .ok (.if_acmp .ne 14, 3) := dk_166 0 14 (dk_at dksJ10_rotateRight_2 15 rfl rfl)
theorem dJ10_rotateRight_66 : decode cJ10_rotateRight 66 = .ok (.aload_n 1, 1) := dk_43 (dk_at dksJ10_rotateRight_2 18 rfl rfl)
theorem dJ10_rotateRight_67 : decode cJ10_rotateRight 67 = .ok (.getfield 124, 3) := dk_180 0 124 (dk_at dksJ10_rotateRight_2 19 rfl rfl)
theorem dJ10_rotateRight_70 : decode cJ10_rotateRight 70 = .ok (.aload_n 2, 1) := dk_44 (dk_at dksJ10_rotateRight_2 22 rfl rfl)
theorem dJ10_rotateRight_71 : decode cJ10_rotateRight 71 = .ok (.putfield 114, 3) := dk_181 0 114 (dk_at dksJ10_rotateRight_3 0 rfl rfl)
theorem dJ10_rotateRight_74 : decode cJ10_rotateRight 74 = .ok (.goto 11, 3) := dk_167 0 11 (dk_at dksJ10_rotateRight_3 3 rfl rfl)
theorem dJ10_rotateRight_77 : decode cJ10_rotateRight 77 = .ok (.aload_n 1, 1) := dk_43 (dk_at dksJ10_rotateRight_3 6 rfl rfl)
theorem dJ10_rotateRight_78 : decode cJ10_rotateRight 78 = .ok (.getfield 124, 3) := dk_180 0 124 (dk_at dksJ10_rotateRight_3 7 rfl rfl)
theorem dJ10_rotateRight_81 : decode cJ10_rotateRight 81 = .ok (.aload_n 2, 1) := dk_44 (dk_at dksJ10_rotateRight_3 10 rfl rfl)
theorem dJ10_rotateRight_82 : decode cJ10_rotateRight 82 = .ok (.putfield 111, 3) := dk_181 0 111 (dk_at dksJ10_rotateRight_3 11 rfl rfl)
theorem dJ10_rotateRight_85 : decode cJ10_rotateRight 85 = .ok (.aload_n 2, 1) := dk_44 (dk_at dksJ10_rotateRight_3 14 rfl rfl)
theorem dJ10_rotateRight_86 : decode cJ10_rotateRight 86 = .ok (.aload_n 1, 1) := dk_43 (dk_at dksJ10_rotateRight_3 15 rfl rfl)
theorem dJ10_rotateRight_87 : decode cJ10_rotateRight 87 = .ok (.putfield 114, 3) := dk_181 0 114 (dk_at dksJ10_rotateRight_3 16 rfl rfl)
theorem dJ10_rotateRight_90 : decode cJ10_rotateRight 90 = .ok (.aload_n 1, 1) := dk_43 (dk_at dksJ10_rotateRight_3 19 rfl rfl)
theorem dJ10_rotateRight_91 : decode cJ10_rotateRight 91 = .ok (.aload_n 2, 1) := dk_44 (dk_at dksJ10_rotateRight_3 20 rfl rfl)
theorem dJ10_rotateRight_92 : decode cJ10_rotateRight 92 = .ok (.putfield 124, 3) := dk_181 0 124 (dk_at dksJ10_rotateRight_3 21 rfl rfl)
theorem dJ10_rotateRight_95 : decode cJ10_rotateRight 95 = .ok (.return_, 1) := dk_177 (dk_at dksJ10_rotateRight_4 0 rfl rfl)
def dkwJ10_fixAfterDeletion_14 : List UInt8 := [182, 1, 58, 42, 180, 0, 101, 76, 167, 254, 170, 43, 4, 184, 1, 51, 177]
abbrev dktJ10_fixAfterDeletion_14 : List UInt8 := dkwJ10_fixAfterDeletion_14 ++ []
def dkwJ10_fixAfterDeletion_13 : List UInt8 := [184, 1, 51, 43, 184, 1, 38, 4, 184, 1, 51, 44, 184, 1, 41, 4, 184, 1, 51, 42, 43, 184, 1, 38]
abbrev dktJ10_fixAfterDeletion_13 : List UInt8 := dkwJ10_fixAfterDeletion_13 ++ dktJ10_fixAfterDeletion_14
def dkwJ10_fixAfterDeletion_12 : List UInt8 := [184, 1, 51, 42, 44, 182, 1, 55, 43, 184, 1, 38, 184, 1, 41, 77, 44, 43, 184, 1, 38, 184, 1, 47]
abbrev dktJ10_fixAfterDeletion_12 : List UInt8 := dkwJ10_fixAfterDeletion_12 ++ dktJ10_fixAfterDeletion_13
def dkwJ10_fixAfterDeletion_11 : List UInt8 := [167, 0, 80, 44, 184, 1, 41, 184, 1, 47, 4, 160, 0, 29, 44, 184, 1, 44, 4, 184, 1, 51, 44, 3]
abbrev dktJ10_fixAfterDeletion_11 : List UInt8 := dkwJ10_fixAfterDeletion_11 ++ dktJ10_fixAfterDeletion_12
def dkwJ10_fixAfterDeletion_10 : List UInt8 := [160, 0, 27, 44, 184, 1, 41, 184, 1, 47, 4, 160, 0, 16, 44, 3, 184, 1, 51, 43, 184, 1, 38, 76]
abbrev dktJ10_fixAfterDeletion_10 : List UInt8 := dkwJ10_fixAfterDeletion_10 ++ dktJ10_fixAfterDeletion_11
def dkwJ10_fixAfterDeletion_9 : List UInt8 := [42, 43, 184, 1, 38, 182, 1, 58, 43, 184, 1, 38, 184, 1, 41, 77, 44, 184, 1, 44, 184, 1, 47, 4]
abbrev dktJ10_fixAfterDeletion_9 : List UInt8 := dkwJ10_fixAfterDeletion_9 ++ dktJ10_fixAfterDeletion_10
def dkwJ10_fixAfterDeletion_8 : List UInt8 := [184, 1, 41, 77, 44, 184, 1, 47, 154, 0, 32, 44, 4, 184, 1, 51, 43, 184, 1, 38, 3, 184, 1, 51]
abbrev dktJ10_fixAfterDeletion_8 : List UInt8 := dkwJ10_fixAfterDeletion_8 ++ dktJ10_fixAfterDeletion_9
def dkwJ10_fixAfterDeletion_7 : List UInt8 := [4, 184, 1, 51, 42, 43, 184, 1, 38, 182, 1, 55, 42, 180, 0, 101, 76, 167, 255, 73, 43, 184, 1, 38]
abbrev dktJ10_fixAfterDeletion_7 : List UInt8 := dkwJ10_fixAfterDeletion_7 ++ dktJ10_fixAfterDeletion_8
def dkwJ10_fixAfterDeletion_6 : List UInt8 := [77, 44, 43, 184, 1, 38, 184, 1, 47, 184, 1, 51, 43, 184, 1, 38, 4, 184, 1, 51, 44, 184, 1, 44]
abbrev dktJ10_fixAfterDeletion_6 : List UInt8 := dkwJ10_fixAfterDeletion_6 ++ dktJ10_fixAfterDeletion_7
def dkwJ10_fixAfterDeletion_5 : List UInt8 := [184, 1, 41, 4, 184, 1, 51, 44, 3, 184, 1, 51, 42, 44, 182, 1, 58, 43, 184, 1, 38, 184, 1, 44]
abbrev dktJ10_fixAfterDeletion_5 : List UInt8 := dkwJ10_fixAfterDeletion_5 ++ dktJ10_fixAfterDeletion_6
def dkwJ10_fixAfterDeletion_4 : List UInt8 := [184, 1, 51, 43, 184, 1, 38, 76, 167, 0, 80, 44, 184, 1, 44, 184, 1, 47, 4, 160, 0, 29, 44]
abbrev dktJ10_fixAfterDeletion_4 : List UInt8 := dkwJ10_fixAfterDeletion_4 ++ dktJ10_fixAfterDeletion_5
def dkwJ10_fixAfterDeletion_3 : List UInt8 := [184, 1, 41, 184, 1, 47, 4, 160, 0, 27, 44, 184, 1, 44, 184, 1, 47, 4, 160, 0, 16, 44, 3]
abbrev dktJ10_fixAfterDeletion_3 : List UInt8 := dkwJ10_fixAfterDeletion_3 ++ dktJ10_fixAfterDeletion_4
def dkwJ10_fixAfterDeletion_2 : List UInt8 := [184, 1, 38, 3, 184, 1, 51, 42, 43, 184, 1, 38, 182, 1, 55, 43, 184, 1, 38, 184, 1, 44, 77, 44]
abbrev dktJ10_fixAfterDeletion_2 : List UInt8 := dkwJ10_fixAfterDeletion_2 ++ dktJ10_fixAfterDeletion_3
def dkwJ10_fixAfterDeletion_1 : List UInt8 := [166, 0, 162, 43, 184, 1, 38, 184, 1, 44, 77, 44, 184, 1, 47, 154, 0, 32, 44, 4, 184, 1, 51, 43]
abbrev dktJ10_fixAfterDeletion_1 : List UInt8 := dkwJ10_fixAfterDeletion_1 ++ dktJ10_fixAfterDeletion_2
def dkwJ10_fixAfterDeletion_0 : List UInt8 := [43, 42, 180, 0, 101, 165, 1, 84, 43, 184, 1, 47, 4, 160, 1, 76, 43, 43, 184, 1, 38, 184, 1, 41]
abbrev dktJ10_fixAfterDeletion_0 : List UInt8 := dkwJ10_fixAfterDeletion_0 ++ dktJ10_fixAfterDeletion_1
theorem dksJ10_fixAfterDeletion_0 : cJ10_fixAfterDeletion.data.toList.drop 0 = dktJ10_fixAfterDeletion_0 := by decide +kernel
theorem dksJ10_fixAfterDeletion_1 : cJ10_fixAfterDeletion.data.toList.drop 24 = dktJ10_fixAfterDeletion_1 := dk_seg dksJ10_fixAfterDeletion_0 24 rfl rfl
theorem dksJ10_fixAfterDeletion_2 : cJ10_fixAfterDeletion.data.toList.drop 48 = dktJ10_fixAfterDeletion_2 := dk_seg dksJ10_fixAfterDeletion_1 24 rfl rfl
theorem dksJ10_fixAfterDeletion_3 : cJ10_fixAfterDeletion.data.toList.drop 72 = dktJ10_fixAfterDeletion_3 := dk_seg dksJ10_fixAfterDeletion_2 24 rfl rfl
theorem dksJ10_fixAfterDeletion_4 : cJ10_fixAfterDeletion.data.toList.drop 95 = dktJ10_fixAfterDeletion_4 := dk_seg dksJ10_fixAfterDeletion_3 23 rfl rfl
theorem dksJ10_fixAfterDeletion_5 : cJ10_fixAfterDeletion.data.toList.drop 118 = dktJ10_fixAfterDeletion_5 := dk_seg dksJ10_fixAfterDeletion_4 23 rfl rfl
theorem dksJ10_fixAfterDeletion_6 : cJ10_fixAfterDeletion.data.toList.drop 142 = dktJ10_fixAfterDeletion_6 := dk_seg dksJ10_fixAfterDeletion_5 24 rfl rfl
theorem dksJ10_fixAfterDeletion_7 : cJ10_fixAfterDeletion.data.toList.drop 166 = dktJ10_fixAfterDeletion_7 := dk_seg dksJ10_fixAfterDeletion_6 24 rfl rfl
theorem dksJ10_fixAfterDeletion_8 : cJ10_fixAfterDeletion.data.toList.drop 190 = dktJ10_fixAfterDeletion_8 := dk_seg dksJ10_fixAfterDeletion_7 24 rfl rfl
theorem dksJ10_fixAfterDeletion_9 : cJ10_fixAfterDeletion.data.toList.drop 214 = dktJ10_fixAfterDeletion_9 := dk_seg dksJ10_fixAfterDeletion_8 24 rfl rfl
theorem dksJ10_fixAfterDeletion_10 : cJ10_fixAfterDeletion.data.toList.drop 238 = dktJ10_fixAfterDeletion_10 := dk_seg dksJ10_fixAfterDeletion_9 24 rfl rfl
theorem dksJ10_fixAfterDeletion_11 : cJ10_fixAfterDeletion.data.toList.drop 262 = dktJ10_fixAfterDeletion_11 := dk_seg dksJ10_fixAfterDeletion_10 24 rfl rfl
theorem dksJ10_fixAfterDeletion_12 : cJ10_fixAfterDeletion.data.toList.drop 286 = dktJ10_fixAfterDeletion_12 := dk_seg dksJ10_fixAfterDeletion_11 24 rfl rfl
theorem dksJ10_fixAfterDeletion_13 : cJ10_fixAfterDeletion.data.toList.drop 310 = dktJ10_fixAfterDeletion_13 := dk_seg dksJ10_fixAfterDeletion_12 24 rfl rfl
theorem dksJ10_fixAfterDeletion_14 : cJ10_fixAfterDeletion.data.toList.drop 334 = dktJ10_fixAfterDeletion_14 := dk_seg dksJ10_fixAfterDeletion_13 24 rfl rfl
theorem dJ10_fixAfterDeletion_0 : decode cJ10_fixAfterDeletion 0 = .ok (.aload_n 1, 1) := dk_43 (dk_at dksJ10_fixAfterDeletion_0 0 rfl rfl)
theorem dJ10_fixAfterDeletion_1 : decode cJ10_fixAfterDeletion 1 = .ok (.aload_n 0, 1) := dk_42 (dk_at dksJ10_fixAfterDeletion_0 1 rfl rfl)
theorem dJ10_fixAfterDeletion_2 : decode cJ10_fixAfterDeletion 2 = .ok (.getfield 101, 3) := dk_180 0 101 (dk_at dksJ10_fixAfterDeletion_0 2 rfl rfl)
theorem dJ10_fixAfterDeletion_5 : decode cJ10_fixAfterDeletion 5 = .ok (.if_acmp .eq 340, 3) := dk_165 1 84 (dk_at dksJ10_fixAfterDeletion_0 5 rfl rfl)
theorem dJ10_fixAfterDeletion_8 : decode cJ10_fixAfterDeletion 8 = .ok (.aload_n 1, 1) := dk_43 (dk_at dksJ10_fixAfterDeletion_0 8 rfl rfl)
theorem dJ10_fixAfterDeletion_9 : decode cJ10_fixAfterDeletion 9 = .ok (.invokestatic 303, 3) := dk_184 1 47 (dk_at dksJ10_fixAfterDeletion_0 9 rfl rfl)
theorem dJ10_fixAfterDeletion_12 : decode cJ10_fixAfterDeletion 12 = .ok (.iconst 1, 1) := dk_4 (dk_at dksJ10_fixAfterDeletion_0 12 rfl rfl)
theorem dJ10_fixAfterDeletion_13 : decode cJ10_fixAfterDeletion 13 = .ok (.if_icmp .ne 332, 3) := dk_160 1 76 (dk_at dksJ10_fixAfterDeletion_0 13 rfl rfl)
theorem dJ10_fixAfterDeletion_16 : decode cJ10_fixAfterDeletion 16 = .ok (.aload_n 1, 1) := dk_43 (dk_at dksJ10_fixAfterDeletion_0 16 rfl rfl)
theorem dJ10_fixAfterDeletion_17 : decode cJ10_fixAfterDeletion 17 = .ok (.aload_n 1, 1) := dk_43 (dk_at dksJ10_fixAfterDeletion_0 17 rfl rfl)
theorem dJ10_fixAfterDeletion_18 : decode cJ10_fixAfterDeletion 18 = .ok (.invokestatic 294, 3) := dk_184 1 38 (dk_at dksJ10_fixAfterDeletion_0 18 rfl rfl)
theorem dJ10_fixAfterDeletion_21 : decode cJ10_fixAfterDeletion 21 = .ok (.invokestatic 297, 3) := dk_184 1 41 (dk_at dksJ10_fixAfterDeletion_0 21 rfl rfl)
theorem dJ10_fixAfterDeletion_24 : decode cJ10_fixAfterDeletion 24 = .ok (.if_acmp .ne 162, 3) := dk_166 0 162 (dk_at dksJ10_fixAfterDeletion_1 0 rfl rfl)
theorem dJ10_fixAfterDeletion_27 : decode cJ10_fixAfterDeletion 27 = .ok (.aload_n 1, 1) := dk_43 (dk_at dksJ10_fixAfterDeletion_1 3 rfl rfl)
theorem dJ10_fixAfterDeletion_28 : decode cJ10_fixAfterDeletion 28 = .ok (.invokestatic 294, 3) := dk_184 1 38 (dk_at dksJ10_fixAfterDeletion_1 4 rfl rfl)
theorem dJ10_fixAfterDeletion_31 : decode cJ10_fixAfterDeletion 31 = .ok (.invokestatic 300, 3) := dk_184 1 44 (dk_at dksJ10_fixAfterDeletion_1 7 rfl rfl)
theorem dJ10_fixAfterDeletion_34 : decode cJ10_fixAfterDeletion 34 = .ok (.astore_n 2, 1) := dk_77 (dk_at dksJ10_fixAfterDeletion_1 10 rfl rfl)
theorem dJ10_fixAfterDeletion_35 : decode cJ10_fixAfterDeletion 35 = .ok (.aload_n 2, 1) := dk_44 (dk_at dksJ10_fixAfterDeletion_1 11 rfl rfl)
theorem dJ10_fixAfterDeletion_36 : decode cJ10_fixAfterDeletion 36 = .ok (.invokestatic 303, 3) := dk_184 1 47 (dk_at dksJ10_fixAfterDeletion_1 12 rfl rfl)
theorem dJ10_fixAfterDeletion_39 : decode cJ10_fixAfterDeletion 39 = .ok (.ifCond .ne 32, 3) := dk_154 0 32 (dk_at dksJ10_fixAfterDeletion_1 15 rfl rfl)
theorem dJ10_fixAfterDeletion_42 : decode cJ10_fixAfterDeletion 42 = .ok (.aload_n 2, 1) := dk_44 (dk_at dksJ10_fixAfterDeletion_1 18 rfl rfl)
theorem dJ10_fixAfterDeletion_43 : decode cJ10_fixAfterDeletion 43 = .ok (.iconst 1, 1) := dk_4 (dk_at dksJ10_fixAfterDeletion_1 19 rfl rfl)
theorem dJ10_fixAfterDeletion_44 : decode cJ10_fixAfterDeletion 44 = .ok (.invokestatic 307, 3) := dk_184 1 51 (dk_at dksJ10_fixAfterDeletion_1 20 rfl rfl)
theorem dJ10_fixAfterDeletion_47 : decode cJ10_fixAfterDeletion 47 = .ok (.aload_n 1, 1) := dk_43 (dk_at dksJ10_fixAfterDeletion_1 23 rfl rfl)
theorem dJ10_fixAfterDeletion_48 : decode cJ10_fixAfterDeletion 48 = .ok (.invokestatic 294, 3) := dk_184 1 38 (dk_at dksJ10_fixAfterDeletion_2 0 rfl rfl)
theorem dJ10_fixAfterDeletion_51 : decode cJ10_fixAfterDeletion 51 = .ok (.iconst 0, 1) := dk_3 (dk_at dksJ10_fixAfterDeletion_2 3 rfl rfl)
theorem dJ10_fixAfterDeletion_52 : decode cJ10_fixAfterDeletion 52 = .ok (.invokestatic 307, 3) := dk_184 1 51 (dk_at dksJ10_fixAfterDeletion_2 4 rfl rfl)
theorem dJ10_fixAfterDeletion_55 : decode cJ10_fixAfterDeletion 55 = .ok (.aload_n 0, 1) := dk_42 (dk_at dksJ10_fixAfterDeletion_2 7 rfl rfl)
theorem dJ10_fixAfterDeletion_56 : decode cJ10_fixAfterDeletion 56 = .ok (.aload_n 1, 1) := dk_43 (dk_at dksJ10_fixAfterDeletion_2 8 rfl rfl)
theorem dJ10_fixAfterDeletion_57 : decode cJ10_fixAfterDeletion 57 = .ok (.invokestatic 294, 3) := dk_184 1 38 (dk_at dksJ10_fixAfterDeletion_2 9 rfl rfl)
theorem dJ10_fixAfterDeletion_60 : decode cJ10_fixAfterDeletion 60 = .ok (.invokevirtual 311, 3) := dk_182 1 55 (dk_at dksJ10_fixAfterDeletion_2 12 rfl rfl)
theorem dJ10_fixAfterDeletion_63 : decode cJ10_fixAfterDeletion 63 = .ok (.aload_n 1, 1) := dk_43 (dk_at dksJ10_fixAfterDeletion_2 15 rfl rfl)
theorem dJ10_fixAfterDeletion_64 : decode cJ10_fixAfterDeletion 64 = .ok (.invokestatic 294, 3) := dk_184 1 38 (dk_at dksJ10_fixAfterDeletion_2 16 rfl rfl)
theorem dJ10_fixAfterDeletion_67 : decode cJ10_fixAfterDeletion 67 = .ok (.invokestatic 300, 3) := dk_184 1 44 (dk_at dksJ10_fixAfterDeletion_2 19 rfl rfl)
theorem dJ10_fixAfterDeletion_70 : decode cJ10_fixAfterDeletion 70 = .ok (.astore_n 2, 1) := dk_77 (dk_at dksJ10_fixAfterDeletion_2 22 rfl rfl)
theorem dJ10_fixAfterDeletion_71 : decode cJ10_fixAfterDeletion 71 = .ok (.aload_n 2, 1) := dk_44 (dk_at dksJ10_fixAfterDeletion_2 23 rfl rfl)
theorem dJ10_fixAfterDeletion_72 : decode cJ10_fixAfterDeletion 72 = .ok (.invokestatic 297, 3) := dk_184 1 41 (dk_at dksJ10_fixAfterDeletion_3 0 rfl rfl)
theorem dJ10_fixAfterDeletion_75 : decode cJ10_fixAfterDeletion 75 = .ok (.invokestatic 303, 3) := dk_184 1 47 (dk_at dksJ10_fixAfterDeletion_3 3 rfl rfl)
theorem dJ10_fixAfterDeletion_78 : decode cJ10_fixAfterDeletion 78 = .ok (.iconst 1, 1) := dk_4 (dk_at dksJ10_fixAfterDeletion_3 6 rfl rfl)
theorem dJ10_fixAfterDeletion_79 : decode cJ10_fixAfterDeletion 79 = .ok (.if_icmp .ne 27, 3) := dk_160 0 27 (dk_at dksJ10_fixAfterDeletion_3 7 rfl rfl)
theorem dJ10_fixAfterDeletion_82 : decode cJ10_fixAfterDeletion 82 = .ok (.aload_n 2, 1) := dk_44 (dk_at dksJ10_fixAfterDeletion_3 10 rfl rfl)
theorem dJ10_fixAfterDeletion_83 : decode cJ10_fixAfterDeletion 83 = .ok (.invokestatic 300, 3) := dk_184 1 44 (dk_at dksJ10_fixAfterDeletion_3 11 rfl rfl)
theorem dJ10_fixAfterDeletion_86 : decode cJ10_fixAfterDeletion 86 = .ok (.invokestatic 303, 3) := dk_184 1 47 (dk_at dksJ10_fixAfterDeletion_3 14 rfl rfl)
theorem dJ10_fixAfterDeletion_89 : decode cJ10_fixAfterDeletion 89 = .ok (.iconst 1, 1) := dk_4 (dk_at dksJ10_fixAfterDeletion_3 17 rfl rfl)
theorem dJ10_fixAfterDeletion_90 : decode cJ10_fixAfterDeletion 90 = .ok (.if_icmp .ne 16, 3) := dk_160 0 16 (dk_at dksJ10_fixAfterDeletion_3 18 rfl rfl)
theorem dJ10_fixAfterDeletion_93 : decode cJ10_fixAfterDeletion 93 = .ok (.aload_n 2, 1) := dk_44 (dk_at dksJ10_fixAfterDeletion_3 21 rfl rfl)
theorem dJ10_fixAfterDeletion_94 : decode cJ10_fixAfterDeletion 94 = .ok (.iconst 0, 1) := dk_3 (dk_at dksJ10_fixAfterDeletion_3 22 rfl rfl)
theorem dJ10_fixAfterDeletion_95 : decode cJ10_fixAfterDeletion 95 = .ok (.invokestatic 307, 3) := dk_184 1 51 (dk_at dksJ10_fixAfterDeletion_4 0 rfl rfl)
theorem dJ10_fixAfterDeletion_98 : decode cJ10_fixAfterDeletion 98 = .ok (.aload_n 1, 1) := dk_43 (dk_at dksJ10_fixAfterDeletion_4 3 rfl rfl)
theorem dJ10_fixAfterDeletion_99 : decode cJ10_fixAfterDeletion 99 = .ok (.invokestatic 294, 3) := dk_184 1 38 (dk_at dksJ10_fixAfterDeletion_4 4 rfl rfl)
theorem dJ10_fixAfterDeletion_102 : decode cJ10_fixAfterDeletion 102 = .ok (.astore_n 1, 1) := dk_76 (dk_at dksJ10_fixAfterDeletion_4 7 rfl rfl)
theorem dJ10_fixAfterDeletion_103 : decode cJ10_fixAfterDeletion 103 = .ok (.goto 80, 3) := dk_167 0 80 (dk_at dksJ10_fixAfterDeletion_4 8 rfl rfl)
theorem dJ10_fixAfterDeletion_106 : decode cJ10_fixAfterDeletion 106 = .ok (.aload_n 2, 1) := dk_44 (dk_at dksJ10_fixAfterDeletion_4 11 rfl rfl)
theorem dJ10_fixAfterDeletion_107 : decode cJ10_fixAfterDeletion 107 = .ok (.invokestatic 300, 3) := dk_184 1 44 (dk_at dksJ10_fixAfterDeletion_4 12 rfl rfl)
theorem dJ10_fixAfterDeletion_110 : decode cJ10_fixAfterDeletion 110 = .ok (.invokestatic 303, 3) := dk_184 1 47 (dk_at dksJ10_fixAfterDeletion_4 15 rfl rfl)
theorem dJ10_fixAfterDeletion_113 : decode cJ10_fixAfterDeletion 113 = .ok (.iconst 1, 1) := dk_4 (dk_at dksJ10_fixAfterDeletion_4 18 rfl rfl)
theorem dJ10_fixAfterDeletion_114 : decode cJ10_fixAfterDeletion 114 = .ok (.if_icmp .ne 29, 3) := dk_160 0 29 (dk_at dksJ10_fixAfterDeletion_4 19 rfl rfl)
theorem dJ10_fixAfterDeletion_117 : decode cJ10_fixAfterDeletion 117 = .ok (.aload_n 2, 1) := dk_44 (dk_at dksJ10_fixAfterDeletion_4 22 rfl rfl)
theorem dJ10_fixAfterDeletion_118 : decode cJ10_fixAfterDeletion 118 = .ok (.invokestatic 297, 3) := dk_184 1 41 (dk_at dksJ10_fixAfterDeletion_5 0 rfl rfl)
theorem dJ10_fixAfterDeletion_121 : decode cJ10_fixAfterDeletion 121 = .ok (.iconst 1, 1) := dk_4 (dk_at dksJ10_fixAfterDeletion_5 3 rfl rfl)
theorem dJ10_fixAfterDeletion_122 : decode cJ10_fixAfterDeletion 122 = .ok (.invokestatic 307, 3) := dk_184 1 51 (dk_at dksJ10_fixAfterDeletion_5 4 rfl rfl)
theorem dJ10_fixAfterDeletion_125 : decode cJ10_fixAfterDeletion 125 = .ok (.aload_n 2, 1) := dk_44 (dk_at dksJ10_fixAfterDeletion_5 7 rfl rfl)
theorem dJ10_fixAfterDeletion_126 : decode cJ10_fixAfterDeletion 126 = .ok (.iconst 0, 1) := dk_3 (dk_at dksJ10_fixAfterDeletion_5 8 rfl rfl)
theorem dJ10_fixAfterDeletion_127 : decode cJ10_fixAfterDeletion 127 = .ok (.invokestatic 307, 3) := dk_184 1 51 (dk_at dksJ10_fixAfterDeletion_5 9 rfl rfl)
theorem dJ10_fixAfterDeletion_130 : decode cJ10_fixAfterDeletion 130 = .ok (.aload_n 0, 1) := dk_42 (dk_at dksJ10_fixAfterDeletion_5 12 rfl rfl)
theorem dJ10_fixAfterDeletion_131 : decode cJ10_fixAfterDeletion 131 = .ok (.aload_n 2, 1) := dk_44 (dk_at dksJ10_fixAfterDeletion_5 13 rfl rfl)
theorem dJ10_fixAfterDeletion_132 : decode cJ10_fixAfterDeletion 132 = .ok (.invokevirtual 314, 3) := dk_182 1 58 (dk_at dksJ10_fixAfterDeletion_5 14 rfl rfl)
theorem dJ10_fixAfterDeletion_135 : decode cJ10_fixAfterDeletion 135 = .ok (.aload_n 1, 1) := dk_43 (dk_at dksJ10_fixAfterDeletion_5 17 rfl rfl)
theorem dJ10_fixAfterDeletion_136 : decode cJ10_fixAfterDeletion 136 = .ok (.invokestatic 294, 3) := dk_184 1 38 (dk_at dksJ10_fixAfterDeletion_5 18 rfl rfl)
theorem dJ10_fixAfterDeletion_139 : decode cJ10_fixAfterDeletion 139 = .ok (.invokestatic 300, 3) := dk_184 1 44 (dk_at dksJ10_fixAfterDeletion_5 21 rfl rfl)
theorem dJ10_fixAfterDeletion_142 : decode cJ10_fixAfterDeletion 142 = .ok (.astore_n 2, 1) := dk_77 (dk_at dksJ10_fixAfterDeletion_6 0 rfl rfl)
theorem dJ10_fixAfterDeletion_143 : decode cJ10_fixAfterDeletion 143 = .ok (.aload_n 2, 1) := dk_44 (dk_at dksJ10_fixAfterDeletion_6 1 rfl rfl)
theorem dJ10_fixAfterDeletion_144 : decode cJ10_fixAfterDeletion 144 = .ok (.aload_n 1, 1) := dk_43 (dk_at dksJ10_fixAfterDeletion_6 2 rfl rfl)
theorem dJ10_fixAfterDeletion_145 : decode cJ10_fixAfterDeletion 145 = .ok (.invokestatic 294, 3) := dk_184 1 38 (dk_at dksJ10_fixAfterDeletion_6 3 rfl rfl)
theorem dJ10_fixAfterDeletion_148 : decode cJ10_fixAfterDeletion 148 = .ok (.invokestatic 303, 3) := dk_184 1 47 (dk_at dksJ10_fixAfterDeletion_6 6 rfl rfl)
theorem dJ10_fixAfterDeletion_151 : decode cJ10_fixAfterDeletion 151 = .ok (.invokestatic 307, 3) := dk_184 1 51 (dk_at dksJ10_fixAfterDeletion_6 9 rfl rfl)
theorem dJ10_fixAfterDeletion_154 : decode cJ10_fixAfterDeletion 154 = .ok (.aload_n 1, 1) := dk_43 (dk_at dksJ10_fixAfterDeletion_6 12 rfl rfl)
theorem dJ10_fixAfterDeletion_155 : decode cJ10_fixAfterDeletion 155 = .ok (.invokestatic 294, 3) := dk_184 1 38 (dk_at dksJ10_fixAfterDeletion_6 13 rfl rfl)
theorem dJ10_fixAfterDeletion_158 : decode cJ10_fixAfterDeletion 158 = .ok (.iconst 1, 1) := dk_4 (dk_at dksJ10_fixAfterDeletion_6 16 rfl rfl)
theorem dJ10_fixAfterDeletion_159 : decode cJ10_fixAfterDeletion 159 = .ok (.invokestatic 307, 3) := dk_184 1 51 (dk_at dksJ10_fixAfterDeletion_6 17 rfl rfl)
theorem dJ10_fixAfterDeletion_162 : decode cJ10_fixAfterDeletion 162 = .ok (.aload_n 2, 1) := dk_44 (dk_at dksJ10_fixAfterDeletion_6 20 rfl rfl)
theorem dJ10_fixAfterDeletion_163 : decode cJ10_fixAfterDeletion 163 = .ok (.invokestatic 300, 3) := dk_184 1 44 (dk_at dksJ10_fixAfterDeletion_6 21 rfl rfl)
theorem dJ10_fixAfterDeletion_166 : decode cJ10_fixAfterDeletion 166 = .ok (.iconst 1, 1) := dk_4 (dk_at dksJ10_fixAfterDeletion_7 0 rfl rfl)
theorem dJ10_fixAfterDeletion_167 : decode cJ10_fixAfterDeletion 167 = .ok (.invokestatic 307, 3) := dk_184 1 51 (dk_at dksJ10_fixAfterDeletion_7 1 rfl rfl)
theorem dJ10_fixAfterDeletion_170 : decode cJ10_fixAfterDeletion 170 = .ok (.aload_n 0, 1) := dk_42 (dk_at dksJ10_fixAfterDeletion_7 4 rfl rfl)
theorem dJ10_fixAfterDeletion_171 : decode cJ10_fixAfterDeletion 171 = .ok (.aload_n 1, 1) := dk_43 (dk_at dksJ10_fixAfterDeletion_7 5 rfl rfl)
theorem dJ10_fixAfterDeletion_172 : decode cJ10_fixAfterDeletion 172 = .ok (.invokestatic 294, 3) := dk_184 1 38 (dk_at dksJ10_fixAfterDeletion_7 6 rfl rfl)
theorem dJ10_fixAfterDeletion_175 : decode cJ10_fixAfterDeletion 175 = .ok (.invokevirtual 311, 3) := dk_182 1 55 (dk_at dksJ10_fixAfterDeletion_7 9 rfl rfl)
theorem dJ10_fixAfterDeletion_178 : decode cJ10_fixAfterDeletion 178 = .ok (.aload_n 0, 1) := dk_42 (dk_at dksJ10_fixAfterDeletion_7 12 rfl rfl)
theorem dJ10_fixAfterDeletion_179 : decode cJ10_fixAfterDeletion 179 = .ok (.getfield 101, 3) := dk_180 0 101 (dk_at dksJ10_fixAfterDeletion_7 13 rfl rfl)
theorem dJ10_fixAfterDeletion_182 : decode cJ10_fixAfterDeletion 182 = .ok (.astore_n 1, 1) := dk_76 (dk_at dksJ10_fixAfterDeletion_7 16 rfl rfl)
theorem dJ10_fixAfterDeletion_183 : decode cJ10_fixAfterDeletion 183 = .ok (.goto (-183), 3) := dk_167 255 73 (dk_at dksJ10_fixAfterDeletion_7 17 rfl rfl)
theorem dJ10_fixAfterDeletion_186 : decode cJ10_fixAfterDeletion 186 = .ok (.aload_n 1, 1) := dk_43 (dk_at dksJ10_fixAfterDeletion_7 20 rfl rfl)
theorem dJ10_fixAfterDeletion_187 : decode cJ10_fixAfterDeletion 187 = .ok (.invokestatic 294, 3) := dk_184 1 38 (dk_at dksJ10_fixAfterDeletion_7 21 rfl rfl)
theorem dJ10_fixAfterDeletion_190 : decode cJ10_fixAfterDeletion 190 = .ok (.invokestatic 297, 3) := dk_184 1 41 (dk_at dksJ10_fixAfterDeletion_8 0 rfl rfl)
theorem dJ10_fixAfterDeletion_193 : decode cJ10_fixAfterDeletion 193 = .ok (.astore_n 2, 1) := dk_77 (dk_at dksJ10_fixAfterDeletion_8 3 rfl rfl)
theorem dJ10_fixAfterDeletion_194 : decode cJ10_fixAfterDeletion 194 = .ok (.aload_n 2, 1) := dk_44 (dk_at dksJ10_fixAfterDeletion_8 4 rfl rfl)
theorem dJ10_fixAfterDeletion_195 : decode cJ10_fixAfterDeletion 195 = .ok (.invokestatic 303, 3) := dk_184 1 47 (dk_at dksJ10_fixAfterDeletion_8 5 rfl rfl)
theorem dJ10_fixAfterDeletion_198 : decode cJ10_fixAfterDeletion 198 = .ok (.ifCond .ne 32, 3) := dk_154 0 32 (dk_at dksJ10_fixAfterDeletion_8 8 rfl rfl)
theorem dJ10_fixAfterDeletion_201 : decode cJ10_fixAfterDeletion 201 = .ok (.aload_n 2, 1) := dk_44 (dk_at dksJ10_fixAfterDeletion_8 11 rfl rfl)
theorem dJ10_fixAfterDeletion_202 : decode cJ10_fixAfterDeletion 202 = .ok (.iconst 1, 1) := dk_4 (dk_at dksJ10_fixAfterDeletion_8 12 rfl rfl)
theorem dJ10_fixAfterDeletion_203 : decode cJ10_fixAfterDeletion 203 = .ok (.invokestatic 307, 3) := dk_184 1 51 (dk_at dksJ10_fixAfterDeletion_8 13 rfl rfl)
theorem dJ10_fixAfterDeletion_206 : decode cJ10_fixAfterDeletion 206 = .ok (.aload_n 1, 1) := dk_43 (dk_at dksJ10_fixAfterDeletion_8 16 rfl rfl)
theorem dJ10_fixAfterDeletion_207 : decode cJ10_fixAfterDeletion 207 = .ok (.invokestatic 294, 3) := dk_184 1 38 (dk_at dksJ10_fixAfterDeletion_8 17 rfl rfl)
theorem dJ10_fixAfterDeletion_210 : decode cJ10_fixAfterDeletion 210 = .ok (.iconst 0, 1) := dk_3 (dk_at dksJ10_fixAfterDeletion_8 20 rfl rfl)
theorem dJ10_fixAfterDeletion_211 : decode cJ10_fixAfterDeletion 211 = .ok (.invokestatic 307, 3) := dk_184 1 51 (dk_at dksJ10_fixAfterDeletion_8 21 rfl rfl)
theorem dJ10_fixAfterDeletion_214 : decode cJ10_fixAfterDeletion 214 = .ok (.aload_n 0, 1) := dk_42 (dk_at dksJ10_fixAfterDeletion_9 0 rfl rfl)
theorem dJ10_fixAfterDeletion_215 : decode cJ10_fixAfterDeletion 215 = .ok (.aload_n 1, 1) := dk_43 (dk_at dksJ10_fixAfterDeletion_9 1 rfl rfl)
theorem dJ10_fixAfterDeletion_216 : decode cJ10_fixAfterDeletion 216 = .ok (.invokestatic 294, 3) := dk_184 1 38 (dk_at dksJ10_fixAfterDeletion_9 2 rfl rfl)
theorem dJ10_fixAfterDeletion_219 : decode cJ10_fixAfterDeletion 219 = .ok (.invokevirtual 314, 3) := dk_182 1 58 (dk_at dksJ10_fixAfterDeletion_9 5 rfl rfl)
theorem dJ10_fixAfterDeletion_222 : decode cJ10_fixAfterDeletion 222 = .ok (.aload_n 1, 1) := dk_43 (dk_at dksJ10_fixAfterDeletion_9 8 rfl rfl)
theorem dJ10_fixAfterDeletion_223 : decode cJ10_fixAfterDeletion 223 = .ok (.invokestatic 294, 3) := dk_184 1 38 (dk_at dksJ10_fixAfterDeletion_9 9 rfl rfl)
theorem dJ10_fixAfterDeletion_226 : decode cJ10_fixAfterDeletion 226 = .ok (.invokestatic 297, 3) := dk_184 1 41 (dk_at dksJ10_fixAfterDeletion_9 12 rfl rfl)
theorem dJ10_fixAfterDeletion_229 : decode cJ10_fixAfterDeletion 229 = .ok (.astore_n 2, 1) := dk_77 (dk_at dksJ10_fixAfterDeletion_9 15 rfl rfl)
theorem dJ10_fixAfterDeletion_230 : decode cJ10_fixAfterDeletion 230 = .ok (.aload_n 2, 1) := dk_44 (dk_at dksJ10_fixAfterDeletion_9 16 rfl rfl)
theorem dJ10_fixAfterDeletion_231 : decode cJ10_fixAfterDeletion 231 = .ok (.invokestatic 300, 3) := dk_184 1 44 (dk_at dksJ10_fixAfterDeletion_9 17 rfl rfl)
theorem dJ10_fixAfterDeletion_234 : decode cJ10_fixAfterDeletion 234 = .ok (.invokestatic 303, 3) := dk_184 1 47 (dk_at dksJ10_fixAfterDeletion_9 20 rfl rfl)
theorem dJ10_fixAfterDeletion_237 : decode cJ10_fixAfterDeletion 237 = .ok (.iconst 1, 1) := dk_4 (dk_at dksJ10_fixAfterDeletion_9 23 rfl rfl)
theorem dJ10_fixAfterDeletion_238 : decode cJ10_fixAfterDeletion 238 = .ok (.if_icmp .ne 27, 3) := dk_160 0 27 (dk_at dksJ10_fixAfterDeletion_10 0 rfl rfl)
theorem dJ10_fixAfterDeletion_241 : decode cJ10_fixAfterDeletion 241 = .ok (.aload_n 2, 1) := dk_44 (dk_at dksJ10_fixAfterDeletion_10 3 rfl rfl)
theorem dJ10_fixAfterDeletion_242 : decode cJ10_fixAfterDeletion 242 = .ok (.invokestatic 297, 3) := dk_184 1 41 (dk_at dksJ10_fixAfterDeletion_10 4 rfl rfl)
theorem dJ10_fixAfterDeletion_245 : decode cJ10_fixAfterDeletion 245 = .ok (.invokestatic 303, 3) := dk_184 1 47 (dk_at dksJ10_fixAfterDeletion_10 7 rfl rfl)
theorem dJ10_fixAfterDeletion_248 : decode cJ10_fixAfterDeletion 248 = .ok (.iconst 1, 1) := dk_4 (dk_at dksJ10_fixAfterDeletion_10 10 rfl rfl)
theorem dJ10_fixAfterDeletion_249 : decode cJ10_fixAfterDeletion 249 = .ok (.if_icmp .ne 16, 3) := dk_160 0 16 (dk_at dksJ10_fixAfterDeletion_10 11 rfl rfl)
theorem dJ10_fixAfterDeletion_252 : decode cJ10_fixAfterDeletion 252 = .ok (.aload_n 2, 1) := dk_44 (dk_at dksJ10_fixAfterDeletion_10 14 rfl rfl)
theorem dJ10_fixAfterDeletion_253 : decode cJ10_fixAfterDeletion 253 = .ok (.iconst 0, 1) := dk_3 (dk_at dksJ10_fixAfterDeletion_10 15 rfl rfl)
theorem dJ10_fixAfterDeletion_254 : decode cJ10_fixAfterDeletion 254 = .ok (.invokestatic 307, 3) := dk_184 1 51 (dk_at dksJ10_fixAfterDeletion_10 16 rfl rfl)
theorem dJ10_fixAfterDeletion_257 : decode cJ10_fixAfterDeletion 257 = .ok (.aload_n 1, 1) := dk_43 (dk_at dksJ10_fixAfterDeletion_10 19 rfl rfl)
theorem dJ10_fixAfterDeletion_258 : decode cJ10_fixAfterDeletion 258 = .ok (.invokestatic 294, 3) := dk_184 1 38 (dk_at dksJ10_fixAfterDeletion_10 20 rfl rfl)
theorem dJ10_fixAfterDeletion_261 : decode cJ10_fixAfterDeletion 261 = .ok (.astore_n 1, 1) := dk_76 (dk_at dksJ10_fixAfterDeletion_10 23 rfl rfl)
theorem dJ10_fixAfterDeletion_262 : decode cJ10_fixAfterDeletion 262 = .ok (.goto 80, 3) := dk_167 0 80 (dk_at dksJ10_fixAfterDeletion_11 0 rfl rfl)
theorem dJ10_fixAfterDeletion_265 : decode cJ10_fixAfterDeletion 265 = .ok (.aload_n 2, 1) := dk_44 (dk_at dksJ10_fixAfterDeletion_11 3 rfl rfl)
theorem dJ10_fixAfterDeletion_266 : decode cJ10_fixAfterDeletion 266 = .ok (.invokestatic 297, 3) := dk_184 1 41 (dk_at dksJ10_fixAfterDeletion_11 4 rfl rfl)
theorem dJ10_fixAfterDeletion_269 : decode cJ10_fixAfterDeletion 269 = .ok (.invokestatic 303, 3) := dk_184 1 47 (dk_at dksJ10_fixAfterDeletion_11 7 rfl rfl)
theorem dJ10_fixAfterDeletion_272 : decode cJ10_fixAfterDeletion 272 = .ok (.iconst 1, 1) := dk_4 (dk_at dksJ10_fixAfterDeletion_11 10 rfl rfl)
theorem dJ10_fixAfterDeletion_273 : decode cJ10_fixAfterDeletion 273 = .ok (.if_icmp .ne 29, 3) := dk_160 0 29 (dk_at dksJ10_fixAfterDeletion_11 11 rfl rfl)
theorem dJ10_fixAfterDeletion_276 : decode cJ10_fixAfterDeletion 276 = .ok (.aload_n 2, 1) := dk_44 (dk_at dksJ10_fixAfterDeletion_11 14 rfl rfl)
theorem dJ10_fixAfterDeletion_277 : decode cJ10_fixAfterDeletion 277 = .ok (.invokestatic 300, 3) := dk_184 1 44 (dk_at dksJ10_fixAfterDeletion_11 15 rfl rfl)
theorem dJ10_fixAfterDeletion_280 : decode cJ10_fixAfterDeletion 280 = .ok (.iconst 1, 1) := dk_4 (dk_at dksJ10_fixAfterDeletion_11 18 rfl rfl)
theorem dJ10_fixAfterDeletion_281 : decode cJ10_fixAfterDeletion 281 = .ok (.invokestatic 307, 3) := dk_184 1 51 (dk_at dksJ10_fixAfterDeletion_11 19 rfl rfl)
theorem dJ10_fixAfterDeletion_284 : decode cJ10_fixAfterDeletion 284 = .ok (.aload_n 2, 1) := dk_44 (dk_at dksJ10_fixAfterDeletion_11 22 rfl rfl)
theorem dJ10_fixAfterDeletion_285 : decode cJ10_fixAfterDeletion 285 = .ok (.iconst 0, 1) := dk_3 (dk_at dksJ10_fixAfterDeletion_11 23 rfl rfl)
theorem dJ10_fixAfterDeletion_286 : decode cJ10_fixAfterDeletion 286 = .ok (.invokestatic 307, 3) := dk_184 1 51 (dk_at dksJ10_fixAfterDeletion_12 0 rfl rfl)
theorem dJ10_fixAfterDeletion_289 : decode cJ10_fixAfterDeletion 289 = .ok (.aload_n 0, 1) := dk_42 (dk_at dksJ10_fixAfterDeletion_12 3 rfl rfl)
theorem dJ10_fixAfterDeletion_290 : decode cJ10_fixAfterDeletion 290 = .ok (.aload_n 2, 1) := dk_44 (dk_at dksJ10_fixAfterDeletion_12 4 rfl rfl)
theorem dJ10_fixAfterDeletion_291 : decode cJ10_fixAfterDeletion 291 = .ok (.invokevirtual 311, 3) := dk_182 1 55 (dk_at dksJ10_fixAfterDeletion_12 5 rfl rfl)
theorem dJ10_fixAfterDeletion_294 : decode cJ10_fixAfterDeletion 294 = .ok (.aload_n 1, 1) := dk_43 (dk_at dksJ10_fixAfterDeletion_12 8 rfl rfl)
theorem dJ10_fixAfterDeletion_295 : decode cJ10_fixAfterDeletion 295 = .ok (.invokestatic 294, 3) := dk_184 1 38 (dk_at dksJ10_fixAfterDeletion_12 9 rfl rfl)
theorem dJ10_fixAfterDeletion_298 : decode cJ10_fixAfterDeletion 298 = .ok (.invokestatic 297, 3) := dk_184 1 41 (dk_at dksJ10_fixAfterDeletion_12 12 rfl rfl)
theorem dJ10_fixAfterDeletion_301 : decode cJ10_fixAfterDeletion 301 = .ok (.astore_n 2, 1) := dk_77 (dk_at dksJ10_fixAfterDeletion_12 15 rfl rfl)
theorem dJ10_fixAfterDeletion_302 : decode cJ10_fixAfterDeletion 302 = .ok (.aload_n 2, 1) := dk_44 (dk_at dksJ10_fixAfterDeletion_12 16 rfl rfl)
theorem dJ10_fixAfterDeletion_303 : decode cJ10_fixAfterDeletion 303 = .ok (.aload_n 1, 1) := dk_43 (dk_at dksJ10_fixAfterDeletion_12 17 rfl rfl)
theorem dJ10_fixAfterDeletion_304 : decode cJ10_fixAfterDeletion 304 = .ok (.invokestatic 294, 3) := dk_184 1 38 (dk_at dksJ10_fixAfterDeletion_12 18 rfl rfl)
theorem dJ10_fixAfterDeletion_307 : decode cJ10_fixAfterDeletion 307 = .ok (.invokestatic 303, 3) := dk_184 1 47 (dk_at dksJ10_fixAfterDeletion_12 21 rfl rfl)
theorem dJ10_fixAfterDeletion_310 : decode cJ10_fixAfterDeletion 310 = .ok (.invokestatic 307, 3) := dk_184 1 51 (dk_at dksJ10_fixAfterDeletion_13 0 rfl rfl)
theorem dJ10_fixAfterDeletion_313 : decode cJ10_fixAfterDeletion 313 = .ok (.aload_n 1, 1) := dk_43 (dk_at dksJ10_fixAfterDeletion_13 3 rfl rfl)
theorem dJ10_fixAfterDeletion_314 : decode cJ10_fixAfterDeletion 314 = .ok (.invokestatic 294, 3) := dk_184 1 38 (dk_at dksJ10_fixAfterDeletion_13 4 rfl rfl)
theorem dJ10_fixAfterDeletion_317 : decode cJ10_fixAfterDeletion 317 = .ok (.iconst 1, 1) := dk_4 (dk_at dksJ10_fixAfterDeletion_13 7 rfl rfl)
theorem dJ10_fixAfterDeletion_318 : decode cJ10_fixAfterDeletion 318 = .ok (.invokestatic 307, 3) := dk_184 1 51 (dk_at dksJ10_fixAfterDeletion_13 8 rfl rfl)
theorem dJ10_fixAfterDeletion_321 : decode cJ10_fixAfterDeletion 321 = .ok (.aload_n 2, 1) := dk_44 (dk_at dksJ10_fixAfterDeletion_13 11 rfl rfl)
theorem dJ10_fixAfterDeletion_322 : decode cJ10_fixAfterDeletion 322 = .ok (.invokestatic 297, 3) := dk_184 1 41 (dk_at dksJ10_fixAfterDeletion_13 12 rfl rfl)
theorem dJ10_fixAfterDeletion_325 : decode cJ10_fixAfterDeletion 325 = .ok (.iconst 1, 1) := dk_4 (dk_at dksJ10_fixAfterDeletion_13 15 rfl rfl)
theorem dJ10_fixAfterDeletion_326 : decode cJ10_fixAfterDeletion 326 = .ok (.invokestatic 307, 3) := dk_184 1 51 (dk_at dksJ10_fixAfterDeletion_13 16 rfl rfl)
theorem dJ10_fixAfterDeletion_329 : decode cJ10_fixAfterDeletion 329 = .ok (.aload_n 0, 1) := dk_42 (dk_at dksJ10_fixAfterDeletion_13 19 rfl rfl)
theorem dJ10_fixAfterDeletion_330 : decode cJ10_fixAfterDeletion 330 = .ok (.aload_n 1, 1) := dk_43 (dk_at dksJ10_fixAfterDeletion_13 20 rfl rfl)
theorem dJ10_fixAfterDeletion_331 : decode cJ10_fixAfterDeletion 331 = .ok (.invokestatic 294, 3) := dk_184 1 38 (dk_at dksJ10_fixAfterDeletion_13 21 rfl rfl)
theorem dJ10_fixAfterDeletion_334 : decode cJ10_fixAfterDeletion 334 = .ok (.invokevirtual 314, 3) := dk_182 1 58 (dk_at dksJ10_fixAfterDeletion_14 0 rfl rfl)
theorem dJ10_fixAfterDeletion_337 : decode cJ10_fixAfterDeletion 337 = .ok (.aload_n 0, 1) := dk_42 (dk_at dksJ10_fixAfterDeletion_14 3 rfl rfl)
theorem dJ10_fixAfterDeletion_338 : decode cJ10_fixAfterDeletion 338 = .ok (.getfield 101, 3) := dk_180 0 101 (dk_at dksJ10_fixAfterDeletion_14 4 rfl rfl)
theorem dJ10_fixAfterDeletion_341 : decode cJ10_fixAfterDeletion 341 = .ok (.astore_n 1, 1) := dk_76 (dk_at dksJ10_fixAfterDeletion_14 7 rfl rfl)
theorem dJ10_fixAfterDeletion_342 : decode cJ10_fixAfterDeletion 342 = .ok (.goto (-342), 3) := dk_167 254 170 (dk_at dksJ10_fixAfterDeletion_14 8 rfl rfl)
theorem dJ10_fixAfterDeletion_345 : decode cJ10_fixAfterDeletion 345 = .ok (.aload_n 1, 1) := dk_43 (dk_at dksJ10_fixAfterDeletion_14 11 rfl rfl)
theorem dJ10_fixAfterDeletion_346 : decode cJ10_fixAfterDeletion 346 = .ok (.iconst 1, 1) := dk_4 (dk_at dksJ10_fixAfterDeletion_14 12 rfl rfl)
theorem dJ10_fixAfterDeletion_347 : decode cJ10_fixAfterDeletion 347 = .ok (.invokestatic 307, 3) := dk_184 1 51 (dk_at dksJ10_fixAfterDeletion_14 13 rfl rfl)
theorem dJ10_fixAfterDeletion_350 : decode cJ10_fixAfterDeletion 350 = .ok (.return_, 1) := dk_177 (dk_at dksJ10_fixAfterDeletion_14 16 rfl rfl)
def dkwJ41_init_1 : List UInt8 := [177]
abbrev dktJ41_init_1 : List UInt8 := dkwJ41_init_1 ++ []
def dkwJ41_init_0 : List UInt8 := [42, 183, 0, 3, 42, 4, 181, 0, 9, 42, 43, 181, 0, 15, 42, 44, 181, 0, 19, 42, 45, 181, 0, 22]
abbrev dktJ41_init_0 : List UInt8 := dkwJ41_init_0 ++ dktJ41_init_1
theorem dksJ41_init_0 : cJ41_init.data.toList.drop 0 = dktJ41_init_0 := by decide +kernel
theorem dksJ41_init_1 : cJ41_init.data.toList.drop 24 = dktJ41_init_1 := dk_seg dksJ41_init_0 24 rfl rfl
theorem dJ41_init_0 : decode cJ41_init 0 = .ok (.aload_n 0, 1) := dk_42 (dk_at dksJ41_init_0 0 rfl rfl)
theorem dJ41_init_1 : decode cJ41_init 1 = .ok (.invokespecial 3, 3) := dk_183 0 3 (dk_at dksJ41_init_0 1 rfl rfl)
theorem dJ41_init_4 : decode cJ41_init 4 = .ok (.aload_n 0, 1) := dk_42 (dk_at dksJ41_init_0 4 rfl rfl)
theorem dJ41_init_5 : decode cJ41_init 5 = .ok (.iconst 1, 1) := dk_4 (dk_at dksJ41_init_0 5 rfl rfl)
theorem dJ41_init_6 : decode cJ41_init 6 = .ok (.putfield 9, 3) := dk_181 0 9 (dk_at dksJ41_init_0 6 rfl rfl)
theorem dJ41_init_9 : decode cJ41_init 9 = .ok (.aload_n 0, 1) := dk_42 (dk_at dksJ41_init_0 9 rfl rfl)
theorem dJ41_init_10 : decode cJ41_init 10 = .ok (.aload_n 1, 1) := dk_43 (dk_at dksJ41_init_0 10 rfl rfl)
theorem dJ41_init_11 : decode cJ41_init 11 = .ok (.putfield 15, 3) := dk_181 0 15 (dk_at dksJ41_init_0 11 rfl rfl)
theorem dJ41_init_14 : decode cJ41_init 14 = .ok (.aload_n 0, 1) := dk_42 (dk_at dksJ41_init_0 14 rfl rfl)
theorem dJ41_init_15 : decode cJ41_init 15 = .ok (.aload_n 2, 1) := dk_44 (dk_at dksJ41_init_0 15 rfl rfl)
theorem dJ41_init_16 : decode cJ41_init 16 = .ok (.putfield 19, 3) := dk_181 0 19 (dk_at dksJ41_init_0 16 rfl rfl)
theorem dJ41_init_19 : decode cJ41_init 19 = .ok (.aload_n 0, 1) := dk_42 (dk_at dksJ41_init_0 19 rfl rfl)
theorem dJ41_init_20 : decode cJ41_init 20 = .ok (.aload_n 3, 1) := dk_45 (dk_at dksJ41_init_0 20 rfl rfl)
theorem dJ41_init_21 : decode cJ41_init 21 = .ok (.putfield 22, 3) := dk_181 0 22 (dk_at dksJ41_init_0 21 rfl rfl)
theorem dJ41_init_24 : decode cJ41_init 24 = .ok (.return_, 1) := dk_177 (dk_at dksJ41_init_1 0 rfl rfl)
theorem nd_J41_init : yJ41_init.cls ≠ "java/lang/invoke/MethodHandle" ∧ yJ41_init.cls ≠ "java/lang/invoke/VarHandle" ∧ (parseMethodDescriptor yJ41_init.desc).map (fun d => d.parameters.length) = some 3 := by decide +kernel
set_option maxRecDepth 100000 in
set_option maxHeartbeats 16000000 in
theorem ct_J41_init {g : GG} {l : Launch} (q : Nat) (k : Nat) (v : Nat) (o : Option Nat)  : Ct g l yJ41_init (ws_ yJ41_init cJ41_init 4 (Option.none : Option Jvm.ClassFile.FieldType)) 1 12 0 0 [.ref q, .ref k, .ref v, va_rf o] [ob g q 20 [.null, .null, .null, .null, .null, .int (jI 0)]] (fun v9 Ws9 => v9 = none ∧ Ws9 = [ob g q 20 [.ref k, .ref v, .null, .null, va_rf o, .int (jI 1)]]) (nox) := by
  refine Ct.of (cc := cJ41_init) (nL := 4) (ret := (Option.none : Option Jvm.ClassFile.FieldType)) (by decide) rfl (by cases o <;> exact Nat.le_of_ble_eq_true rfl) ?_
  intro x hg hl hPo hPx hmc hms F
  subst hg; subst hl
  refine SW.cast (L' := [(0, .ref q), (1, .ref k), (2, .ref v), (3, va_rf o)]) ?_ rfl (by cases o <;> rfl) rfl
  refine sw_aload_n (n := 1) F 0 (some q) rfl rfl rfl dJ41_init_0 rfl ?_
  refine sw_objInit (n := 4) F q3143 q_oi q_oc (by decide) dJ41_init_1 rfl ?_
  refine sw_aload_n (n := 5) F 0 (some q) rfl rfl rfl dJ41_init_4 rfl ?_
  refine sw_iconst (n := 6) F (1) (by decide) dJ41_init_5 rfl ?_
  refine sw_put (n := 9) F 0 rfl (k := 5) ⟨(RJ41, TJ41, 6), rfl, by decide, q3153, in_J41, Or.inl rfl⟩ .boolean ⟨(RJ41, TJ41, 6), rfl, rfl, tyJ41_ok 5 (by decide), nmJ41, tyJ41, tyJ41_ok⟩ (jI_nz (by first | decide | omega)) (jI_fz (by first | decide | omega)) (Nat.le_of_ble_eq_true rfl) rfl [ob (xg x) q 20 [.null, .null, .null, .null, .null, .int (jI 1)]] rfl dJ41_init_6 rfl ?_
  refine sw_aload_n (n := 10) F 0 (some q) rfl rfl rfl dJ41_init_9 rfl ?_
  refine sw_aload_n (n := 11) F 1 (some k) rfl rfl rfl dJ41_init_10 rfl ?_
  refine sw_put (n := 14) F 0 rfl (k := 0) ⟨(RJ41, TJ41, 6), rfl, by decide, q3144, in_J41, Or.inl rfl⟩ (tyJ41 0) ⟨(RJ41, TJ41, 6), rfl, rfl, tyJ41_ok 0 (by decide), nmJ41, tyJ41, tyJ41_ok⟩ rfl rfl (Nat.le_of_ble_eq_true rfl) rfl [ob (xg x) q 20 [.ref k, .null, .null, .null, .null, .int (jI 1)]] rfl dJ41_init_11 rfl ?_
  refine sw_aload_n (n := 15) F 0 (some q) rfl rfl rfl dJ41_init_14 rfl ?_
  refine sw_aload_n (n := 16) F 2 (some v) rfl rfl rfl dJ41_init_15 rfl ?_
  refine sw_put (n := 19) F 0 rfl (k := 1) ⟨(RJ41, TJ41, 6), rfl, by decide, q3146, in_J41, Or.inl rfl⟩ (tyJ41 1) ⟨(RJ41, TJ41, 6), rfl, rfl, tyJ41_ok 1 (by decide), nmJ41, tyJ41, tyJ41_ok⟩ rfl rfl (Nat.le_of_ble_eq_true rfl) rfl [ob (xg x) q 20 [.ref k, .ref v, .null, .null, .null, .int (jI 1)]] rfl dJ41_init_16 rfl ?_
  refine sw_aload_n (n := 20) F 0 (some q) rfl rfl rfl dJ41_init_19 rfl ?_
  refine sw_aload_n (n := 21) F 3 o rfl rfl rfl dJ41_init_20 rfl ?_
  refine sw_put (n := 24) F 0 rfl (k := 4) ⟨(RJ41, TJ41, 6), rfl, by decide, q3151, in_J41, Or.inl rfl⟩ (tyJ41 4) ⟨(RJ41, TJ41, 6), rfl, rfl, tyJ41_ok 4 (by decide), nmJ41, tyJ41, tyJ41_ok⟩ (va_rf_nar _ (by decide)) (va_rf_fit _ (by decide)) (Nat.le_of_ble_eq_true rfl) rfl [ob (xg x) q 20 [.ref k, .ref v, .null, .null, va_rf o, .int (jI 1)]] rfl dJ41_init_21 rfl ?_
  exact sw_vret F rfl dJ41_init_24 (by rw [hPo]; exact ⟨rfl, rfl⟩)
theorem nd_J10_colorOf : yJ10_colorOf.cls ≠ "java/lang/invoke/MethodHandle" ∧ yJ10_colorOf.cls ≠ "java/lang/invoke/VarHandle" ∧ (parseMethodDescriptor yJ10_colorOf.desc).map (fun d => d.parameters.length) = some 1 := by decide +kernel
set_option maxRecDepth 100000 in
set_option maxHeartbeats 16000000 in
theorem ct_J10_colorOf {g : GG} {l : Launch} (Ks : List Nat) (ka : Nat → Nat) (va : Nat → Nat) (L : OP) (R : OP) (P : OP) (cl : Nat → Int) (o : Option Nat) (ho : ∀ x9, o = some x9 → x9 ∈ Ks) (hcb : ∀ t, cl t = 0 ∨ cl t = 1) : Ct g l yJ10_colorOf (ws_ yJ10_colorOf cJ10_colorOf 1 (Option.some Jvm.ClassFile.FieldType.boolean)) 1 12 0 0 [va_rf o] [nd g Ks ka va L R P cl] (fun v9 Ws9 => v9 = some (.int (jI (clO cl o))) ∧ Ws9 = [nd g Ks ka va L R P cl]) (nox) := by
  refine Ct.of (cc := cJ10_colorOf) (nL := 1) (ret := (Option.some Jvm.ClassFile.FieldType.boolean)) (by decide) rfl (by cases o <;> exact Nat.le_of_ble_eq_true rfl) ?_
  intro x hg hl hPo hPx hmc hms F
  subst hg; subst hl
  refine SW.cast (L' := [(0, va_rf o)]) ?_ rfl (by cases o <;> rfl) rfl
  refine sw_aload_n (n := 1) F 0 o rfl rfl rfl dJ10_colorOf_0 rfl ?_
  refine sw_ifnonnull (n := 4) F (o := o) rfl (tgt := 8) dJ10_colorOf_1 (by decide) rfl (fun q_1 c_1 => ?_) (fun c_1 => ?_)
  ·
    refine SW.cast (Ps' := _) (L' := [(0, .ref q_1)]) (st' := []) ?_ rfl (by rw [c_1]; rfl) (by first | rfl | rw [c_1]; rfl)
    have hm : q_1 ∈ Ks := ho _ c_1
    refine sw_aload_n (n := 9) F 0 (some q_1) rfl rfl rfl dJ10_colorOf_8 rfl ?_
    refine sw_getK (n := 12) F (nd_hO 0 rfl hm) (k := 5) ⟨(RJ41, TJ41, 6), rfl, by decide, q3154, in_J41, Or.inl rfl⟩ (v := .int (jI (cl q_1))) rfl dJ10_colorOf_9 rfl ?_
    exact sw_iret F _ rfl (by first | rfl | exact jI_nz (hcb _)) dJ10_colorOf_12 (by rw [hPo]; exact ⟨(by rw [c_1]; rfl), rfl⟩)
  ·
    refine SW.cast (Ps' := _) (L' := [(0, .null)]) (st' := []) ?_ rfl (by rw [c_1]; rfl) (by first | rfl | rw [c_1]; rfl)
    refine sw_iconst (n := 5) F (1) (by decide) dJ10_colorOf_4 rfl ?_
    refine sw_goto F (n := 12) dJ10_colorOf_5 (by decide) ?_
    exact sw_iret F _ rfl (by first | rfl | exact jI_nz (hcb _)) dJ10_colorOf_12 (by rw [hPo]; exact ⟨(by rw [c_1]; rfl), rfl⟩)
theorem nd_J10_parentOf : yJ10_parentOf.cls ≠ "java/lang/invoke/MethodHandle" ∧ yJ10_parentOf.cls ≠ "java/lang/invoke/VarHandle" ∧ (parseMethodDescriptor yJ10_parentOf.desc).map (fun d => d.parameters.length) = some 1 := by decide +kernel
set_option maxRecDepth 100000 in
set_option maxHeartbeats 16000000 in
theorem ct_J10_parentOf {g : GG} {l : Launch} (Ks : List Nat) (ka : Nat → Nat) (va : Nat → Nat) (L : OP) (R : OP) (P : OP) (cl : Nat → Int) (o : Option Nat) (ho : ∀ x9, o = some x9 → x9 ∈ Ks) : Ct g l yJ10_parentOf (ws_ yJ10_parentOf cJ10_parentOf 1 (Option.some (Jvm.ClassFile.FieldType.object "java/util/TreeMap$Entry"))) 1 12 0 0 [va_rf o] [nd g Ks ka va L R P cl] (fun v9 Ws9 => v9 = some (va_rf (o.bind P)) ∧ Ws9 = [nd g Ks ka va L R P cl]) (nox) := by
  refine Ct.of (cc := cJ10_parentOf) (nL := 1) (ret := (Option.some (Jvm.ClassFile.FieldType.object "java/util/TreeMap$Entry"))) (by decide) rfl (by cases o <;> exact Nat.le_of_ble_eq_true rfl) ?_
  intro x hg hl hPo hPx hmc hms F
  subst hg; subst hl
  refine SW.cast (L' := [(0, va_rf o)]) ?_ rfl (by cases o <;> rfl) rfl
  refine sw_aload_n (n := 1) F 0 o rfl rfl rfl dJ10_parentOf_0 rfl ?_
  refine sw_ifnonnull (n := 4) F (o := o) rfl (tgt := 8) dJ10_parentOf_1 (by decide) rfl (fun q_1 c_1 => ?_) (fun c_1 => ?_)
  ·
    refine SW.cast (Ps' := _) (L' := [(0, .ref q_1)]) (st' := []) ?_ rfl (by rw [c_1]; rfl) (by first | rfl | rw [c_1]; rfl)
    have hm : q_1 ∈ Ks := ho _ c_1
    refine sw_aload_n (n := 9) F 0 (some q_1) rfl rfl rfl dJ10_parentOf_8 rfl ?_
    refine sw_getK (n := 12) F (nd_hO 0 rfl hm) (k := 4) ⟨(RJ41, TJ41, 6), rfl, by decide, q3152, in_J41, Or.inl rfl⟩ (v := va_rf (P q_1)) rfl dJ10_parentOf_9 rfl ?_
    exact sw_aret F (P q_1) _ rfl rfl (by first | exact Or.inl ⟨_, rfl⟩ | exact Or.inr ⟨_, rfl⟩) dJ10_parentOf_12 (by rw [hPo]; exact ⟨(by rw [c_1]; rfl), rfl⟩)
  ·
    refine SW.cast (Ps' := _) (L' := [(0, .null)]) (st' := []) ?_ rfl (by rw [c_1]; rfl) (by first | rfl | rw [c_1]; rfl)
    refine sw_null (n := 5) F dJ10_parentOf_4 rfl ?_
    refine sw_goto F (n := 12) dJ10_parentOf_5 (by decide) ?_
    exact sw_aret F none _ rfl rfl (by first | exact Or.inl ⟨_, rfl⟩ | exact Or.inr ⟨_, rfl⟩) dJ10_parentOf_12 (by rw [hPo]; exact ⟨(by rw [c_1]; rfl), rfl⟩)
theorem nd_J10_leftOf : yJ10_leftOf.cls ≠ "java/lang/invoke/MethodHandle" ∧ yJ10_leftOf.cls ≠ "java/lang/invoke/VarHandle" ∧ (parseMethodDescriptor yJ10_leftOf.desc).map (fun d => d.parameters.length) = some 1 := by decide +kernel
set_option maxRecDepth 100000 in
set_option maxHeartbeats 16000000 in
theorem ct_J10_leftOf {g : GG} {l : Launch} (Ks : List Nat) (ka : Nat → Nat) (va : Nat → Nat) (L : OP) (R : OP) (P : OP) (cl : Nat → Int) (o : Option Nat) (ho : ∀ x9, o = some x9 → x9 ∈ Ks) : Ct g l yJ10_leftOf (ws_ yJ10_leftOf cJ10_leftOf 1 (Option.some (Jvm.ClassFile.FieldType.object "java/util/TreeMap$Entry"))) 1 12 0 0 [va_rf o] [nd g Ks ka va L R P cl] (fun v9 Ws9 => v9 = some (va_rf (o.bind L)) ∧ Ws9 = [nd g Ks ka va L R P cl]) (nox) := by
  refine Ct.of (cc := cJ10_leftOf) (nL := 1) (ret := (Option.some (Jvm.ClassFile.FieldType.object "java/util/TreeMap$Entry"))) (by decide) rfl (by cases o <;> exact Nat.le_of_ble_eq_true rfl) ?_
  intro x hg hl hPo hPx hmc hms F
  subst hg; subst hl
  refine SW.cast (L' := [(0, va_rf o)]) ?_ rfl (by cases o <;> rfl) rfl
  refine sw_aload_n (n := 1) F 0 o rfl rfl rfl dJ10_leftOf_0 rfl ?_
  refine sw_ifnonnull (n := 4) F (o := o) rfl (tgt := 8) dJ10_leftOf_1 (by decide) rfl (fun q_1 c_1 => ?_) (fun c_1 => ?_)
  ·
    refine SW.cast (Ps' := _) (L' := [(0, .ref q_1)]) (st' := []) ?_ rfl (by rw [c_1]; rfl) (by first | rfl | rw [c_1]; rfl)
    have hm : q_1 ∈ Ks := ho _ c_1
    refine sw_aload_n (n := 9) F 0 (some q_1) rfl rfl rfl dJ10_leftOf_8 rfl ?_
    refine sw_getK (n := 12) F (nd_hO 0 rfl hm) (k := 2) ⟨(RJ41, TJ41, 6), rfl, by decide, q3149, in_J41, Or.inl rfl⟩ (v := va_rf (L q_1)) rfl dJ10_leftOf_9 rfl ?_
    exact sw_aret F (L q_1) _ rfl rfl (by first | exact Or.inl ⟨_, rfl⟩ | exact Or.inr ⟨_, rfl⟩) dJ10_leftOf_12 (by rw [hPo]; exact ⟨(by rw [c_1]; rfl), rfl⟩)
  ·
    refine SW.cast (Ps' := _) (L' := [(0, .null)]) (st' := []) ?_ rfl (by rw [c_1]; rfl) (by first | rfl | rw [c_1]; rfl)
    refine sw_null (n := 5) F dJ10_leftOf_4 rfl ?_
    refine sw_goto F (n := 12) dJ10_leftOf_5 (by decide) ?_
    exact sw_aret F none _ rfl rfl (by first | exact Or.inl ⟨_, rfl⟩ | exact Or.inr ⟨_, rfl⟩) dJ10_leftOf_12 (by rw [hPo]; exact ⟨(by rw [c_1]; rfl), rfl⟩)
theorem nd_J10_rightOf : yJ10_rightOf.cls ≠ "java/lang/invoke/MethodHandle" ∧ yJ10_rightOf.cls ≠ "java/lang/invoke/VarHandle" ∧ (parseMethodDescriptor yJ10_rightOf.desc).map (fun d => d.parameters.length) = some 1 := by decide +kernel
set_option maxRecDepth 100000 in
set_option maxHeartbeats 16000000 in
theorem ct_J10_rightOf {g : GG} {l : Launch} (Ks : List Nat) (ka : Nat → Nat) (va : Nat → Nat) (L : OP) (R : OP) (P : OP) (cl : Nat → Int) (o : Option Nat) (ho : ∀ x9, o = some x9 → x9 ∈ Ks) : Ct g l yJ10_rightOf (ws_ yJ10_rightOf cJ10_rightOf 1 (Option.some (Jvm.ClassFile.FieldType.object "java/util/TreeMap$Entry"))) 1 12 0 0 [va_rf o] [nd g Ks ka va L R P cl] (fun v9 Ws9 => v9 = some (va_rf (o.bind R)) ∧ Ws9 = [nd g Ks ka va L R P cl]) (nox) := by
  refine Ct.of (cc := cJ10_rightOf) (nL := 1) (ret := (Option.some (Jvm.ClassFile.FieldType.object "java/util/TreeMap$Entry"))) (by decide) rfl (by cases o <;> exact Nat.le_of_ble_eq_true rfl) ?_
  intro x hg hl hPo hPx hmc hms F
  subst hg; subst hl
  refine SW.cast (L' := [(0, va_rf o)]) ?_ rfl (by cases o <;> rfl) rfl
  refine sw_aload_n (n := 1) F 0 o rfl rfl rfl dJ10_rightOf_0 rfl ?_
  refine sw_ifnonnull (n := 4) F (o := o) rfl (tgt := 8) dJ10_rightOf_1 (by decide) rfl (fun q_1 c_1 => ?_) (fun c_1 => ?_)
  ·
    refine SW.cast (Ps' := _) (L' := [(0, .ref q_1)]) (st' := []) ?_ rfl (by rw [c_1]; rfl) (by first | rfl | rw [c_1]; rfl)
    have hm : q_1 ∈ Ks := ho _ c_1
    refine sw_aload_n (n := 9) F 0 (some q_1) rfl rfl rfl dJ10_rightOf_8 rfl ?_
    refine sw_getK (n := 12) F (nd_hO 0 rfl hm) (k := 3) ⟨(RJ41, TJ41, 6), rfl, by decide, q3150, in_J41, Or.inl rfl⟩ (v := va_rf (R q_1)) rfl dJ10_rightOf_9 rfl ?_
    exact sw_aret F (R q_1) _ rfl rfl (by first | exact Or.inl ⟨_, rfl⟩ | exact Or.inr ⟨_, rfl⟩) dJ10_rightOf_12 (by rw [hPo]; exact ⟨(by rw [c_1]; rfl), rfl⟩)
  ·
    refine SW.cast (Ps' := _) (L' := [(0, .null)]) (st' := []) ?_ rfl (by rw [c_1]; rfl) (by first | rfl | rw [c_1]; rfl)
    refine sw_null (n := 5) F dJ10_rightOf_4 rfl ?_
    refine sw_goto F (n := 12) dJ10_rightOf_5 (by decide) ?_
    exact sw_aret F none _ rfl rfl (by first | exact Or.inl ⟨_, rfl⟩ | exact Or.inr ⟨_, rfl⟩) dJ10_rightOf_12 (by rw [hPo]; exact ⟨(by rw [c_1]; rfl), rfl⟩)
theorem nd_J10_setColor : yJ10_setColor.cls ≠ "java/lang/invoke/MethodHandle" ∧ yJ10_setColor.cls ≠ "java/lang/invoke/VarHandle" ∧ (parseMethodDescriptor yJ10_setColor.desc).map (fun d => d.parameters.length) = some 2 := by decide +kernel
set_option maxRecDepth 100000 in
set_option maxHeartbeats 16000000 in
theorem ct_J10_setColor {g : GG} {l : Launch} (Ks : List Nat) (ka : Nat → Nat) (va : Nat → Nat) (L : OP) (R : OP) (P : OP) (cl : Nat → Int) (nx : Nat) (c : Int) (hx : nx ∈ Ks) (hc : c = 0 ∨ c = 1) : Ct g l yJ10_setColor (ws_ yJ10_setColor cJ10_setColor 2 (Option.none : Option Jvm.ClassFile.FieldType)) 1 12 0 0 [.ref nx, .int (jI c)] [nd g Ks ka va L R P cl] (fun v9 Ws9 => v9 = none ∧ Ws9 = [nd g Ks ka va L R P (va_up cl nx c)]) (nox) := by
  refine Ct.of (cc := cJ10_setColor) (nL := 2) (ret := (Option.none : Option Jvm.ClassFile.FieldType)) (by decide) rfl (Nat.le_of_ble_eq_true rfl) ?_
  intro x hg hl hPo hPx hmc hms F
  subst hg; subst hl
  refine SW.cast (L' := [(0, .ref nx), (1, .int (jI c))]) ?_ rfl rfl rfl
  refine sw_aload_n (n := 1) F 0 (some nx) rfl rfl rfl dJ10_setColor_0 rfl ?_
  refine sw_ifnull (n := 4) F (o := (some nx)) rfl (tgt := 9) dJ10_setColor_1 (by decide) rfl (fun c_1 => ?_) (fun _ _ => ?_)
  · cases c_1
  ·
    refine sw_aload_n (n := 5) F 0 (some nx) rfl rfl rfl dJ10_setColor_4 rfl ?_
    refine sw_iload_n (n := 6) F 1 rfl rfl dJ10_setColor_5 rfl ?_
    refine sw_ndput (ka' := ka) (va' := va) (L' := L) (R' := R) (P' := P) (cl' := (va_up cl nx c)) F hx (k := 5) ⟨(RJ41, TJ41, 6), rfl, by decide, q3154, in_J41, Or.inl rfl⟩ .boolean ⟨(RJ41, TJ41, 6), rfl, rfl, tyJ41_ok 5 (by decide), nmJ41, tyJ41, tyJ41_ok⟩ (jI_nz (by first | decide | omega)) (jI_fz (by first | decide | omega)) (by decide) (by simp [flN, va_up, va_rf]) (fun t9 h9 => by simp [flN, va_up, h9]) dJ10_setColor_6 rfl ?_
    show SW x [nd (xg x) Ks ka va L R P (va_up cl nx c)] _ _ _ _ _
    exact sw_vret F rfl dJ10_setColor_9 (by rw [hPo]; exact ⟨rfl, rfl⟩)
set_option maxRecDepth 100000 in
set_option maxHeartbeats 16000000 in
theorem ct_J10_setColor_o {g : GG} {l : Launch} (Ks : List Nat) (ka : Nat → Nat) (va : Nat → Nat) (L : OP) (R : OP) (P : OP) (cl : Nat → Int) (o : Option Nat) (c : Int) (ho : ∀ x9, o = some x9 → x9 ∈ Ks) (hc : c = 0 ∨ c = 1) : Ct g l yJ10_setColor (ws_ yJ10_setColor cJ10_setColor 2 (Option.none : Option Jvm.ClassFile.FieldType)) 1 12 0 0 [va_rf o, .int (jI c)] [nd g Ks ka va L R P cl] (fun v9 Ws9 => v9 = none ∧ Ws9 = [nd g Ks ka va L R P (cuO cl o c)]) (nox) := by
  refine Ct.of (cc := cJ10_setColor) (nL := 2) (ret := (Option.none : Option Jvm.ClassFile.FieldType)) (by decide) rfl (by cases o <;> exact Nat.le_of_ble_eq_true rfl) ?_
  intro x hg hl hPo hPx hmc hms F
  subst hg; subst hl
  refine SW.cast (L' := [(0, va_rf o), (1, .int (jI c))]) ?_ rfl (by cases o <;> rfl) rfl
  refine sw_aload_n (n := 1) F 0 o rfl rfl rfl dJ10_setColor_0 rfl ?_
  refine sw_ifnull (n := 4) F (o := o) rfl (tgt := 9) dJ10_setColor_1 (by decide) rfl (fun c_1 => ?_) (fun q_1 c_1 => ?_)
  ·
    refine SW.cast (Ps' := _) (L' := [(0, .null), (1, .int (jI c))]) (st' := []) ?_ rfl (by rw [c_1]; rfl) (by first | rfl | rw [c_1]; rfl)
    exact sw_vret F rfl dJ10_setColor_9 (by rw [hPo]; exact ⟨rfl, (by first | (rw [c_1]; rfl) | (congr 2; funext t9; simp [cuO, va_up, c_1, eq_comm]))⟩)
  ·
    refine SW.cast (Ps' := _) (L' := [(0, .ref q_1), (1, .int (jI c))]) (st' := []) ?_ rfl (by rw [c_1]; rfl) (by first | rfl | rw [c_1]; rfl)
    have hm : q_1 ∈ Ks := ho _ c_1
    refine sw_aload_n (n := 5) F 0 (some q_1) rfl rfl rfl dJ10_setColor_4 rfl ?_
    refine sw_iload_n (n := 6) F 1 rfl rfl dJ10_setColor_5 rfl ?_
    refine sw_ndput (ka' := ka) (va' := va) (L' := L) (R' := R) (P' := P) (cl' := (va_up cl q_1 c)) F hm (k := 5) ⟨(RJ41, TJ41, 6), rfl, by decide, q3154, in_J41, Or.inl rfl⟩ .boolean ⟨(RJ41, TJ41, 6), rfl, rfl, tyJ41_ok 5 (by decide), nmJ41, tyJ41, tyJ41_ok⟩ (jI_nz (by first | decide | omega)) (jI_fz (by first | decide | omega)) (by decide) (by simp [flN, va_up, va_rf]) (fun t9 h9 => by simp [flN, va_up, h9]) dJ10_setColor_6 rfl ?_
    show SW x [nd (xg x) Ks ka va L R P (va_up cl q_1 c)] _ _ _ _ _
    exact sw_vret F rfl dJ10_setColor_9 (by rw [hPo]; exact ⟨rfl, (by first | (rw [c_1]; rfl) | (congr 2; funext t9; simp [cuO, va_up, c_1, eq_comm]))⟩)
theorem nd_J10_rotateLeft : yJ10_rotateLeft.cls ≠ "java/lang/invoke/MethodHandle" ∧ yJ10_rotateLeft.cls ≠ "java/lang/invoke/VarHandle" ∧ (parseMethodDescriptor yJ10_rotateLeft.desc).map (fun d => d.parameters.length) = some 1 := by decide +kernel
set_option maxRecDepth 100000 in
set_option maxHeartbeats 16000000 in
theorem ct_J10_rotateLeft {g : GG} {l : Launch} (Ks : List Nat) (ka : Nat → Nat) (va : Nat → Nat) (L : OP) (R : OP) (P : OP) (cl : Nat → Int) (q : Nat) (vs : Option Nat) (rt : Option Nat) (sz : Int) (mc : Int) (rk : Nat → Int) (lo : Nat → Int) (hi : Nat → Int) (nx : Nat) (r : Nat) (hT : TrI Ks L R P rk lo hi rt) (hx : nx ∈ Ks) (hr : R nx = some r) : Ct g l yJ10_rotateLeft (ws_ yJ10_rotateLeft cJ10_rotateLeft 3 (Option.none : Option Jvm.ClassFile.FieldType)) 1 12 0 0 [.ref q, .ref nx] [ob g q 14 [.null, va_rf vs, .null, va_rf rt, .int (jI sz), .int (jI mc), .null, .null, .null], nd g Ks ka va L R P cl] (fun v9 Ws9 => ∃ L1 : OP, ∃ R1 : OP, ∃ P1 : OP, ∃ rt1 : Option Nat, ∃ lo1 : Nat → Int, ∃ hi1 : Nat → Int, v9 = none ∧ (RotL L R P rt nx r L1 R1 P1 rt1) ∧ (TrI Ks L1 R1 P1 rk lo1 hi1 rt1) ∧ (∀ t, lo1 t = if t = r then lo nx else lo t) ∧ (∀ t, hi1 t = if t = nx then rk r else hi t) ∧ Ws9 = [ob g q 14 [.null, va_rf vs, .null, va_rf rt1, .int (jI sz), .int (jI mc), .null, .null, .null], nd g Ks ka va L1 R1 P1 cl]) (nox) := by
  refine Ct.of (cc := cJ10_rotateLeft) (nL := 3) (ret := (Option.none : Option Jvm.ClassFile.FieldType)) (by decide) rfl (Nat.le_of_ble_eq_true rfl) ?_
  intro x hg hl hPo hPx hmc hms F
  subst hg; subst hl
  refine SW.cast (L' := [(0, .ref q), (1, .ref nx)]) ?_ rfl rfl rfl
  have hrK : r ∈ Ks := (hT.r hx hr).1
  have hxr : nx ≠ r := hT.neR hx hr
  refine sw_aload_n (n := 1) F 1 (some nx) rfl rfl rfl dJ10_rotateLeft_0 rfl ?_
  refine sw_ifnull (n := 4) F (o := (some nx)) rfl (tgt := 95) dJ10_rotateLeft_1 (by decide) rfl (fun c_1 => ?_) (fun _ _ => ?_)
  · cases c_1
  ·
    refine sw_aload_n (n := 5) F 1 (some nx) rfl rfl rfl dJ10_rotateLeft_4 rfl ?_
    refine sw_getK (n := 8) F (nd_hO 1 rfl hx) (k := 3) ⟨(RJ41, TJ41, 6), rfl, by decide, q3150, in_J41, Or.inl rfl⟩ (v := .ref r) (congrArg (fun o9 => some (va_rf o9)) hr) dJ10_rotateLeft_5 rfl ?_
    refine sw_astore_n (n := 9) F (some r) (L2 := [(2, .ref r), (0, .ref q), (1, .ref nx)]) rfl rfl (by decide) rfl dJ10_rotateLeft_8 rfl ?_
    refine sw_aload_n (n := 10) F 2 (some nx) rfl rfl rfl dJ10_rotateLeft_9 rfl ?_
    refine sw_aload_n (n := 11) F 0 (some r) rfl rfl rfl dJ10_rotateLeft_10 rfl ?_
    refine sw_getK (n := 14) F (nd_hO 1 rfl hrK) (k := 2) ⟨(RJ41, TJ41, 6), rfl, by decide, q3149, in_J41, Or.inl rfl⟩ (v := va_rf (L r)) rfl dJ10_rotateLeft_11 rfl ?_
    refine sw_perm [1, 0] rfl [nd (xg x) Ks ka va L R P cl, ob (xg x) q 14 [.null, va_rf vs, .null, va_rf rt, .int (jI sz), .int (jI mc), .null, .null, .null]] rfl ?_
    refine sw_ndput (ka' := ka) (va' := va) (L' := L) (R' := (va_up R nx (L r))) (P' := P) (cl' := cl) F hx (k := 3) ⟨(RJ41, TJ41, 6), rfl, by decide, q3150, in_J41, Or.inl rfl⟩ (tyJ41 3) ⟨(RJ41, TJ41, 6), rfl, rfl, tyJ41_ok 3 (by decide), nmJ41, tyJ41, tyJ41_ok⟩ (va_rf_nar _ (by decide)) (va_rf_fit _ (by decide)) (by decide) (by simp [flN, va_up, va_rf]) (fun t9 h9 => by simp [flN, va_up, h9]) dJ10_rotateLeft_14 rfl ?_
    show SW x [nd (xg x) Ks ka va L (va_up R nx (L r)) P cl, ob (xg x) q 14 [.null, va_rf vs, .null, va_rf rt, .int (jI sz), .int (jI mc), .null, .null, .null]] _ _ _ _ _
    refine sw_aload_n (n := 18) F 0 (some r) rfl rfl rfl dJ10_rotateLeft_17 rfl ?_
    refine sw_getK (n := 21) F (nd_hO 0 rfl hrK) (k := 2) ⟨(RJ41, TJ41, 6), rfl, by decide, q3149, in_J41, Or.inl rfl⟩ (v := va_rf (L r)) rfl dJ10_rotateLeft_18 rfl ?_
    refine sw_ifnull (n := 24) F (o := (L r)) rfl (tgt := 32) dJ10_rotateLeft_21 (by decide) rfl (fun c_21 => ?_) (fun q_1 c_21 => ?_)
    ·
      refine sw_aload_n (n := 33) F 0 (some r) rfl rfl rfl dJ10_rotateLeft_32 rfl ?_
      refine sw_aload_n (n := 34) F 2 (some nx) rfl rfl rfl dJ10_rotateLeft_33 rfl ?_
      refine sw_getK (n := 37) F (nd_hO 0 rfl hx) (k := 4) ⟨(RJ41, TJ41, 6), rfl, by decide, q3152, in_J41, Or.inl rfl⟩ (v := va_rf (P nx)) rfl dJ10_rotateLeft_34 rfl ?_
      refine sw_ndput (ka' := ka) (va' := va) (L' := L) (R' := (va_up R nx (L r))) (P' := (va_up P r (P nx))) (cl' := cl) F hrK (k := 4) ⟨(RJ41, TJ41, 6), rfl, by decide, q3152, in_J41, Or.inl rfl⟩ (tyJ41 4) ⟨(RJ41, TJ41, 6), rfl, rfl, tyJ41_ok 4 (by decide), nmJ41, tyJ41, tyJ41_ok⟩ (va_rf_nar _ (by decide)) (va_rf_fit _ (by decide)) (by decide) (by simp [flN, va_up, va_rf]) (fun t9 h9 => by simp [flN, va_up, h9]) dJ10_rotateLeft_37 rfl ?_
      show SW x [nd (xg x) Ks ka va L (va_up R nx (L r)) (va_up P r (P nx)) cl, ob (xg x) q 14 [.null, va_rf vs, .null, va_rf rt, .int (jI sz), .int (jI mc), .null, .null, .null]] _ _ _ _ _
      refine sw_aload_n (n := 41) F 2 (some nx) rfl rfl rfl dJ10_rotateLeft_40 rfl ?_
      refine sw_getK (n := 44) F (nd_hO 0 rfl hx) (k := 4) ⟨(RJ41, TJ41, 6), rfl, by decide, q3152, in_J41, Or.inl rfl⟩ (v := va_rf (P nx)) (congrArg (fun o9 => some (va_rf o9)) (va_up_ne _ _ hxr)) dJ10_rotateLeft_41 rfl ?_
      refine sw_ifnonnull (n := 47) F (o := (P nx)) rfl (tgt := 55) dJ10_rotateLeft_44 (by decide) rfl (fun q_2 c_44 => ?_) (fun c_44 => ?_)
      ·
        refine sw_aload_n (n := 56) F 2 (some nx) rfl rfl rfl dJ10_rotateLeft_55 rfl ?_
        refine sw_getK (n := 59) F (nd_hO 0 rfl hx) (k := 4) ⟨(RJ41, TJ41, 6), rfl, by decide, q3152, in_J41, Or.inl rfl⟩ (v := .ref q_2) (congrArg (fun o9 => some (va_rf o9)) (Eq.trans (va_up_ne _ _ hxr) c_44)) dJ10_rotateLeft_56 rfl ?_
        have hpK : q_2 ∈ Ks := (hT.p hx c_44).1
        have hpn : q_2 ≠ nx := fun e9 => hT.neP hx c_44 e9.symm
        refine sw_getK (n := 62) F (nd_hO 0 rfl hpK) (k := 2) ⟨(RJ41, TJ41, 6), rfl, by decide, q3149, in_J41, Or.inl rfl⟩ (v := va_rf (L q_2)) rfl dJ10_rotateLeft_59 rfl ?_
        refine sw_aload_n (n := 63) F 2 (some nx) rfl rfl rfl dJ10_rotateLeft_62 rfl ?_
        refine sw_acmp_ne (n := 66) F (rx := (L q_2)) (ry := (some nx)) rfl rfl (tgt := 77) dJ10_rotateLeft_63 (by decide) rfl (fun c_63 => ?_) (fun c_63 => ?_)
        ·
          refine sw_aload_n (n := 78) F 2 (some nx) rfl rfl rfl dJ10_rotateLeft_77 rfl ?_
          refine sw_getK (n := 81) F (nd_hO 0 rfl hx) (k := 4) ⟨(RJ41, TJ41, 6), rfl, by decide, q3152, in_J41, Or.inl rfl⟩ (v := .ref q_2) (congrArg (fun o9 => some (va_rf o9)) (Eq.trans (va_up_ne _ _ hxr) c_44)) dJ10_rotateLeft_78 rfl ?_
          refine sw_aload_n (n := 82) F 0 (some r) rfl rfl rfl dJ10_rotateLeft_81 rfl ?_
          refine sw_ndput (ka' := ka) (va' := va) (L' := L) (R' := (va_up (va_up R nx (L r)) q_2 (some r))) (P' := (va_up P r (P nx))) (cl' := cl) F hpK (k := 3) ⟨(RJ41, TJ41, 6), rfl, by decide, q3150, in_J41, Or.inl rfl⟩ (tyJ41 3) ⟨(RJ41, TJ41, 6), rfl, rfl, tyJ41_ok 3 (by decide), nmJ41, tyJ41, tyJ41_ok⟩ rfl rfl (by decide) (by simp [flN, va_up, va_rf]) (fun t9 h9 => by simp [flN, va_up, h9]) dJ10_rotateLeft_82 rfl ?_
          show SW x [nd (xg x) Ks ka va L (va_up (va_up R nx (L r)) q_2 (some r)) (va_up P r (P nx)) cl, ob (xg x) q 14 [.null, va_rf vs, .null, va_rf rt, .int (jI sz), .int (jI mc), .null, .null, .null]] _ _ _ _ _
          refine sw_aload_n (n := 86) F 0 (some r) rfl rfl rfl dJ10_rotateLeft_85 rfl ?_
          refine sw_aload_n (n := 87) F 2 (some nx) rfl rfl rfl dJ10_rotateLeft_86 rfl ?_
          refine sw_ndput (ka' := ka) (va' := va) (L' := (va_up L r (some nx))) (R' := (va_up (va_up R nx (L r)) q_2 (some r))) (P' := (va_up P r (P nx))) (cl' := cl) F hrK (k := 2) ⟨(RJ41, TJ41, 6), rfl, by decide, q3149, in_J41, Or.inl rfl⟩ (tyJ41 2) ⟨(RJ41, TJ41, 6), rfl, rfl, tyJ41_ok 2 (by decide), nmJ41, tyJ41, tyJ41_ok⟩ rfl rfl (by decide) (by simp [flN, va_up, va_rf]) (fun t9 h9 => by simp [flN, va_up, h9]) dJ10_rotateLeft_87 rfl ?_
          show SW x [nd (xg x) Ks ka va (va_up L r (some nx)) (va_up (va_up R nx (L r)) q_2 (some r)) (va_up P r (P nx)) cl, ob (xg x) q 14 [.null, va_rf vs, .null, va_rf rt, .int (jI sz), .int (jI mc), .null, .null, .null]] _ _ _ _ _
          refine sw_aload_n (n := 91) F 2 (some nx) rfl rfl rfl dJ10_rotateLeft_90 rfl ?_
          refine sw_aload_n (n := 92) F 0 (some r) rfl rfl rfl dJ10_rotateLeft_91 rfl ?_
          refine sw_ndput (ka' := ka) (va' := va) (L' := (va_up L r (some nx))) (R' := (va_up (va_up R nx (L r)) q_2 (some r))) (P' := (va_up (va_up P r (P nx)) nx (some r))) (cl' := cl) F hx (k := 4) ⟨(RJ41, TJ41, 6), rfl, by decide, q3152, in_J41, Or.inl rfl⟩ (tyJ41 4) ⟨(RJ41, TJ41, 6), rfl, rfl, tyJ41_ok 4 (by decide), nmJ41, tyJ41, tyJ41_ok⟩ rfl rfl (by decide) (by simp [flN, va_up, va_rf]) (fun t9 h9 => by simp [flN, va_up, h9]) dJ10_rotateLeft_92 rfl ?_
          show SW x [nd (xg x) Ks ka va (va_up L r (some nx)) (va_up (va_up R nx (L r)) q_2 (some r)) (va_up (va_up P r (P nx)) nx (some r)) cl, ob (xg x) q 14 [.null, va_rf vs, .null, va_rf rt, .int (jI sz), .int (jI mc), .null, .null, .null]] _ _ _ _ _
          have hRot : RotL L R P rt nx r (va_up L r (some nx)) (va_up (va_up R nx (L r)) q_2 (some r)) (va_up (va_up P r (P nx)) nx (some r)) rt := by
            refine ⟨fun t => ?_, fun t => ?_, fun t => ?_, ?_⟩ <;> (try unfold va_up) <;> grind
          refine sw_perm [1, 0] rfl [ob (xg x) q 14 [.null, va_rf vs, .null, va_rf rt, .int (jI sz), .int (jI mc), .null, .null, .null], nd (xg x) Ks ka va (va_up L r (some nx)) (va_up (va_up R nx (L r)) q_2 (some r)) (va_up (va_up P r (P nx)) nx (some r)) cl] rfl ?_
          exact sw_vret F rfl dJ10_rotateLeft_95 (by rw [hPo]; exact ⟨va_up L r (some nx), va_up (va_up R nx (L r)) q_2 (some r), va_up (va_up P r (P nx)) nx (some r), rt, fun t => if t = r then lo nx else lo t, fun t => if t = nx then rk r else hi t, rfl, (by exact hRot), (by exact hT.rotL hx hr hRot), (by intro t; rfl), (by intro t; rfl), rfl⟩)
        ·
          refine sw_aload_n (n := 67) F 2 (some nx) rfl rfl rfl dJ10_rotateLeft_66 rfl ?_
          refine sw_getK (n := 70) F (nd_hO 0 rfl hx) (k := 4) ⟨(RJ41, TJ41, 6), rfl, by decide, q3152, in_J41, Or.inl rfl⟩ (v := .ref q_2) (congrArg (fun o9 => some (va_rf o9)) (Eq.trans (va_up_ne _ _ hxr) c_44)) dJ10_rotateLeft_67 rfl ?_
          refine sw_aload_n (n := 71) F 0 (some r) rfl rfl rfl dJ10_rotateLeft_70 rfl ?_
          refine sw_ndput (ka' := ka) (va' := va) (L' := (va_up L q_2 (some r))) (R' := (va_up R nx (L r))) (P' := (va_up P r (P nx))) (cl' := cl) F hpK (k := 2) ⟨(RJ41, TJ41, 6), rfl, by decide, q3149, in_J41, Or.inl rfl⟩ (tyJ41 2) ⟨(RJ41, TJ41, 6), rfl, rfl, tyJ41_ok 2 (by decide), nmJ41, tyJ41, tyJ41_ok⟩ rfl rfl (by decide) (by simp [flN, va_up, va_rf]) (fun t9 h9 => by simp [flN, va_up, h9]) dJ10_rotateLeft_71 rfl ?_
          show SW x [nd (xg x) Ks ka va (va_up L q_2 (some r)) (va_up R nx (L r)) (va_up P r (P nx)) cl, ob (xg x) q 14 [.null, va_rf vs, .null, va_rf rt, .int (jI sz), .int (jI mc), .null, .null, .null]] _ _ _ _ _
          refine sw_goto F (n := 85) dJ10_rotateLeft_74 (by decide) ?_
          refine sw_aload_n (n := 86) F 0 (some r) rfl rfl rfl dJ10_rotateLeft_85 rfl ?_
          refine sw_aload_n (n := 87) F 2 (some nx) rfl rfl rfl dJ10_rotateLeft_86 rfl ?_
          refine sw_ndput (ka' := ka) (va' := va) (L' := (va_up (va_up L q_2 (some r)) r (some nx))) (R' := (va_up R nx (L r))) (P' := (va_up P r (P nx))) (cl' := cl) F hrK (k := 2) ⟨(RJ41, TJ41, 6), rfl, by decide, q3149, in_J41, Or.inl rfl⟩ (tyJ41 2) ⟨(RJ41, TJ41, 6), rfl, rfl, tyJ41_ok 2 (by decide), nmJ41, tyJ41, tyJ41_ok⟩ rfl rfl (by decide) (by simp [flN, va_up, va_rf]) (fun t9 h9 => by simp [flN, va_up, h9]) dJ10_rotateLeft_87 rfl ?_
          show SW x [nd (xg x) Ks ka va (va_up (va_up L q_2 (some r)) r (some nx)) (va_up R nx (L r)) (va_up P r (P nx)) cl, ob (xg x) q 14 [.null, va_rf vs, .null, va_rf rt, .int (jI sz), .int (jI mc), .null, .null, .null]] _ _ _ _ _
          refine sw_aload_n (n := 91) F 2 (some nx) rfl rfl rfl dJ10_rotateLeft_90 rfl ?_
          refine sw_aload_n (n := 92) F 0 (some r) rfl rfl rfl dJ10_rotateLeft_91 rfl ?_
          refine sw_ndput (ka' := ka) (va' := va) (L' := (va_up (va_up L q_2 (some r)) r (some nx))) (R' := (va_up R nx (L r))) (P' := (va_up (va_up P r (P nx)) nx (some r))) (cl' := cl) F hx (k := 4) ⟨(RJ41, TJ41, 6), rfl, by decide, q3152, in_J41, Or.inl rfl⟩ (tyJ41 4) ⟨(RJ41, TJ41, 6), rfl, rfl, tyJ41_ok 4 (by decide), nmJ41, tyJ41, tyJ41_ok⟩ rfl rfl (by decide) (by simp [flN, va_up, va_rf]) (fun t9 h9 => by simp [flN, va_up, h9]) dJ10_rotateLeft_92 rfl ?_
          show SW x [nd (xg x) Ks ka va (va_up (va_up L q_2 (some r)) r (some nx)) (va_up R nx (L r)) (va_up (va_up P r (P nx)) nx (some r)) cl, ob (xg x) q 14 [.null, va_rf vs, .null, va_rf rt, .int (jI sz), .int (jI mc), .null, .null, .null]] _ _ _ _ _
          have hRot : RotL L R P rt nx r (va_up (va_up L q_2 (some r)) r (some nx)) (va_up R nx (L r)) (va_up (va_up P r (P nx)) nx (some r)) rt := by
            refine ⟨fun t => ?_, fun t => ?_, fun t => ?_, ?_⟩ <;> (try unfold va_up) <;> grind
          refine sw_perm [1, 0] rfl [ob (xg x) q 14 [.null, va_rf vs, .null, va_rf rt, .int (jI sz), .int (jI mc), .null, .null, .null], nd (xg x) Ks ka va (va_up (va_up L q_2 (some r)) r (some nx)) (va_up R nx (L r)) (va_up (va_up P r (P nx)) nx (some r)) cl] rfl ?_
          exact sw_vret F rfl dJ10_rotateLeft_95 (by rw [hPo]; exact ⟨va_up (va_up L q_2 (some r)) r (some nx), va_up R nx (L r), va_up (va_up P r (P nx)) nx (some r), rt, fun t => if t = r then lo nx else lo t, fun t => if t = nx then rk r else hi t, rfl, (by exact hRot), (by exact hT.rotL hx hr hRot), (by intro t; rfl), (by intro t; rfl), rfl⟩)
      ·
        refine sw_aload_n (n := 48) F 1 (some q) rfl rfl rfl dJ10_rotateLeft_47 rfl ?_
        refine sw_aload_n (n := 49) F 0 (some r) rfl rfl rfl dJ10_rotateLeft_48 rfl ?_
        refine sw_put (n := 52) F 1 rfl (k := 3) ⟨(RJ10, TJ10, 9), rfl, by decide, q288, in_J10, Or.inl rfl⟩ (tyJ10 3) ⟨(RJ10, TJ10, 9), rfl, rfl, tyJ10_ok 3 (by decide), nmJ10, tyJ10, tyJ10_ok⟩ rfl rfl (Nat.le_of_ble_eq_true rfl) rfl [nd (xg x) Ks ka va L (va_up R nx (L r)) (va_up P r (P nx)) cl, ob (xg x) q 14 [.null, va_rf vs, .null, .ref r, .int (jI sz), .int (jI mc), .null, .null, .null]] rfl dJ10_rotateLeft_49 rfl ?_
        refine sw_goto F (n := 85) dJ10_rotateLeft_52 (by decide) ?_
        refine sw_aload_n (n := 86) F 0 (some r) rfl rfl rfl dJ10_rotateLeft_85 rfl ?_
        refine sw_aload_n (n := 87) F 2 (some nx) rfl rfl rfl dJ10_rotateLeft_86 rfl ?_
        refine sw_ndput (ka' := ka) (va' := va) (L' := (va_up L r (some nx))) (R' := (va_up R nx (L r))) (P' := (va_up P r (P nx))) (cl' := cl) F hrK (k := 2) ⟨(RJ41, TJ41, 6), rfl, by decide, q3149, in_J41, Or.inl rfl⟩ (tyJ41 2) ⟨(RJ41, TJ41, 6), rfl, rfl, tyJ41_ok 2 (by decide), nmJ41, tyJ41, tyJ41_ok⟩ rfl rfl (by decide) (by simp [flN, va_up, va_rf]) (fun t9 h9 => by simp [flN, va_up, h9]) dJ10_rotateLeft_87 rfl ?_
        show SW x [nd (xg x) Ks ka va (va_up L r (some nx)) (va_up R nx (L r)) (va_up P r (P nx)) cl, ob (xg x) q 14 [.null, va_rf vs, .null, .ref r, .int (jI sz), .int (jI mc), .null, .null, .null]] _ _ _ _ _
        refine sw_aload_n (n := 91) F 2 (some nx) rfl rfl rfl dJ10_rotateLeft_90 rfl ?_
        refine sw_aload_n (n := 92) F 0 (some r) rfl rfl rfl dJ10_rotateLeft_91 rfl ?_
        refine sw_ndput (ka' := ka) (va' := va) (L' := (va_up L r (some nx))) (R' := (va_up R nx (L r))) (P' := (va_up (va_up P r (P nx)) nx (some r))) (cl' := cl) F hx (k := 4) ⟨(RJ41, TJ41, 6), rfl, by decide, q3152, in_J41, Or.inl rfl⟩ (tyJ41 4) ⟨(RJ41, TJ41, 6), rfl, rfl, tyJ41_ok 4 (by decide), nmJ41, tyJ41, tyJ41_ok⟩ rfl rfl (by decide) (by simp [flN, va_up, va_rf]) (fun t9 h9 => by simp [flN, va_up, h9]) dJ10_rotateLeft_92 rfl ?_
        show SW x [nd (xg x) Ks ka va (va_up L r (some nx)) (va_up R nx (L r)) (va_up (va_up P r (P nx)) nx (some r)) cl, ob (xg x) q 14 [.null, va_rf vs, .null, .ref r, .int (jI sz), .int (jI mc), .null, .null, .null]] _ _ _ _ _
        have hRot : RotL L R P rt nx r (va_up L r (some nx)) (va_up R nx (L r)) (va_up (va_up P r (P nx)) nx (some r)) (some r) := by
          refine ⟨fun t => ?_, fun t => ?_, fun t => ?_, ?_⟩ <;> (try unfold va_up) <;> grind
        refine sw_perm [1, 0] rfl [ob (xg x) q 14 [.null, va_rf vs, .null, .ref r, .int (jI sz), .int (jI mc), .null, .null, .null], nd (xg x) Ks ka va (va_up L r (some nx)) (va_up R nx (L r)) (va_up (va_up P r (P nx)) nx (some r)) cl] rfl ?_
        exact sw_vret F rfl dJ10_rotateLeft_95 (by rw [hPo]; exact ⟨va_up L r (some nx), va_up R nx (L r), va_up (va_up P r (P nx)) nx (some r), some r, fun t => if t = r then lo nx else lo t, fun t => if t = nx then rk r else hi t, rfl, (by exact hRot), (by exact hT.rotL hx hr hRot), (by intro t; rfl), (by intro t; rfl), (by rfl)⟩)
    ·
      refine sw_aload_n (n := 25) F 0 (some r) rfl rfl rfl dJ10_rotateLeft_24 rfl ?_
      refine sw_getK (n := 28) F (nd_hO 0 rfl hrK) (k := 2) ⟨(RJ41, TJ41, 6), rfl, by decide, q3149, in_J41, Or.inl rfl⟩ (v := .ref q_1) (congrArg (fun o9 => some (va_rf o9)) c_21) dJ10_rotateLeft_25 rfl ?_
      have hq1 : q_1 ∈ Ks := (hT.l hrK c_21).1
      have hq2 : nx ≠ q_1 := fun e9 => by have g1 := hT.l hrK c_21; have g2 := hT.r hx hr; subst e9; have g3 := hT.rng hx; omega
      refine sw_aload_n (n := 29) F 2 (some nx) rfl rfl rfl dJ10_rotateLeft_28 rfl ?_
      refine sw_ndput (ka' := ka) (va' := va) (L' := L) (R' := (va_up R nx (L r))) (P' := (va_up P q_1 (some nx))) (cl' := cl) F hq1 (k := 4) ⟨(RJ41, TJ41, 6), rfl, by decide, q3152, in_J41, Or.inl rfl⟩ (tyJ41 4) ⟨(RJ41, TJ41, 6), rfl, rfl, tyJ41_ok 4 (by decide), nmJ41, tyJ41, tyJ41_ok⟩ rfl rfl (by decide) (by simp [flN, va_up, va_rf]) (fun t9 h9 => by simp [flN, va_up, h9]) dJ10_rotateLeft_29 rfl ?_
      show SW x [nd (xg x) Ks ka va L (va_up R nx (L r)) (va_up P q_1 (some nx)) cl, ob (xg x) q 14 [.null, va_rf vs, .null, va_rf rt, .int (jI sz), .int (jI mc), .null, .null, .null]] _ _ _ _ _
      refine sw_aload_n (n := 33) F 0 (some r) rfl rfl rfl dJ10_rotateLeft_32 rfl ?_
      refine sw_aload_n (n := 34) F 2 (some nx) rfl rfl rfl dJ10_rotateLeft_33 rfl ?_
      refine sw_getK (n := 37) F (nd_hO 0 rfl hx) (k := 4) ⟨(RJ41, TJ41, 6), rfl, by decide, q3152, in_J41, Or.inl rfl⟩ (v := va_rf (P nx)) (congrArg (fun o9 => some (va_rf o9)) (va_up_ne _ _ hq2)) dJ10_rotateLeft_34 rfl ?_
      refine sw_ndput (ka' := ka) (va' := va) (L' := L) (R' := (va_up R nx (L r))) (P' := (va_up (va_up P q_1 (some nx)) r (P nx))) (cl' := cl) F hrK (k := 4) ⟨(RJ41, TJ41, 6), rfl, by decide, q3152, in_J41, Or.inl rfl⟩ (tyJ41 4) ⟨(RJ41, TJ41, 6), rfl, rfl, tyJ41_ok 4 (by decide), nmJ41, tyJ41, tyJ41_ok⟩ (va_rf_nar _ (by decide)) (va_rf_fit _ (by decide)) (by decide) (by simp [flN, va_up, va_rf]) (fun t9 h9 => by simp [flN, va_up, h9]) dJ10_rotateLeft_37 rfl ?_
      show SW x [nd (xg x) Ks ka va L (va_up R nx (L r)) (va_up (va_up P q_1 (some nx)) r (P nx)) cl, ob (xg x) q 14 [.null, va_rf vs, .null, va_rf rt, .int (jI sz), .int (jI mc), .null, .null, .null]] _ _ _ _ _
      refine sw_aload_n (n := 41) F 2 (some nx) rfl rfl rfl dJ10_rotateLeft_40 rfl ?_
      refine sw_getK (n := 44) F (nd_hO 0 rfl hx) (k := 4) ⟨(RJ41, TJ41, 6), rfl, by decide, q3152, in_J41, Or.inl rfl⟩ (v := va_rf (P nx)) (congrArg (fun o9 => some (va_rf o9)) (Eq.trans (va_up_ne _ _ hxr) (va_up_ne _ _ hq2))) dJ10_rotateLeft_41 rfl ?_
      refine sw_ifnonnull (n := 47) F (o := (P nx)) rfl (tgt := 55) dJ10_rotateLeft_44 (by decide) rfl (fun q_3 c_44 => ?_) (fun c_44 => ?_)
      ·
        refine sw_aload_n (n := 56) F 2 (some nx) rfl rfl rfl dJ10_rotateLeft_55 rfl ?_
        refine sw_getK (n := 59) F (nd_hO 0 rfl hx) (k := 4) ⟨(RJ41, TJ41, 6), rfl, by decide, q3152, in_J41, Or.inl rfl⟩ (v := .ref q_3) (congrArg (fun o9 => some (va_rf o9)) (Eq.trans (Eq.trans (va_up_ne _ _ hxr) (va_up_ne _ _ hq2)) c_44)) dJ10_rotateLeft_56 rfl ?_
        have hpK : q_3 ∈ Ks := (hT.p hx c_44).1
        have hpn : q_3 ≠ nx := fun e9 => hT.neP hx c_44 e9.symm
        refine sw_getK (n := 62) F (nd_hO 0 rfl hpK) (k := 2) ⟨(RJ41, TJ41, 6), rfl, by decide, q3149, in_J41, Or.inl rfl⟩ (v := va_rf (L q_3)) rfl dJ10_rotateLeft_59 rfl ?_
        refine sw_aload_n (n := 63) F 2 (some nx) rfl rfl rfl dJ10_rotateLeft_62 rfl ?_
        refine sw_acmp_ne (n := 66) F (rx := (L q_3)) (ry := (some nx)) rfl rfl (tgt := 77) dJ10_rotateLeft_63 (by decide) rfl (fun c_63 => ?_) (fun c_63 => ?_)
        ·
          refine sw_aload_n (n := 78) F 2 (some nx) rfl rfl rfl dJ10_rotateLeft_77 rfl ?_
          refine sw_getK (n := 81) F (nd_hO 0 rfl hx) (k := 4) ⟨(RJ41, TJ41, 6), rfl, by decide, q3152, in_J41, Or.inl rfl⟩ (v := .ref q_3) (congrArg (fun o9 => some (va_rf o9)) (Eq.trans (Eq.trans (va_up_ne _ _ hxr) (va_up_ne _ _ hq2)) c_44)) dJ10_rotateLeft_78 rfl ?_
          refine sw_aload_n (n := 82) F 0 (some r) rfl rfl rfl dJ10_rotateLeft_81 rfl ?_
          refine sw_ndput (ka' := ka) (va' := va) (L' := L) (R' := (va_up (va_up R nx (L r)) q_3 (some r))) (P' := (va_up (va_up P q_1 (some nx)) r (P nx))) (cl' := cl) F hpK (k := 3) ⟨(RJ41, TJ41, 6), rfl, by decide, q3150, in_J41, Or.inl rfl⟩ (tyJ41 3) ⟨(RJ41, TJ41, 6), rfl, rfl, tyJ41_ok 3 (by decide), nmJ41, tyJ41, tyJ41_ok⟩ rfl rfl (by decide) (by simp [flN, va_up, va_rf]) (fun t9 h9 => by simp [flN, va_up, h9]) dJ10_rotateLeft_82 rfl ?_
          show SW x [nd (xg x) Ks ka va L (va_up (va_up R nx (L r)) q_3 (some r)) (va_up (va_up P q_1 (some nx)) r (P nx)) cl, ob (xg x) q 14 [.null, va_rf vs, .null, va_rf rt, .int (jI sz), .int (jI mc), .null, .null, .null]] _ _ _ _ _
          refine sw_aload_n (n := 86) F 0 (some r) rfl rfl rfl dJ10_rotateLeft_85 rfl ?_
          refine sw_aload_n (n := 87) F 2 (some nx) rfl rfl rfl dJ10_rotateLeft_86 rfl ?_
          refine sw_ndput (ka' := ka) (va' := va) (L' := (va_up L r (some nx))) (R' := (va_up (va_up R nx (L r)) q_3 (some r))) (P' := (va_up (va_up P q_1 (some nx)) r (P nx))) (cl' := cl) F hrK (k := 2) ⟨(RJ41, TJ41, 6), rfl, by decide, q3149, in_J41, Or.inl rfl⟩ (tyJ41 2) ⟨(RJ41, TJ41, 6), rfl, rfl, tyJ41_ok 2 (by decide), nmJ41, tyJ41, tyJ41_ok⟩ rfl rfl (by decide) (by simp [flN, va_up, va_rf]) (fun t9 h9 => by simp [flN, va_up, h9]) dJ10_rotateLeft_87 rfl ?_
          show SW x [nd (xg x) Ks ka va (va_up L r (some nx)) (va_up (va_up R nx (L r)) q_3 (some r)) (va_up (va_up P q_1 (some nx)) r (P nx)) cl, ob (xg x) q 14 [.null, va_rf vs, .null, va_rf rt, .int (jI sz), .int (jI mc), .null, .null, .null]] _ _ _ _ _
          refine sw_aload_n (n := 91) F 2 (some nx) rfl rfl rfl dJ10_rotateLeft_90 rfl ?_
          refine sw_aload_n (n := 92) F 0 (some r) rfl rfl rfl dJ10_rotateLeft_91 rfl ?_
          refine sw_ndput (ka' := ka) (va' := va) (L' := (va_up L r (some nx))) (R' := (va_up (va_up R nx (L r)) q_3 (some r))) (P' := (va_up (va_up (va_up P q_1 (some nx)) r (P nx)) nx (some r))) (cl' := cl) F hx (k := 4) ⟨(RJ41, TJ41, 6), rfl, by decide, q3152, in_J41, Or.inl rfl⟩ (tyJ41 4) ⟨(RJ41, TJ41, 6), rfl, rfl, tyJ41_ok 4 (by decide), nmJ41, tyJ41, tyJ41_ok⟩ rfl rfl (by decide) (by simp [flN, va_up, va_rf]) (fun t9 h9 => by simp [flN, va_up, h9]) dJ10_rotateLeft_92 rfl ?_
          show SW x [nd (xg x) Ks ka va (va_up L r (some nx)) (va_up (va_up R nx (L r)) q_3 (some r)) (va_up (va_up (va_up P q_1 (some nx)) r (P nx)) nx (some r)) cl, ob (xg x) q 14 [.null, va_rf vs, .null, va_rf rt, .int (jI sz), .int (jI mc), .null, .null, .null]] _ _ _ _ _
          have hRot : RotL L R P rt nx r (va_up L r (some nx)) (va_up (va_up R nx (L r)) q_3 (some r)) (va_up (va_up (va_up P q_1 (some nx)) r (P nx)) nx (some r)) rt := by
            refine ⟨fun t => ?_, fun t => ?_, fun t => ?_, ?_⟩ <;> (try unfold va_up) <;> grind
          refine sw_perm [1, 0] rfl [ob (xg x) q 14 [.null, va_rf vs, .null, va_rf rt, .int (jI sz), .int (jI mc), .null, .null, .null], nd (xg x) Ks ka va (va_up L r (some nx)) (va_up (va_up R nx (L r)) q_3 (some r)) (va_up (va_up (va_up P q_1 (some nx)) r (P nx)) nx (some r)) cl] rfl ?_
          exact sw_vret F rfl dJ10_rotateLeft_95 (by rw [hPo]; exact ⟨va_up L r (some nx), va_up (va_up R nx (L r)) q_3 (some r), va_up (va_up (va_up P q_1 (some nx)) r (P nx)) nx (some r), rt, fun t => if t = r then lo nx else lo t, fun t => if t = nx then rk r else hi t, rfl, (by exact hRot), (by exact hT.rotL hx hr hRot), (by intro t; rfl), (by intro t; rfl), rfl⟩)
        ·
          refine sw_aload_n (n := 67) F 2 (some nx) rfl rfl rfl dJ10_rotateLeft_66 rfl ?_
          refine sw_getK (n := 70) F (nd_hO 0 rfl hx) (k := 4) ⟨(RJ41, TJ41, 6), rfl, by decide, q3152, in_J41, Or.inl rfl⟩ (v := .ref q_3) (congrArg (fun o9 => some (va_rf o9)) (Eq.trans (Eq.trans (va_up_ne _ _ hxr) (va_up_ne _ _ hq2)) c_44)) dJ10_rotateLeft_67 rfl ?_
          refine sw_aload_n (n := 71) F 0 (some r) rfl rfl rfl dJ10_rotateLeft_70 rfl ?_
          refine sw_ndput (ka' := ka) (va' := va) (L' := (va_up L q_3 (some r))) (R' := (va_up R nx (L r))) (P' := (va_up (va_up P q_1 (some nx)) r (P nx))) (cl' := cl) F hpK (k := 2) ⟨(RJ41, TJ41, 6), rfl, by decide, q3149, in_J41, Or.inl rfl⟩ (tyJ41 2) ⟨(RJ41, TJ41, 6), rfl, rfl, tyJ41_ok 2 (by decide), nmJ41, tyJ41, tyJ41_ok⟩ rfl rfl (by decide) (by simp [flN, va_up, va_rf]) (fun t9 h9 => by simp [flN, va_up, h9]) dJ10_rotateLeft_71 rfl ?_
          show SW x [nd (xg x) Ks ka va (va_up L q_3 (some r)) (va_up R nx (L r)) (va_up (va_up P q_1 (some nx)) r (P nx)) cl, ob (xg x) q 14 [.null, va_rf vs, .null, va_rf rt, .int (jI sz), .int (jI mc), .null, .null, .null]] _ _ _ _ _
          refine sw_goto F (n := 85) dJ10_rotateLeft_74 (by decide) ?_
          refine sw_aload_n (n := 86) F 0 (some r) rfl rfl rfl dJ10_rotateLeft_85 rfl ?_
          refine sw_aload_n (n := 87) F 2 (some nx) rfl rfl rfl dJ10_rotateLeft_86 rfl ?_
          refine sw_ndput (ka' := ka) (va' := va) (L' := (va_up (va_up L q_3 (some r)) r (some nx))) (R' := (va_up R nx (L r))) (P' := (va_up (va_up P q_1 (some nx)) r (P nx))) (cl' := cl) F hrK (k := 2) ⟨(RJ41, TJ41, 6), rfl, by decide, q3149, in_J41, Or.inl rfl⟩ (tyJ41 2) ⟨(RJ41, TJ41, 6), rfl, rfl, tyJ41_ok 2 (by decide), nmJ41, tyJ41, tyJ41_ok⟩ rfl rfl (by decide) (by simp [flN, va_up, va_rf]) (fun t9 h9 => by simp [flN, va_up, h9]) dJ10_rotateLeft_87 rfl ?_
          show SW x [nd (xg x) Ks ka va (va_up (va_up L q_3 (some r)) r (some nx)) (va_up R nx (L r)) (va_up (va_up P q_1 (some nx)) r (P nx)) cl, ob (xg x) q 14 [.null, va_rf vs, .null, va_rf rt, .int (jI sz), .int (jI mc), .null, .null, .null]] _ _ _ _ _
          refine sw_aload_n (n := 91) F 2 (some nx) rfl rfl rfl dJ10_rotateLeft_90 rfl ?_
          refine sw_aload_n (n := 92) F 0 (some r) rfl rfl rfl dJ10_rotateLeft_91 rfl ?_
          refine sw_ndput (ka' := ka) (va' := va) (L' := (va_up (va_up L q_3 (some r)) r (some nx))) (R' := (va_up R nx (L r))) (P' := (va_up (va_up (va_up P q_1 (some nx)) r (P nx)) nx (some r))) (cl' := cl) F hx (k := 4) ⟨(RJ41, TJ41, 6), rfl, by decide, q3152, in_J41, Or.inl rfl⟩ (tyJ41 4) ⟨(RJ41, TJ41, 6), rfl, rfl, tyJ41_ok 4 (by decide), nmJ41, tyJ41, tyJ41_ok⟩ rfl rfl (by decide) (by simp [flN, va_up, va_rf]) (fun t9 h9 => by simp [flN, va_up, h9]) dJ10_rotateLeft_92 rfl ?_
          show SW x [nd (xg x) Ks ka va (va_up (va_up L q_3 (some r)) r (some nx)) (va_up R nx (L r)) (va_up (va_up (va_up P q_1 (some nx)) r (P nx)) nx (some r)) cl, ob (xg x) q 14 [.null, va_rf vs, .null, va_rf rt, .int (jI sz), .int (jI mc), .null, .null, .null]] _ _ _ _ _
          have hRot : RotL L R P rt nx r (va_up (va_up L q_3 (some r)) r (some nx)) (va_up R nx (L r)) (va_up (va_up (va_up P q_1 (some nx)) r (P nx)) nx (some r)) rt := by
            refine ⟨fun t => ?_, fun t => ?_, fun t => ?_, ?_⟩ <;> (try unfold va_up) <;> grind
          refine sw_perm [1, 0] rfl [ob (xg x) q 14 [.null, va_rf vs, .null, va_rf rt, .int (jI sz), .int (jI mc), .null, .null, .null], nd (xg x) Ks ka va (va_up (va_up L q_3 (some r)) r (some nx)) (va_up R nx (L r)) (va_up (va_up (va_up P q_1 (some nx)) r (P nx)) nx (some r)) cl] rfl ?_
          exact sw_vret F rfl dJ10_rotateLeft_95 (by rw [hPo]; exact ⟨va_up (va_up L q_3 (some r)) r (some nx), va_up R nx (L r), va_up (va_up (va_up P q_1 (some nx)) r (P nx)) nx (some r), rt, fun t => if t = r then lo nx else lo t, fun t => if t = nx then rk r else hi t, rfl, (by exact hRot), (by exact hT.rotL hx hr hRot), (by intro t; rfl), (by intro t; rfl), rfl⟩)
      ·
        refine sw_aload_n (n := 48) F 1 (some q) rfl rfl rfl dJ10_rotateLeft_47 rfl ?_
        refine sw_aload_n (n := 49) F 0 (some r) rfl rfl rfl dJ10_rotateLeft_48 rfl ?_
        refine sw_put (n := 52) F 1 rfl (k := 3) ⟨(RJ10, TJ10, 9), rfl, by decide, q288, in_J10, Or.inl rfl⟩ (tyJ10 3) ⟨(RJ10, TJ10, 9), rfl, rfl, tyJ10_ok 3 (by decide), nmJ10, tyJ10, tyJ10_ok⟩ rfl rfl (Nat.le_of_ble_eq_true rfl) rfl [nd (xg x) Ks ka va L (va_up R nx (L r)) (va_up (va_up P q_1 (some nx)) r (P nx)) cl, ob (xg x) q 14 [.null, va_rf vs, .null, .ref r, .int (jI sz), .int (jI mc), .null, .null, .null]] rfl dJ10_rotateLeft_49 rfl ?_
        refine sw_goto F (n := 85) dJ10_rotateLeft_52 (by decide) ?_
        refine sw_aload_n (n := 86) F 0 (some r) rfl rfl rfl dJ10_rotateLeft_85 rfl ?_
        refine sw_aload_n (n := 87) F 2 (some nx) rfl rfl rfl dJ10_rotateLeft_86 rfl ?_
        refine sw_ndput (ka' := ka) (va' := va) (L' := (va_up L r (some nx))) (R' := (va_up R nx (L r))) (P' := (va_up (va_up P q_1 (some nx)) r (P nx))) (cl' := cl) F hrK (k := 2) ⟨(RJ41, TJ41, 6), rfl, by decide, q3149, in_J41, Or.inl rfl⟩ (tyJ41 2) ⟨(RJ41, TJ41, 6), rfl, rfl, tyJ41_ok 2 (by decide), nmJ41, tyJ41, tyJ41_ok⟩ rfl rfl (by decide) (by simp [flN, va_up, va_rf]) (fun t9 h9 => by simp [flN, va_up, h9]) dJ10_rotateLeft_87 rfl ?_
        show SW x [nd (xg x) Ks ka va (va_up L r (some nx)) (va_up R nx (L r)) (va_up (va_up P q_1 (some nx)) r (P nx)) cl, ob (xg x) q 14 [.null, va_rf vs, .null, .ref r, .int (jI sz), .int (jI mc), .null, .null, .null]] _ _ _ _ _
        refine sw_aload_n (n := 91) F 2 (some nx) rfl rfl rfl dJ10_rotateLeft_90 rfl ?_
        refine sw_aload_n (n := 92) F 0 (some r) rfl rfl rfl dJ10_rotateLeft_91 rfl ?_
        refine sw_ndput (ka' := ka) (va' := va) (L' := (va_up L r (some nx))) (R' := (va_up R nx (L r))) (P' := (va_up (va_up (va_up P q_1 (some nx)) r (P nx)) nx (some r))) (cl' := cl) F hx (k := 4) ⟨(RJ41, TJ41, 6), rfl, by decide, q3152, in_J41, Or.inl rfl⟩ (tyJ41 4) ⟨(RJ41, TJ41, 6), rfl, rfl, tyJ41_ok 4 (by decide), nmJ41, tyJ41, tyJ41_ok⟩ rfl rfl (by decide) (by simp [flN, va_up, va_rf]) (fun t9 h9 => by simp [flN, va_up, h9]) dJ10_rotateLeft_92 rfl ?_
        show SW x [nd (xg x) Ks ka va (va_up L r (some nx)) (va_up R nx (L r)) (va_up (va_up (va_up P q_1 (some nx)) r (P nx)) nx (some r)) cl, ob (xg x) q 14 [.null, va_rf vs, .null, .ref r, .int (jI sz), .int (jI mc), .null, .null, .null]] _ _ _ _ _
        have hRot : RotL L R P rt nx r (va_up L r (some nx)) (va_up R nx (L r)) (va_up (va_up (va_up P q_1 (some nx)) r (P nx)) nx (some r)) (some r) := by
          refine ⟨fun t => ?_, fun t => ?_, fun t => ?_, ?_⟩ <;> (try unfold va_up) <;> grind
        refine sw_perm [1, 0] rfl [ob (xg x) q 14 [.null, va_rf vs, .null, .ref r, .int (jI sz), .int (jI mc), .null, .null, .null], nd (xg x) Ks ka va (va_up L r (some nx)) (va_up R nx (L r)) (va_up (va_up (va_up P q_1 (some nx)) r (P nx)) nx (some r)) cl] rfl ?_
        exact sw_vret F rfl dJ10_rotateLeft_95 (by rw [hPo]; exact ⟨va_up L r (some nx), va_up R nx (L r), va_up (va_up (va_up P q_1 (some nx)) r (P nx)) nx (some r), some r, fun t => if t = r then lo nx else lo t, fun t => if t = nx then rk r else hi t, rfl, (by exact hRot), (by exact hT.rotL hx hr hRot), (by intro t; rfl), (by intro t; rfl), (by rfl)⟩)
set_option maxRecDepth 100000 in
set_option maxHeartbeats 16000000 in
theorem ct_J10_rotateLeft_n {g : GG} {l : Launch} (q : Nat)  : Ct g l yJ10_rotateLeft (ws_ yJ10_rotateLeft cJ10_rotateLeft 3 (Option.none : Option Jvm.ClassFile.FieldType)) 1 12 0 0 [.ref q, .null] [] (fun v9 Ws9 => v9 = none ∧ Ws9 = []) (nox) := by
  refine Ct.of (cc := cJ10_rotateLeft) (nL := 3) (ret := (Option.none : Option Jvm.ClassFile.FieldType)) (by decide) rfl (Nat.le_of_ble_eq_true rfl) ?_
  intro x hg hl hPo hPx hmc hms F
  subst hg; subst hl
  refine SW.cast (L' := [(0, .ref q), (1, .null)]) ?_ rfl rfl rfl
  refine sw_aload_n (n := 1) F 1 none rfl rfl rfl dJ10_rotateLeft_0 rfl ?_
  refine sw_ifnull (n := 4) F (o := none) rfl (tgt := 95) dJ10_rotateLeft_1 (by decide) rfl (fun c_1 => ?_) (fun _ _ => ?_)
  ·
    exact sw_vret F rfl dJ10_rotateLeft_95 (by rw [hPo]; exact ⟨rfl, rfl⟩)
  · rename_i hq; cases hq
theorem nd_J10_rotateRight : yJ10_rotateRight.cls ≠ "java/lang/invoke/MethodHandle" ∧ yJ10_rotateRight.cls ≠ "java/lang/invoke/VarHandle" ∧ (parseMethodDescriptor yJ10_rotateRight.desc).map (fun d => d.parameters.length) = some 1 := by decide +kernel
set_option maxRecDepth 100000 in
set_option maxHeartbeats 16000000 in
theorem ct_J10_rotateRight {g : GG} {l : Launch} (Ks : List Nat) (ka : Nat → Nat) (va : Nat → Nat) (L : OP) (R : OP) (P : OP) (cl : Nat → Int) (q : Nat) (vs : Option Nat) (rt : Option Nat) (sz : Int) (mc : Int) (rk : Nat → Int) (lo : Nat → Int) (hi : Nat → Int) (nx : Nat) (r : Nat) (hT : TrI Ks L R P rk lo hi rt) (hx : nx ∈ Ks) (hr : L nx = some r) : Ct g l yJ10_rotateRight (ws_ yJ10_rotateRight cJ10_rotateRight 3 (Option.none : Option Jvm.ClassFile.FieldType)) 1 12 0 0 [.ref q, .ref nx] [ob g q 14 [.null, va_rf vs, .null, va_rf rt, .int (jI sz), .int (jI mc), .null, .null, .null], nd g Ks ka va L R P cl] (fun v9 Ws9 => ∃ L1 : OP, ∃ R1 : OP, ∃ P1 : OP, ∃ rt1 : Option Nat, ∃ lo1 : Nat → Int, ∃ hi1 : Nat → Int, v9 = none ∧ (RotR L R P rt nx r L1 R1 P1 rt1) ∧ (TrI Ks L1 R1 P1 rk lo1 hi1 rt1) ∧ (∀ t, lo1 t = if t = nx then rk r else lo t) ∧ (∀ t, hi1 t = if t = r then hi nx else hi t) ∧ Ws9 = [ob g q 14 [.null, va_rf vs, .null, va_rf rt1, .int (jI sz), .int (jI mc), .null, .null, .null], nd g Ks ka va L1 R1 P1 cl]) (nox) := by
  refine Ct.of (cc := cJ10_rotateRight) (nL := 3) (ret := (Option.none : Option Jvm.ClassFile.FieldType)) (by decide) rfl (Nat.le_of_ble_eq_true rfl) ?_
  intro x hg hl hPo hPx hmc hms F
  subst hg; subst hl
  refine SW.cast (L' := [(0, .ref q), (1, .ref nx)]) ?_ rfl rfl rfl
  have hrK : r ∈ Ks := (hT.l hx hr).1
  have hxr : nx ≠ r := hT.neL hx hr
  refine sw_aload_n (n := 1) F 1 (some nx) rfl rfl rfl dJ10_rotateRight_0 rfl ?_
  refine sw_ifnull (n := 4) F (o := (some nx)) rfl (tgt := 95) dJ10_rotateRight_1 (by decide) rfl (fun c_1 => ?_) (fun _ _ => ?_)
  · cases c_1
  ·
    refine sw_aload_n (n := 5) F 1 (some nx) rfl rfl rfl dJ10_rotateRight_4 rfl ?_
    refine sw_getK (n := 8) F (nd_hO 1 rfl hx) (k := 2) ⟨(RJ41, TJ41, 6), rfl, by decide, q3149, in_J41, Or.inl rfl⟩ (v := .ref r) (congrArg (fun o9 => some (va_rf o9)) hr) dJ10_rotateRight_5 rfl ?_
    refine sw_astore_n (n := 9) F (some r) (L2 := [(2, .ref r), (0, .ref q), (1, .ref nx)]) rfl rfl (by decide) rfl dJ10_rotateRight_8 rfl ?_
    refine sw_aload_n (n := 10) F 2 (some nx) rfl rfl rfl dJ10_rotateRight_9 rfl ?_
    refine sw_aload_n (n := 11) F 0 (some r) rfl rfl rfl dJ10_rotateRight_10 rfl ?_
    refine sw_getK (n := 14) F (nd_hO 1 rfl hrK) (k := 3) ⟨(RJ41, TJ41, 6), rfl, by decide, q3150, in_J41, Or.inl rfl⟩ (v := va_rf (R r)) rfl dJ10_rotateRight_11 rfl ?_
    refine sw_perm [1, 0] rfl [nd (xg x) Ks ka va L R P cl, ob (xg x) q 14 [.null, va_rf vs, .null, va_rf rt, .int (jI sz), .int (jI mc), .null, .null, .null]] rfl ?_
    refine sw_ndput (ka' := ka) (va' := va) (L' := (va_up L nx (R r))) (R' := R) (P' := P) (cl' := cl) F hx (k := 2) ⟨(RJ41, TJ41, 6), rfl, by decide, q3149, in_J41, Or.inl rfl⟩ (tyJ41 2) ⟨(RJ41, TJ41, 6), rfl, rfl, tyJ41_ok 2 (by decide), nmJ41, tyJ41, tyJ41_ok⟩ (va_rf_nar _ (by decide)) (va_rf_fit _ (by decide)) (by decide) (by simp [flN, va_up, va_rf]) (fun t9 h9 => by simp [flN, va_up, h9]) dJ10_rotateRight_14 rfl ?_
    show SW x [nd (xg x) Ks ka va (va_up L nx (R r)) R P cl, ob (xg x) q 14 [.null, va_rf vs, .null, va_rf rt, .int (jI sz), .int (jI mc), .null, .null, .null]] _ _ _ _ _
    refine sw_aload_n (n := 18) F 0 (some r) rfl rfl rfl dJ10_rotateRight_17 rfl ?_
    refine sw_getK (n := 21) F (nd_hO 0 rfl hrK) (k := 3) ⟨(RJ41, TJ41, 6), rfl, by decide, q3150, in_J41, Or.inl rfl⟩ (v := va_rf (R r)) rfl dJ10_rotateRight_18 rfl ?_
    refine sw_ifnull (n := 24) F (o := (R r)) rfl (tgt := 32) dJ10_rotateRight_21 (by decide) rfl (fun c_21 => ?_) (fun q_1 c_21 => ?_)
    ·
      refine sw_aload_n (n := 33) F 0 (some r) rfl rfl rfl dJ10_rotateRight_32 rfl ?_
      refine sw_aload_n (n := 34) F 2 (some nx) rfl rfl rfl dJ10_rotateRight_33 rfl ?_
      refine sw_getK (n := 37) F (nd_hO 0 rfl hx) (k := 4) ⟨(RJ41, TJ41, 6), rfl, by decide, q3152, in_J41, Or.inl rfl⟩ (v := va_rf (P nx)) rfl dJ10_rotateRight_34 rfl ?_
      refine sw_ndput (ka' := ka) (va' := va) (L' := (va_up L nx (R r))) (R' := R) (P' := (va_up P r (P nx))) (cl' := cl) F hrK (k := 4) ⟨(RJ41, TJ41, 6), rfl, by decide, q3152, in_J41, Or.inl rfl⟩ (tyJ41 4) ⟨(RJ41, TJ41, 6), rfl, rfl, tyJ41_ok 4 (by decide), nmJ41, tyJ41, tyJ41_ok⟩ (va_rf_nar _ (by decide)) (va_rf_fit _ (by decide)) (by decide) (by simp [flN, va_up, va_rf]) (fun t9 h9 => by simp [flN, va_up, h9]) dJ10_rotateRight_37 rfl ?_
      show SW x [nd (xg x) Ks ka va (va_up L nx (R r)) R (va_up P r (P nx)) cl, ob (xg x) q 14 [.null, va_rf vs, .null, va_rf rt, .int (jI sz), .int (jI mc), .null, .null, .null]] _ _ _ _ _
      refine sw_aload_n (n := 41) F 2 (some nx) rfl rfl rfl dJ10_rotateRight_40 rfl ?_
      refine sw_getK (n := 44) F (nd_hO 0 rfl hx) (k := 4) ⟨(RJ41, TJ41, 6), rfl, by decide, q3152, in_J41, Or.inl rfl⟩ (v := va_rf (P nx)) (congrArg (fun o9 => some (va_rf o9)) (va_up_ne _ _ hxr)) dJ10_rotateRight_41 rfl ?_
      refine sw_ifnonnull (n := 47) F (o := (P nx)) rfl (tgt := 55) dJ10_rotateRight_44 (by decide) rfl (fun q_2 c_44 => ?_) (fun c_44 => ?_)
      ·
        refine sw_aload_n (n := 56) F 2 (some nx) rfl rfl rfl dJ10_rotateRight_55 rfl ?_
        refine sw_getK (n := 59) F (nd_hO 0 rfl hx) (k := 4) ⟨(RJ41, TJ41, 6), rfl, by decide, q3152, in_J41, Or.inl rfl⟩ (v := .ref q_2) (congrArg (fun o9 => some (va_rf o9)) (Eq.trans (va_up_ne _ _ hxr) c_44)) dJ10_rotateRight_56 rfl ?_
        have hpK : q_2 ∈ Ks := (hT.p hx c_44).1
        have hpn : q_2 ≠ nx := fun e9 => hT.neP hx c_44 e9.symm
        refine sw_getK (n := 62) F (nd_hO 0 rfl hpK) (k := 3) ⟨(RJ41, TJ41, 6), rfl, by decide, q3150, in_J41, Or.inl rfl⟩ (v := va_rf (R q_2)) rfl dJ10_rotateRight_59 rfl ?_
        refine sw_aload_n (n := 63) F 2 (some nx) rfl rfl rfl dJ10_rotateRight_62 rfl ?_
        refine sw_acmp_ne (n := 66) F (rx := (R q_2)) (ry := (some nx)) rfl rfl (tgt := 77) dJ10_rotateRight_63 (by decide) rfl (fun c_63 => ?_) (fun c_63 => ?_)
        ·
          refine sw_aload_n (n := 78) F 2 (some nx) rfl rfl rfl dJ10_rotateRight_77 rfl ?_
          refine sw_getK (n := 81) F (nd_hO 0 rfl hx) (k := 4) ⟨(RJ41, TJ41, 6), rfl, by decide, q3152, in_J41, Or.inl rfl⟩ (v := .ref q_2) (congrArg (fun o9 => some (va_rf o9)) (Eq.trans (va_up_ne _ _ hxr) c_44)) dJ10_rotateRight_78 rfl ?_
          refine sw_aload_n (n := 82) F 0 (some r) rfl rfl rfl dJ10_rotateRight_81 rfl ?_
          refine sw_ndput (ka' := ka) (va' := va) (L' := (va_up (va_up L nx (R r)) q_2 (some r))) (R' := R) (P' := (va_up P r (P nx))) (cl' := cl) F hpK (k := 2) ⟨(RJ41, TJ41, 6), rfl, by decide, q3149, in_J41, Or.inl rfl⟩ (tyJ41 2) ⟨(RJ41, TJ41, 6), rfl, rfl, tyJ41_ok 2 (by decide), nmJ41, tyJ41, tyJ41_ok⟩ rfl rfl (by decide) (by simp [flN, va_up, va_rf]) (fun t9 h9 => by simp [flN, va_up, h9]) dJ10_rotateRight_82 rfl ?_
          show SW x [nd (xg x) Ks ka va (va_up (va_up L nx (R r)) q_2 (some r)) R (va_up P r (P nx)) cl, ob (xg x) q 14 [.null, va_rf vs, .null, va_rf rt, .int (jI sz), .int (jI mc), .null, .null, .null]] _ _ _ _ _
          refine sw_aload_n (n := 86) F 0 (some r) rfl rfl rfl dJ10_rotateRight_85 rfl ?_
          refine sw_aload_n (n := 87) F 2 (some nx) rfl rfl rfl dJ10_rotateRight_86 rfl ?_
          refine sw_ndput (ka' := ka) (va' := va) (L' := (va_up (va_up L nx (R r)) q_2 (some r))) (R' := (va_up R r (some nx))) (P' := (va_up P r (P nx))) (cl' := cl) F hrK (k := 3) ⟨(RJ41, TJ41, 6), rfl, by decide, q3150, in_J41, Or.inl rfl⟩ (tyJ41 3) ⟨(RJ41, TJ41, 6), rfl, rfl, tyJ41_ok 3 (by decide), nmJ41, tyJ41, tyJ41_ok⟩ rfl rfl (by decide) (by simp [flN, va_up, va_rf]) (fun t9 h9 => by simp [flN, va_up, h9]) dJ10_rotateRight_87 rfl ?_
          show SW x [nd (xg x) Ks ka va (va_up (va_up L nx (R r)) q_2 (some r)) (va_up R r (some nx)) (va_up P r (P nx)) cl, ob (xg x) q 14 [.null, va_rf vs, .null, va_rf rt, .int (jI sz), .int (jI mc), .null, .null, .null]] _ _ _ _ _
          refine sw_aload_n (n := 91) F 2 (some nx) rfl rfl rfl dJ10_rotateRight_90 rfl ?_
          refine sw_aload_n (n := 92) F 0 (some r) rfl rfl rfl dJ10_rotateRight_91 rfl ?_
          refine sw_ndput (ka' := ka) (va' := va) (L' := (va_up (va_up L nx (R r)) q_2 (some r))) (R' := (va_up R r (some nx))) (P' := (va_up (va_up P r (P nx)) nx (some r))) (cl' := cl) F hx (k := 4) ⟨(RJ41, TJ41, 6), rfl, by decide, q3152, in_J41, Or.inl rfl⟩ (tyJ41 4) ⟨(RJ41, TJ41, 6), rfl, rfl, tyJ41_ok 4 (by decide), nmJ41, tyJ41, tyJ41_ok⟩ rfl rfl (by decide) (by simp [flN, va_up, va_rf]) (fun t9 h9 => by simp [flN, va_up, h9]) dJ10_rotateRight_92 rfl ?_
          show SW x [nd (xg x) Ks ka va (va_up (va_up L nx (R r)) q_2 (some r)) (va_up R r (some nx)) (va_up (va_up P r (P nx)) nx (some r)) cl, ob (xg x) q 14 [.null, va_rf vs, .null, va_rf rt, .int (jI sz), .int (jI mc), .null, .null, .null]] _ _ _ _ _
          have hRot : RotR L R P rt nx r (va_up (va_up L nx (R r)) q_2 (some r)) (va_up R r (some nx)) (va_up (va_up P r (P nx)) nx (some r)) rt := by
            refine ⟨fun t => ?_, fun t => ?_, fun t => ?_, ?_⟩ <;> (try unfold va_up) <;> grind
          refine sw_perm [1, 0] rfl [ob (xg x) q 14 [.null, va_rf vs, .null, va_rf rt, .int (jI sz), .int (jI mc), .null, .null, .null], nd (xg x) Ks ka va (va_up (va_up L nx (R r)) q_2 (some r)) (va_up R r (some nx)) (va_up (va_up P r (P nx)) nx (some r)) cl] rfl ?_
          exact sw_vret F rfl dJ10_rotateRight_95 (by rw [hPo]; exact ⟨va_up (va_up L nx (R r)) q_2 (some r), va_up R r (some nx), va_up (va_up P r (P nx)) nx (some r), rt, fun t => if t = nx then rk r else lo t, fun t => if t = r then hi nx else hi t, rfl, (by exact hRot), (by exact hT.rotR hx hr hRot), (by intro t; rfl), (by intro t; rfl), rfl⟩)
        ·
          refine sw_aload_n (n := 67) F 2 (some nx) rfl rfl rfl dJ10_rotateRight_66 rfl ?_
          refine sw_getK (n := 70) F (nd_hO 0 rfl hx) (k := 4) ⟨(RJ41, TJ41, 6), rfl, by decide, q3152, in_J41, Or.inl rfl⟩ (v := .ref q_2) (congrArg (fun o9 => some (va_rf o9)) (Eq.trans (va_up_ne _ _ hxr) c_44)) dJ10_rotateRight_67 rfl ?_
          refine sw_aload_n (n := 71) F 0 (some r) rfl rfl rfl dJ10_rotateRight_70 rfl ?_
          refine sw_ndput (ka' := ka) (va' := va) (L' := (va_up L nx (R r))) (R' := (va_up R q_2 (some r))) (P' := (va_up P r (P nx))) (cl' := cl) F hpK (k := 3) ⟨(RJ41, TJ41, 6), rfl, by decide, q3150, in_J41, Or.inl rfl⟩ (tyJ41 3) ⟨(RJ41, TJ41, 6), rfl, rfl, tyJ41_ok 3 (by decide), nmJ41, tyJ41, tyJ41_ok⟩ rfl rfl (by decide) (by simp [flN, va_up, va_rf]) (fun t9 h9 => by simp [flN, va_up, h9]) dJ10_rotateRight_71 rfl ?_
          show SW x [nd (xg x) Ks ka va (va_up L nx (R r)) (va_up R q_2 (some r)) (va_up P r (P nx)) cl, ob (xg x) q 14 [.null, va_rf vs, .null, va_rf rt, .int (jI sz), .int (jI mc), .null, .null, .null]] _ _ _ _ _
          refine sw_goto F (n := 85) dJ10_rotateRight_74 (by decide) ?_
          refine sw_aload_n (n := 86) F 0 (some r) rfl rfl rfl dJ10_rotateRight_85 rfl ?_
          refine sw_aload_n (n := 87) F 2 (some nx) rfl rfl rfl dJ10_rotateRight_86 rfl ?_
          refine sw_ndput (ka' := ka) (va' := va) (L' := (va_up L nx (R r))) (R' := (va_up (va_up R q_2 (some r)) r (some nx))) (P' := (va_up P r (P nx))) (cl' := cl) F hrK (k := 3) ⟨(RJ41, TJ41, 6), rfl, by decide, q3150, in_J41, Or.inl rfl⟩ (tyJ41 3) ⟨(RJ41, TJ41, 6), rfl, rfl, tyJ41_ok 3 (by decide), nmJ41, tyJ41, tyJ41_ok⟩ rfl rfl (by decide) (by simp [flN, va_up, va_rf]) (fun t9 h9 => by simp [flN, va_up, h9]) dJ10_rotateRight_87 rfl ?_
          show SW x [nd (xg x) Ks ka va (va_up L nx (R r)) (va_up (va_up R q_2 (some r)) r (some nx)) (va_up P r (P nx)) cl, ob (xg x) q 14 [.null, va_rf vs, .null, va_rf rt, .int (jI sz), .int (jI mc), .null, .null, .null]] _ _ _ _ _
          refine sw_aload_n (n := 91) F 2 (some nx) rfl rfl rfl dJ10_rotateRight_90 rfl ?_
          refine sw_aload_n (n := 92) F 0 (some r) rfl rfl rfl dJ10_rotateRight_91 rfl ?_
          refine sw_ndput (ka' := ka) (va' := va) (L' := (va_up L nx (R r))) (R' := (va_up (va_up R q_2 (some r)) r (some nx))) (P' := (va_up (va_up P r (P nx)) nx (some r))) (cl' := cl) F hx (k := 4) ⟨(RJ41, TJ41, 6), rfl, by decide, q3152, in_J41, Or.inl rfl⟩ (tyJ41 4) ⟨(RJ41, TJ41, 6), rfl, rfl, tyJ41_ok 4 (by decide), nmJ41, tyJ41, tyJ41_ok⟩ rfl rfl (by decide) (by simp [flN, va_up, va_rf]) (fun t9 h9 => by simp [flN, va_up, h9]) dJ10_rotateRight_92 rfl ?_
          show SW x [nd (xg x) Ks ka va (va_up L nx (R r)) (va_up (va_up R q_2 (some r)) r (some nx)) (va_up (va_up P r (P nx)) nx (some r)) cl, ob (xg x) q 14 [.null, va_rf vs, .null, va_rf rt, .int (jI sz), .int (jI mc), .null, .null, .null]] _ _ _ _ _
          have hRot : RotR L R P rt nx r (va_up L nx (R r)) (va_up (va_up R q_2 (some r)) r (some nx)) (va_up (va_up P r (P nx)) nx (some r)) rt := by
            refine ⟨fun t => ?_, fun t => ?_, fun t => ?_, ?_⟩ <;> (try unfold va_up) <;> grind
          refine sw_perm [1, 0] rfl [ob (xg x) q 14 [.null, va_rf vs, .null, va_rf rt, .int (jI sz), .int (jI mc), .null, .null, .null], nd (xg x) Ks ka va (va_up L nx (R r)) (va_up (va_up R q_2 (some r)) r (some nx)) (va_up (va_up P r (P nx)) nx (some r)) cl] rfl ?_
          exact sw_vret F rfl dJ10_rotateRight_95 (by rw [hPo]; exact ⟨va_up L nx (R r), va_up (va_up R q_2 (some r)) r (some nx), va_up (va_up P r (P nx)) nx (some r), rt, fun t => if t = nx then rk r else lo t, fun t => if t = r then hi nx else hi t, rfl, (by exact hRot), (by exact hT.rotR hx hr hRot), (by intro t; rfl), (by intro t; rfl), rfl⟩)
      ·
        refine sw_aload_n (n := 48) F 1 (some q) rfl rfl rfl dJ10_rotateRight_47 rfl ?_
        refine sw_aload_n (n := 49) F 0 (some r) rfl rfl rfl dJ10_rotateRight_48 rfl ?_
        refine sw_put (n := 52) F 1 rfl (k := 3) ⟨(RJ10, TJ10, 9), rfl, by decide, q288, in_J10, Or.inl rfl⟩ (tyJ10 3) ⟨(RJ10, TJ10, 9), rfl, rfl, tyJ10_ok 3 (by decide), nmJ10, tyJ10, tyJ10_ok⟩ rfl rfl (Nat.le_of_ble_eq_true rfl) rfl [nd (xg x) Ks ka va (va_up L nx (R r)) R (va_up P r (P nx)) cl, ob (xg x) q 14 [.null, va_rf vs, .null, .ref r, .int (jI sz), .int (jI mc), .null, .null, .null]] rfl dJ10_rotateRight_49 rfl ?_
        refine sw_goto F (n := 85) dJ10_rotateRight_52 (by decide) ?_
        refine sw_aload_n (n := 86) F 0 (some r) rfl rfl rfl dJ10_rotateRight_85 rfl ?_
        refine sw_aload_n (n := 87) F 2 (some nx) rfl rfl rfl dJ10_rotateRight_86 rfl ?_
        refine sw_ndput (ka' := ka) (va' := va) (L' := (va_up L nx (R r))) (R' := (va_up R r (some nx))) (P' := (va_up P r (P nx))) (cl' := cl) F hrK (k := 3) ⟨(RJ41, TJ41, 6), rfl, by decide, q3150, in_J41, Or.inl rfl⟩ (tyJ41 3) ⟨(RJ41, TJ41, 6), rfl, rfl, tyJ41_ok 3 (by decide), nmJ41, tyJ41, tyJ41_ok⟩ rfl rfl (by decide) (by simp [flN, va_up, va_rf]) (fun t9 h9 => by simp [flN, va_up, h9]) dJ10_rotateRight_87 rfl ?_
        show SW x [nd (xg x) Ks ka va (va_up L nx (R r)) (va_up R r (some nx)) (va_up P r (P nx)) cl, ob (xg x) q 14 [.null, va_rf vs, .null, .ref r, .int (jI sz), .int (jI mc), .null, .null, .null]] _ _ _ _ _
        refine sw_aload_n (n := 91) F 2 (some nx) rfl rfl rfl dJ10_rotateRight_90 rfl ?_
        refine sw_aload_n (n := 92) F 0 (some r) rfl rfl rfl dJ10_rotateRight_91 rfl ?_
        refine sw_ndput (ka' := ka) (va' := va) (L' := (va_up L nx (R r))) (R' := (va_up R r (some nx))) (P' := (va_up (va_up P r (P nx)) nx (some r))) (cl' := cl) F hx (k := 4) ⟨(RJ41, TJ41, 6), rfl, by decide, q3152, in_J41, Or.inl rfl⟩ (tyJ41 4) ⟨(RJ41, TJ41, 6), rfl, rfl, tyJ41_ok 4 (by decide), nmJ41, tyJ41, tyJ41_ok⟩ rfl rfl (by decide) (by simp [flN, va_up, va_rf]) (fun t9 h9 => by simp [flN, va_up, h9]) dJ10_rotateRight_92 rfl ?_
        show SW x [nd (xg x) Ks ka va (va_up L nx (R r)) (va_up R r (some nx)) (va_up (va_up P r (P nx)) nx (some r)) cl, ob (xg x) q 14 [.null, va_rf vs, .null, .ref r, .int (jI sz), .int (jI mc), .null, .null, .null]] _ _ _ _ _
        have hRot : RotR L R P rt nx r (va_up L nx (R r)) (va_up R r (some nx)) (va_up (va_up P r (P nx)) nx (some r)) (some r) := by
          refine ⟨fun t => ?_, fun t => ?_, fun t => ?_, ?_⟩ <;> (try unfold va_up) <;> grind
        refine sw_perm [1, 0] rfl [ob (xg x) q 14 [.null, va_rf vs, .null, .ref r, .int (jI sz), .int (jI mc), .null, .null, .null], nd (xg x) Ks ka va (va_up L nx (R r)) (va_up R r (some nx)) (va_up (va_up P r (P nx)) nx (some r)) cl] rfl ?_
        exact sw_vret F rfl dJ10_rotateRight_95 (by rw [hPo]; exact ⟨va_up L nx (R r), va_up R r (some nx), va_up (va_up P r (P nx)) nx (some r), some r, fun t => if t = nx then rk r else lo t, fun t => if t = r then hi nx else hi t, rfl, (by exact hRot), (by exact hT.rotR hx hr hRot), (by intro t; rfl), (by intro t; rfl), (by rfl)⟩)
    ·
      refine sw_aload_n (n := 25) F 0 (some r) rfl rfl rfl dJ10_rotateRight_24 rfl ?_
      refine sw_getK (n := 28) F (nd_hO 0 rfl hrK) (k := 3) ⟨(RJ41, TJ41, 6), rfl, by decide, q3150, in_J41, Or.inl rfl⟩ (v := .ref q_1) (congrArg (fun o9 => some (va_rf o9)) c_21) dJ10_rotateRight_25 rfl ?_
      have hq1 : q_1 ∈ Ks := (hT.r hrK c_21).1
      have hq2 : nx ≠ q_1 := fun e9 => by have g1 := hT.r hrK c_21; have g2 := hT.l hx hr; subst e9; have g3 := hT.rng hx; omega
      refine sw_aload_n (n := 29) F 2 (some nx) rfl rfl rfl dJ10_rotateRight_28 rfl ?_
      refine sw_ndput (ka' := ka) (va' := va) (L' := (va_up L nx (R r))) (R' := R) (P' := (va_up P q_1 (some nx))) (cl' := cl) F hq1 (k := 4) ⟨(RJ41, TJ41, 6), rfl, by decide, q3152, in_J41, Or.inl rfl⟩ (tyJ41 4) ⟨(RJ41, TJ41, 6), rfl, rfl, tyJ41_ok 4 (by decide), nmJ41, tyJ41, tyJ41_ok⟩ rfl rfl (by decide) (by simp [flN, va_up, va_rf]) (fun t9 h9 => by simp [flN, va_up, h9]) dJ10_rotateRight_29 rfl ?_
      show SW x [nd (xg x) Ks ka va (va_up L nx (R r)) R (va_up P q_1 (some nx)) cl, ob (xg x) q 14 [.null, va_rf vs, .null, va_rf rt, .int (jI sz), .int (jI mc), .null, .null, .null]] _ _ _ _ _
      refine sw_aload_n (n := 33) F 0 (some r) rfl rfl rfl dJ10_rotateRight_32 rfl ?_
      refine sw_aload_n (n := 34) F 2 (some nx) rfl rfl rfl dJ10_rotateRight_33 rfl ?_
      refine sw_getK (n := 37) F (nd_hO 0 rfl hx) (k := 4) ⟨(RJ41, TJ41, 6), rfl, by decide, q3152, in_J41, Or.inl rfl⟩ (v := va_rf (P nx)) (congrArg (fun o9 => some (va_rf o9)) (va_up_ne _ _ hq2)) dJ10_rotateRight_34 rfl ?_
      refine sw_ndput (ka' := ka) (va' := va) (L' := (va_up L nx (R r))) (R' := R) (P' := (va_up (va_up P q_1 (some nx)) r (P nx))) (cl' := cl) F hrK (k := 4) ⟨(RJ41, TJ41, 6), rfl, by decide, q3152, in_J41, Or.inl rfl⟩ (tyJ41 4) ⟨(RJ41, TJ41, 6), rfl, rfl, tyJ41_ok 4 (by decide), nmJ41, tyJ41, tyJ41_ok⟩ (va_rf_nar _ (by decide)) (va_rf_fit _ (by decide)) (by decide) (by simp [flN, va_up, va_rf]) (fun t9 h9 => by simp [flN, va_up, h9]) dJ10_rotateRight_37 rfl ?_
      show SW x [nd (xg x) Ks ka va (va_up L nx (R r)) R (va_up (va_up P q_1 (some nx)) r (P nx)) cl, ob (xg x) q 14 [.null, va_rf vs, .null, va_rf rt, .int (jI sz), .int (jI mc), .null, .null, .null]] _ _ _ _ _
      refine sw_aload_n (n := 41) F 2 (some nx) rfl rfl rfl dJ10_rotateRight_40 rfl ?_
      refine sw_getK (n := 44) F (nd_hO 0 rfl hx) (k := 4) ⟨(RJ41, TJ41, 6), rfl, by decide, q3152, in_J41, Or.inl rfl⟩ (v := va_rf (P nx)) (congrArg (fun o9 => some (va_rf o9)) (Eq.trans (va_up_ne _ _ hxr) (va_up_ne _ _ hq2))) dJ10_rotateRight_41 rfl ?_
      refine sw_ifnonnull (n := 47) F (o := (P nx)) rfl (tgt := 55) dJ10_rotateRight_44 (by decide) rfl (fun q_3 c_44 => ?_) (fun c_44 => ?_)
      ·
        refine sw_aload_n (n := 56) F 2 (some nx) rfl rfl rfl dJ10_rotateRight_55 rfl ?_
        refine sw_getK (n := 59) F (nd_hO 0 rfl hx) (k := 4) ⟨(RJ41, TJ41, 6), rfl, by decide, q3152, in_J41, Or.inl rfl⟩ (v := .ref q_3) (congrArg (fun o9 => some (va_rf o9)) (Eq.trans (Eq.trans (va_up_ne _ _ hxr) (va_up_ne _ _ hq2)) c_44)) dJ10_rotateRight_56 rfl ?_
        have hpK : q_3 ∈ Ks := (hT.p hx c_44).1
        have hpn : q_3 ≠ nx := fun e9 => hT.neP hx c_44 e9.symm
        refine sw_getK (n := 62) F (nd_hO 0 rfl hpK) (k := 3) ⟨(RJ41, TJ41, 6), rfl, by decide, q3150, in_J41, Or.inl rfl⟩ (v := va_rf (R q_3)) rfl dJ10_rotateRight_59 rfl ?_
        refine sw_aload_n (n := 63) F 2 (some nx) rfl rfl rfl dJ10_rotateRight_62 rfl ?_
        refine sw_acmp_ne (n := 66) F (rx := (R q_3)) (ry := (some nx)) rfl rfl (tgt := 77) dJ10_rotateRight_63 (by decide) rfl (fun c_63 => ?_) (fun c_63 => ?_)
        ·
          refine sw_aload_n (n := 78) F 2 (some nx) rfl rfl rfl dJ10_rotateRight_77 rfl ?_
          refine sw_getK (n := 81) F (nd_hO 0 rfl hx) (k := 4) ⟨(RJ41, TJ41, 6), rfl, by decide, q3152, in_J41, Or.inl rfl⟩ (v := .ref q_3) (congrArg (fun o9 => some (va_rf o9)) (Eq.trans (Eq.trans (va_up_ne _ _ hxr) (va_up_ne _ _ hq2)) c_44)) dJ10_rotateRight_78 rfl ?_
          refine sw_aload_n (n := 82) F 0 (some r) rfl rfl rfl dJ10_rotateRight_81 rfl ?_
          refine sw_ndput (ka' := ka) (va' := va) (L' := (va_up (va_up L nx (R r)) q_3 (some r))) (R' := R) (P' := (va_up (va_up P q_1 (some nx)) r (P nx))) (cl' := cl) F hpK (k := 2) ⟨(RJ41, TJ41, 6), rfl, by decide, q3149, in_J41, Or.inl rfl⟩ (tyJ41 2) ⟨(RJ41, TJ41, 6), rfl, rfl, tyJ41_ok 2 (by decide), nmJ41, tyJ41, tyJ41_ok⟩ rfl rfl (by decide) (by simp [flN, va_up, va_rf]) (fun t9 h9 => by simp [flN, va_up, h9]) dJ10_rotateRight_82 rfl ?_
          show SW x [nd (xg x) Ks ka va (va_up (va_up L nx (R r)) q_3 (some r)) R (va_up (va_up P q_1 (some nx)) r (P nx)) cl, ob (xg x) q 14 [.null, va_rf vs, .null, va_rf rt, .int (jI sz), .int (jI mc), .null, .null, .null]] _ _ _ _ _
          refine sw_aload_n (n := 86) F 0 (some r) rfl rfl rfl dJ10_rotateRight_85 rfl ?_
          refine sw_aload_n (n := 87) F 2 (some nx) rfl rfl rfl dJ10_rotateRight_86 rfl ?_
          refine sw_ndput (ka' := ka) (va' := va) (L' := (va_up (va_up L nx (R r)) q_3 (some r))) (R' := (va_up R r (some nx))) (P' := (va_up (va_up P q_1 (some nx)) r (P nx))) (cl' := cl) F hrK (k := 3) ⟨(RJ41, TJ41, 6), rfl, by decide, q3150, in_J41, Or.inl rfl⟩ (tyJ41 3) ⟨(RJ41, TJ41, 6), rfl, rfl, tyJ41_ok 3 (by decide), nmJ41, tyJ41, tyJ41_ok⟩ rfl rfl (by decide) (by simp [flN, va_up, va_rf]) (fun t9 h9 => by simp [flN, va_up, h9]) dJ10_rotateRight_87 rfl ?_
          show SW x [nd (xg x) Ks ka va (va_up (va_up L nx (R r)) q_3 (some r)) (va_up R r (some nx)) (va_up (va_up P q_1 (some nx)) r (P nx)) cl, ob (xg x) q 14 [.null, va_rf vs, .null, va_rf rt, .int (jI sz), .int (jI mc), .null, .null, .null]] _ _ _ _ _
          refine sw_aload_n (n := 91) F 2 (some nx) rfl rfl rfl dJ10_rotateRight_90 rfl ?_
          refine sw_aload_n (n := 92) F 0 (some r) rfl rfl rfl dJ10_rotateRight_91 rfl ?_
          refine sw_ndput (ka' := ka) (va' := va) (L' := (va_up (va_up L nx (R r)) q_3 (some r))) (R' := (va_up R r (some nx))) (P' := (va_up (va_up (va_up P q_1 (some nx)) r (P nx)) nx (some r))) (cl' := cl) F hx (k := 4) ⟨(RJ41, TJ41, 6), rfl, by decide, q3152, in_J41, Or.inl rfl⟩ (tyJ41 4) ⟨(RJ41, TJ41, 6), rfl, rfl, tyJ41_ok 4 (by decide), nmJ41, tyJ41, tyJ41_ok⟩ rfl rfl (by decide) (by simp [flN, va_up, va_rf]) (fun t9 h9 => by simp [flN, va_up, h9]) dJ10_rotateRight_92 rfl ?_
          show SW x [nd (xg x) Ks ka va (va_up (va_up L nx (R r)) q_3 (some r)) (va_up R r (some nx)) (va_up (va_up (va_up P q_1 (some nx)) r (P nx)) nx (some r)) cl, ob (xg x) q 14 [.null, va_rf vs, .null, va_rf rt, .int (jI sz), .int (jI mc), .null, .null, .null]] _ _ _ _ _
          have hRot : RotR L R P rt nx r (va_up (va_up L nx (R r)) q_3 (some r)) (va_up R r (some nx)) (va_up (va_up (va_up P q_1 (some nx)) r (P nx)) nx (some r)) rt := by
            refine ⟨fun t => ?_, fun t => ?_, fun t => ?_, ?_⟩ <;> (try unfold va_up) <;> grind
          refine sw_perm [1, 0] rfl [ob (xg x) q 14 [.null, va_rf vs, .null, va_rf rt, .int (jI sz), .int (jI mc), .null, .null, .null], nd (xg x) Ks ka va (va_up (va_up L nx (R r)) q_3 (some r)) (va_up R r (some nx)) (va_up (va_up (va_up P q_1 (some nx)) r (P nx)) nx (some r)) cl] rfl ?_
          exact sw_vret F rfl dJ10_rotateRight_95 (by rw [hPo]; exact ⟨va_up (va_up L nx (R r)) q_3 (some r), va_up R r (some nx), va_up (va_up (va_up P q_1 (some nx)) r (P nx)) nx (some r), rt, fun t => if t = nx then rk r else lo t, fun t => if t = r then hi nx else hi t, rfl, (by exact hRot), (by exact hT.rotR hx hr hRot), (by intro t; rfl), (by intro t; rfl), rfl⟩)
        ·
          refine sw_aload_n (n := 67) F 2 (some nx) rfl rfl rfl dJ10_rotateRight_66 rfl ?_
          refine sw_getK (n := 70) F (nd_hO 0 rfl hx) (k := 4) ⟨(RJ41, TJ41, 6), rfl, by decide, q3152, in_J41, Or.inl rfl⟩ (v := .ref q_3) (congrArg (fun o9 => some (va_rf o9)) (Eq.trans (Eq.trans (va_up_ne _ _ hxr) (va_up_ne _ _ hq2)) c_44)) dJ10_rotateRight_67 rfl ?_
          refine sw_aload_n (n := 71) F 0 (some r) rfl rfl rfl dJ10_rotateRight_70 rfl ?_
          refine sw_ndput (ka' := ka) (va' := va) (L' := (va_up L nx (R r))) (R' := (va_up R q_3 (some r))) (P' := (va_up (va_up P q_1 (some nx)) r (P nx))) (cl' := cl) F hpK (k := 3) ⟨(RJ41, TJ41, 6), rfl, by decide, q3150, in_J41, Or.inl rfl⟩ (tyJ41 3) ⟨(RJ41, TJ41, 6), rfl, rfl, tyJ41_ok 3 (by decide), nmJ41, tyJ41, tyJ41_ok⟩ rfl rfl (by decide) (by simp [flN, va_up, va_rf]) (fun t9 h9 => by simp [flN, va_up, h9]) dJ10_rotateRight_71 rfl ?_
          show SW x [nd (xg x) Ks ka va (va_up L nx (R r)) (va_up R q_3 (some r)) (va_up (va_up P q_1 (some nx)) r (P nx)) cl, ob (xg x) q 14 [.null, va_rf vs, .null, va_rf rt, .int (jI sz), .int (jI mc), .null, .null, .null]] _ _ _ _ _
          refine sw_goto F (n := 85) dJ10_rotateRight_74 (by decide) ?_
          refine sw_aload_n (n := 86) F 0 (some r) rfl rfl rfl dJ10_rotateRight_85 rfl ?_
          refine sw_aload_n (n := 87) F 2 (some nx) rfl rfl rfl dJ10_rotateRight_86 rfl ?_
          refine sw_ndput (ka' := ka) (va' := va) (L' := (va_up L nx (R r))) (R' := (va_up (va_up R q_3 (some r)) r (some nx))) (P' := (va_up (va_up P q_1 (some nx)) r (P nx))) (cl' := cl) F hrK (k := 3) ⟨(RJ41, TJ41, 6), rfl, by decide, q3150, in_J41, Or.inl rfl⟩ (tyJ41 3) ⟨(RJ41, TJ41, 6), rfl, rfl, tyJ41_ok 3 (by decide), nmJ41, tyJ41, tyJ41_ok⟩ rfl rfl (by decide) (by simp [flN, va_up, va_rf]) (fun t9 h9 => by simp [flN, va_up, h9]) dJ10_rotateRight_87 rfl ?_
          show SW x [nd (xg x) Ks ka va (va_up L nx (R r)) (va_up (va_up R q_3 (some r)) r (some nx)) (va_up (va_up P q_1 (some nx)) r (P nx)) cl, ob (xg x) q 14 [.null, va_rf vs, .null, va_rf rt, .int (jI sz), .int (jI mc), .null, .null, .null]] _ _ _ _ _
          refine sw_aload_n (n := 91) F 2 (some nx) rfl rfl rfl dJ10_rotateRight_90 rfl ?_
          refine sw_aload_n (n := 92) F 0 (some r) rfl rfl rfl dJ10_rotateRight_91 rfl ?_
          refine sw_ndput (ka' := ka) (va' := va) (L' := (va_up L nx (R r))) (R' := (va_up (va_up R q_3 (some r)) r (some nx))) (P' := (va_up (va_up (va_up P q_1 (some nx)) r (P nx)) nx (some r))) (cl' := cl) F hx (k := 4) ⟨(RJ41, TJ41, 6), rfl, by decide, q3152, in_J41, Or.inl rfl⟩ (tyJ41 4) ⟨(RJ41, TJ41, 6), rfl, rfl, tyJ41_ok 4 (by decide), nmJ41, tyJ41, tyJ41_ok⟩ rfl rfl (by decide) (by simp [flN, va_up, va_rf]) (fun t9 h9 => by simp [flN, va_up, h9]) dJ10_rotateRight_92 rfl ?_
          show SW x [nd (xg x) Ks ka va (va_up L nx (R r)) (va_up (va_up R q_3 (some r)) r (some nx)) (va_up (va_up (va_up P q_1 (some nx)) r (P nx)) nx (some r)) cl, ob (xg x) q 14 [.null, va_rf vs, .null, va_rf rt, .int (jI sz), .int (jI mc), .null, .null, .null]] _ _ _ _ _
          have hRot : RotR L R P rt nx r (va_up L nx (R r)) (va_up (va_up R q_3 (some r)) r (some nx)) (va_up (va_up (va_up P q_1 (some nx)) r (P nx)) nx (some r)) rt := by
            refine ⟨fun t => ?_, fun t => ?_, fun t => ?_, ?_⟩ <;> (try unfold va_up) <;> grind
          refine sw_perm [1, 0] rfl [ob (xg x) q 14 [.null, va_rf vs, .null, va_rf rt, .int (jI sz), .int (jI mc), .null, .null, .null], nd (xg x) Ks ka va (va_up L nx (R r)) (va_up (va_up R q_3 (some r)) r (some nx)) (va_up (va_up (va_up P q_1 (some nx)) r (P nx)) nx (some r)) cl] rfl ?_
          exact sw_vret F rfl dJ10_rotateRight_95 (by rw [hPo]; exact ⟨va_up L nx (R r), va_up (va_up R q_3 (some r)) r (some nx), va_up (va_up (va_up P q_1 (some nx)) r (P nx)) nx (some r), rt, fun t => if t = nx then rk r else lo t, fun t => if t = r then hi nx else hi t, rfl, (by exact hRot), (by exact hT.rotR hx hr hRot), (by intro t; rfl), (by intro t; rfl), rfl⟩)
      ·
        refine sw_aload_n (n := 48) F 1 (some q) rfl rfl rfl dJ10_rotateRight_47 rfl ?_
        refine sw_aload_n (n := 49) F 0 (some r) rfl rfl rfl dJ10_rotateRight_48 rfl ?_
        refine sw_put (n := 52) F 1 rfl (k := 3) ⟨(RJ10, TJ10, 9), rfl, by decide, q288, in_J10, Or.inl rfl⟩ (tyJ10 3) ⟨(RJ10, TJ10, 9), rfl, rfl, tyJ10_ok 3 (by decide), nmJ10, tyJ10, tyJ10_ok⟩ rfl rfl (Nat.le_of_ble_eq_true rfl) rfl [nd (xg x) Ks ka va (va_up L nx (R r)) R (va_up (va_up P q_1 (some nx)) r (P nx)) cl, ob (xg x) q 14 [.null, va_rf vs, .null, .ref r, .int (jI sz), .int (jI mc), .null, .null, .null]] rfl dJ10_rotateRight_49 rfl ?_
        refine sw_goto F (n := 85) dJ10_rotateRight_52 (by decide) ?_
        refine sw_aload_n (n := 86) F 0 (some r) rfl rfl rfl dJ10_rotateRight_85 rfl ?_
        refine sw_aload_n (n := 87) F 2 (some nx) rfl rfl rfl dJ10_rotateRight_86 rfl ?_
        refine sw_ndput (ka' := ka) (va' := va) (L' := (va_up L nx (R r))) (R' := (va_up R r (some nx))) (P' := (va_up (va_up P q_1 (some nx)) r (P nx))) (cl' := cl) F hrK (k := 3) ⟨(RJ41, TJ41, 6), rfl, by decide, q3150, in_J41, Or.inl rfl⟩ (tyJ41 3) ⟨(RJ41, TJ41, 6), rfl, rfl, tyJ41_ok 3 (by decide), nmJ41, tyJ41, tyJ41_ok⟩ rfl rfl (by decide) (by simp [flN, va_up, va_rf]) (fun t9 h9 => by simp [flN, va_up, h9]) dJ10_rotateRight_87 rfl ?_
        show SW x [nd (xg x) Ks ka va (va_up L nx (R r)) (va_up R r (some nx)) (va_up (va_up P q_1 (some nx)) r (P nx)) cl, ob (xg x) q 14 [.null, va_rf vs, .null, .ref r, .int (jI sz), .int (jI mc), .null, .null, .null]] _ _ _ _ _
        refine sw_aload_n (n := 91) F 2 (some nx) rfl rfl rfl dJ10_rotateRight_90 rfl ?_
        refine sw_aload_n (n := 92) F 0 (some r) rfl rfl rfl dJ10_rotateRight_91 rfl ?_
        refine sw_ndput (ka' := ka) (va' := va) (L' := (va_up L nx (R r))) (R' := (va_up R r (some nx))) (P' := (va_up (va_up (va_up P q_1 (some nx)) r (P nx)) nx (some r))) (cl' := cl) F hx (k := 4) ⟨(RJ41, TJ41, 6), rfl, by decide, q3152, in_J41, Or.inl rfl⟩ (tyJ41 4) ⟨(RJ41, TJ41, 6), rfl, rfl, tyJ41_ok 4 (by decide), nmJ41, tyJ41, tyJ41_ok⟩ rfl rfl (by decide) (by simp [flN, va_up, va_rf]) (fun t9 h9 => by simp [flN, va_up, h9]) dJ10_rotateRight_92 rfl ?_
        show SW x [nd (xg x) Ks ka va (va_up L nx (R r)) (va_up R r (some nx)) (va_up (va_up (va_up P q_1 (some nx)) r (P nx)) nx (some r)) cl, ob (xg x) q 14 [.null, va_rf vs, .null, .ref r, .int (jI sz), .int (jI mc), .null, .null, .null]] _ _ _ _ _
        have hRot : RotR L R P rt nx r (va_up L nx (R r)) (va_up R r (some nx)) (va_up (va_up (va_up P q_1 (some nx)) r (P nx)) nx (some r)) (some r) := by
          refine ⟨fun t => ?_, fun t => ?_, fun t => ?_, ?_⟩ <;> (try unfold va_up) <;> grind
        refine sw_perm [1, 0] rfl [ob (xg x) q 14 [.null, va_rf vs, .null, .ref r, .int (jI sz), .int (jI mc), .null, .null, .null], nd (xg x) Ks ka va (va_up L nx (R r)) (va_up R r (some nx)) (va_up (va_up (va_up P q_1 (some nx)) r (P nx)) nx (some r)) cl] rfl ?_
        exact sw_vret F rfl dJ10_rotateRight_95 (by rw [hPo]; exact ⟨va_up L nx (R r), va_up R r (some nx), va_up (va_up (va_up P q_1 (some nx)) r (P nx)) nx (some r), some r, fun t => if t = nx then rk r else lo t, fun t => if t = r then hi nx else hi t, rfl, (by exact hRot), (by exact hT.rotR hx hr hRot), (by intro t; rfl), (by intro t; rfl), (by rfl)⟩)
set_option maxRecDepth 100000 in
set_option maxHeartbeats 16000000 in
theorem ct_J10_rotateRight_n {g : GG} {l : Launch} (q : Nat)  : Ct g l yJ10_rotateRight (ws_ yJ10_rotateRight cJ10_rotateRight 3 (Option.none : Option Jvm.ClassFile.FieldType)) 1 12 0 0 [.ref q, .null] [] (fun v9 Ws9 => v9 = none ∧ Ws9 = []) (nox) := by
  refine Ct.of (cc := cJ10_rotateRight) (nL := 3) (ret := (Option.none : Option Jvm.ClassFile.FieldType)) (by decide) rfl (Nat.le_of_ble_eq_true rfl) ?_
  intro x hg hl hPo hPx hmc hms F
  subst hg; subst hl
  refine SW.cast (L' := [(0, .ref q), (1, .null)]) ?_ rfl rfl rfl
  refine sw_aload_n (n := 1) F 1 none rfl rfl rfl dJ10_rotateRight_0 rfl ?_
  refine sw_ifnull (n := 4) F (o := none) rfl (tgt := 95) dJ10_rotateRight_1 (by decide) rfl (fun c_1 => ?_) (fun _ _ => ?_)
  ·
    exact sw_vret F rfl dJ10_rotateRight_95 (by rw [hPo]; exact ⟨rfl, rfl⟩)
  · rename_i hq; cases hq
theorem nd_J10_fixAfterInsertion : yJ10_fixAfterInsertion.cls ≠ "java/lang/invoke/MethodHandle" ∧ yJ10_fixAfterInsertion.cls ≠ "java/lang/invoke/VarHandle" ∧ (parseMethodDescriptor yJ10_fixAfterInsertion.desc).map (fun d => d.parameters.length) = some 1 := by decide +kernel
set_option maxRecDepth 100000 in
set_option maxHeartbeats 16000000 in
theorem ct_J10_fixAfterInsertion {g : GG} {l : Launch} (Ks : List Nat) (ka : Nat → Nat) (va : Nat → Nat) (L : OP) (R : OP) (P : OP) (cl : Nat → Int) (q : Nat) (vs : Option Nat) (rt : Option Nat) (sz : Int) (mc : Int) (rk : Nat → Int) (lo : Nat → Int) (hi : Nat → Int) (nx : Nat) (hT : TrI Ks L R P rk lo hi rt) (hx : nx ∈ Ks) (hcb : ∀ t, cl t = 0 ∨ cl t = 1) : Ct g l yJ10_fixAfterInsertion (ws_ yJ10_fixAfterInsertion cJ10_fixAfterInsertion 3 (Option.none : Option Jvm.ClassFile.FieldType)) 2 34 0 0 [.ref q, .ref nx] [ob g q 14 [.null, va_rf vs, .null, va_rf rt, .int (jI sz), .int (jI mc), .null, .null, .null], nd g Ks ka va L R P cl] (fun v9 Ws9 => ∃ L1 : OP, ∃ R1 : OP, ∃ P1 : OP, ∃ rt1 : Option Nat, ∃ lo1 : Nat → Int, ∃ hi1 : Nat → Int, ∃ cl1 : Nat → Int, v9 = none ∧ (TrI Ks L1 R1 P1 rk lo1 hi1 rt1) ∧ (∀ t, cl1 t = 0 ∨ cl1 t = 1) ∧ Ws9 = [ob g q 14 [.null, va_rf vs, .null, va_rf rt1, .int (jI sz), .int (jI mc), .null, .null, .null], nd g Ks ka va L1 R1 P1 cl1]) (nox) := by
  refine Ct.of (cc := cJ10_fixAfterInsertion) (nL := 3) (ret := (Option.none : Option Jvm.ClassFile.FieldType)) (by decide) rfl (Nat.le_of_ble_eq_true rfl) ?_
  intro x hg hl hPo hPx hmc hms F
  subst hg; subst hl
  refine SW.cast (L' := [(0, .ref q), (1, .ref nx)]) ?_ rfl rfl rfl
  refine sw_aload_n (n := 1) F 1 (some nx) rfl rfl rfl dJ10_fixAfterInsertion_0 rfl ?_
  refine sw_iconst (n := 2) F (0) (by decide) dJ10_fixAfterInsertion_1 rfl ?_
  refine sw_perm [1, 0] rfl [nd (xg x) Ks ka va L R P cl, ob (xg x) q 14 [.null, va_rf vs, .null, va_rf rt, .int (jI sz), .int (jI mc), .null, .null, .null]] rfl ?_
  refine sw_ndput (ka' := ka) (va' := va) (L' := L) (R' := R) (P' := P) (cl' := (va_up cl nx 0)) F hx (k := 5) ⟨(RJ41, TJ41, 6), rfl, by decide, q3154, in_J41, Or.inl rfl⟩ .boolean ⟨(RJ41, TJ41, 6), rfl, rfl, tyJ41_ok 5 (by decide), nmJ41, tyJ41, tyJ41_ok⟩ (jI_nz (by first | decide | omega)) (jI_fz (by first | decide | omega)) (by decide) (by simp [flN, va_up, va_rf]) (fun t9 h9 => by simp [flN, va_up, h9]) dJ10_fixAfterInsertion_2 rfl ?_
  show SW x [nd (xg x) Ks ka va L R P (va_up cl nx 0), ob (xg x) q 14 [.null, va_rf vs, .null, va_rf rt, .int (jI sz), .int (jI mc), .null, .null, .null]] _ _ _ _ _
  have K5 : ∀ N5 : Nat, ∀ (x2 : Nat) (L2 : OP) (R2 : OP) (P2 : OP) (c2 : Nat → Int) (rt2 : Option Nat) (lo2 : Nat → Int) (hi2 : Nat → Int), (TrI Ks L2 R2 P2 rk lo2 hi2 rt2) → (x2 ∈ Ks) → (∀ t, c2 t = 0 ∨ c2 t = 1) → ((fiM P2 c2 lo2 hi2 x2) < N5) → SW x [nd (xg x) Ks ka va L2 R2 P2 c2, ob (xg x) q 14 [.null, va_rf vs, .null, va_rf rt2, .int (jI sz), .int (jI mc), .null, .null, .null]] 0 0 5 [(0, .ref q), (1, .ref x2)] [] := by
    intro N5; induction N5 with
    | zero => intro x2 L2 R2 P2 c2 rt2 lo2 hi2 hT2 hx2 hc2 hmu5; omega
    | succ N5 ih5 =>
      intro x2 L2 R2 P2 c2 rt2 lo2 hi2 hT2 hx2 hc2 hmu5
      refine sw_aload_n (n := 6) F 1 (some x2) rfl rfl rfl dJ10_fixAfterInsertion_5 rfl ?_
      refine sw_ifnull (n := 9) F (o := (some x2)) rfl (tgt := 258) dJ10_fixAfterInsertion_6 (by decide) rfl (fun c_6 => ?_) (fun _ _ => ?_)
      · cases c_6
      ·
        refine sw_aload_n (n := 10) F 1 (some x2) rfl rfl rfl dJ10_fixAfterInsertion_9 rfl ?_
        refine sw_aload_n (n := 11) F 0 (some q) rfl rfl rfl dJ10_fixAfterInsertion_10 rfl ?_
        refine sw_get (n := 14) F 1 rfl (k := 3) ⟨(RJ10, TJ10, 9), rfl, by decide, q288, in_J10, Or.inl rfl⟩ rfl dJ10_fixAfterInsertion_11 rfl ?_
        refine sw_acmp_eq (n := 17) F (rx := (some x2)) (ry := rt2) rfl rfl (tgt := 258) dJ10_fixAfterInsertion_14 (by decide) rfl (fun c_14 => ?_) (fun c_14 => ?_)
        ·
          obtain ⟨r0, hr0, hr0K⟩ := hT2.rt1 hx2
          refine sw_aload_n (n := 259) F 0 (some q) rfl rfl rfl dJ10_fixAfterInsertion_258 rfl ?_
          refine sw_get (n := 262) F 1 rfl (k := 3) ⟨(RJ10, TJ10, 9), rfl, by decide, q288, in_J10, Or.inl rfl⟩ rfl dJ10_fixAfterInsertion_259 rfl ?_
          refine SW.cast (st' := [.ref r0]) ?_ rfl rfl (congrArg (fun o9 => va_rf o9 :: _) hr0)
          refine sw_iconst (n := 263) F (1) (by decide) dJ10_fixAfterInsertion_262 rfl ?_
          refine sw_ndput (ka' := ka) (va' := va) (L' := L2) (R' := R2) (P' := P2) (cl' := (va_up c2 r0 1)) F hr0K (k := 5) ⟨(RJ41, TJ41, 6), rfl, by decide, q3154, in_J41, Or.inl rfl⟩ .boolean ⟨(RJ41, TJ41, 6), rfl, rfl, tyJ41_ok 5 (by decide), nmJ41, tyJ41, tyJ41_ok⟩ (jI_nz (by first | decide | omega)) (jI_fz (by first | decide | omega)) (by decide) (by simp [flN, va_up, va_rf]) (fun t9 h9 => by simp [flN, va_up, h9]) dJ10_fixAfterInsertion_263 rfl ?_
          show SW x [nd (xg x) Ks ka va L2 R2 P2 (va_up c2 r0 1), ob (xg x) q 14 [.null, va_rf vs, .null, va_rf rt2, .int (jI sz), .int (jI mc), .null, .null, .null]] _ _ _ _ _
          refine sw_perm [1, 0] rfl [ob (xg x) q 14 [.null, va_rf vs, .null, va_rf rt2, .int (jI sz), .int (jI mc), .null, .null, .null], nd (xg x) Ks ka va L2 R2 P2 (va_up c2 r0 1)] rfl ?_
          exact sw_vret F rfl dJ10_fixAfterInsertion_266 (by rw [hPo]; exact ⟨L2, R2, P2, rt2, lo2, hi2, va_up c2 r0 1, rfl, hT2, (by (repeat' first | assumption | exact Or.inl rfl | exact Or.inr rfl | apply clO_b | refine cb_up ?_ ?_ | refine cb_cu ?_ ?_)), rfl⟩)
        ·
          obtain ⟨p, hp, hpK⟩ := hT2.par hx2 c_14
          have hpc : c2 p = 0 ∨ c2 p = 1 := hc2 p
          have hxp : x2 ≠ p := hT2.neP hx2 hp
          refine sw_aload_n (n := 18) F 1 (some x2) rfl rfl rfl dJ10_fixAfterInsertion_17 rfl ?_
          refine sw_getK (n := 21) F (nd_hO 0 rfl hx2) (k := 4) ⟨(RJ41, TJ41, 6), rfl, by decide, q3152, in_J41, Or.inl rfl⟩ (v := .ref p) (congrArg (fun o9 => some (va_rf o9)) hp) dJ10_fixAfterInsertion_18 rfl ?_
          refine sw_getK (n := 24) F (nd_hO 0 rfl hpK) (k := 5) ⟨(RJ41, TJ41, 6), rfl, by decide, q3154, in_J41, Or.inl rfl⟩ (v := .int (jI (c2 p))) rfl dJ10_fixAfterInsertion_21 rfl ?_
          refine sw_if_ne (n := 27) F (by omega) (tgt := 258) dJ10_fixAfterInsertion_24 (by decide) rfl (fun c_24 => ?_) (fun c_24 => ?_)
          ·
            obtain ⟨r0, hr0, hr0K⟩ := hT2.rt1 hx2
            refine sw_aload_n (n := 259) F 0 (some q) rfl rfl rfl dJ10_fixAfterInsertion_258 rfl ?_
            refine sw_get (n := 262) F 1 rfl (k := 3) ⟨(RJ10, TJ10, 9), rfl, by decide, q288, in_J10, Or.inl rfl⟩ rfl dJ10_fixAfterInsertion_259 rfl ?_
            refine SW.cast (st' := [.ref r0]) ?_ rfl rfl (congrArg (fun o9 => va_rf o9 :: _) hr0)
            refine sw_iconst (n := 263) F (1) (by decide) dJ10_fixAfterInsertion_262 rfl ?_
            refine sw_ndput (ka' := ka) (va' := va) (L' := L2) (R' := R2) (P' := P2) (cl' := (va_up c2 r0 1)) F hr0K (k := 5) ⟨(RJ41, TJ41, 6), rfl, by decide, q3154, in_J41, Or.inl rfl⟩ .boolean ⟨(RJ41, TJ41, 6), rfl, rfl, tyJ41_ok 5 (by decide), nmJ41, tyJ41, tyJ41_ok⟩ (jI_nz (by first | decide | omega)) (jI_fz (by first | decide | omega)) (by decide) (by simp [flN, va_up, va_rf]) (fun t9 h9 => by simp [flN, va_up, h9]) dJ10_fixAfterInsertion_263 rfl ?_
            show SW x [nd (xg x) Ks ka va L2 R2 P2 (va_up c2 r0 1), ob (xg x) q 14 [.null, va_rf vs, .null, va_rf rt2, .int (jI sz), .int (jI mc), .null, .null, .null]] _ _ _ _ _
            refine sw_perm [1, 0] rfl [ob (xg x) q 14 [.null, va_rf vs, .null, va_rf rt2, .int (jI sz), .int (jI mc), .null, .null, .null], nd (xg x) Ks ka va L2 R2 P2 (va_up c2 r0 1)] rfl ?_
            exact sw_vret F rfl dJ10_fixAfterInsertion_266 (by rw [hPo]; exact ⟨L2, R2, P2, rt2, lo2, hi2, va_up c2 r0 1, rfl, hT2, (by (repeat' first | assumption | exact Or.inl rfl | exact Or.inr rfl | apply clO_b | refine cb_up ?_ ?_ | refine cb_cu ?_ ?_)), rfl⟩)
          ·
            rcases hgp : P2 p with _ | gp
            ·
              refine sw_aload_n (n := 28) F 1 (some x2) rfl rfl rfl dJ10_fixAfterInsertion_27 rfl ?_
              refine sw_callS (n := 31) F (ct_J10_parentOf (g := xg x) (l := xl x) Ks ka va L2 R2 P2 c2 (some x2) (fun x9 e9 => Option.some.inj e9 ▸ hx2)) q3177 q3178 q114 q3179 nd_J10_parentOf rfl (by decide) [0, 1] rfl [ob (xg x) q 14 [.null, va_rf vs, .null, va_rf rt2, .int (jI sz), .int (jI mc), .null, .null, .null]] rfl 0 0 ⟨by omega, by omega⟩ [] rfl (Nat.le_of_ble_eq_true rfl) dJ10_fixAfterInsertion_28 rfl (fun _ _ h => h.elim) (fun v Ws h => ?_)
              obtain ⟨rfl, rfl⟩ := h
              show SW x [nd (xg x) Ks ka va L2 R2 P2 c2, ob (xg x) q 14 [.null, va_rf vs, .null, va_rf rt2, .int (jI sz), .int (jI mc), .null, .null, .null]] _ _ _ _ [va_rf ((some x2).bind P2)]
              refine SW.cast (st' := [.ref p]) ?_ rfl rfl (congrArg (fun o9 => va_rf o9 :: _) hp)
              refine sw_aload_n (n := 32) F 1 (some x2) rfl rfl rfl dJ10_fixAfterInsertion_31 rfl ?_
              refine sw_callS (n := 35) F (ct_J10_parentOf (g := xg x) (l := xl x) Ks ka va L2 R2 P2 c2 (some x2) (fun x9 e9 => Option.some.inj e9 ▸ hx2)) q3177 q3178 q114 q3179 nd_J10_parentOf rfl (by decide) [0, 1] rfl [ob (xg x) q 14 [.null, va_rf vs, .null, va_rf rt2, .int (jI sz), .int (jI mc), .null, .null, .null]] rfl 0 0 ⟨by omega, by omega⟩ [.ref p] rfl (Nat.le_of_ble_eq_true rfl) dJ10_fixAfterInsertion_32 rfl (fun _ _ h => h.elim) (fun v Ws h => ?_)
              obtain ⟨rfl, rfl⟩ := h
              show SW x [nd (xg x) Ks ka va L2 R2 P2 c2, ob (xg x) q 14 [.null, va_rf vs, .null, va_rf rt2, .int (jI sz), .int (jI mc), .null, .null, .null]] _ _ _ _ [va_rf ((some x2).bind P2), .ref p]
              refine SW.cast (st' := [.ref p, .ref p]) ?_ rfl rfl (congrArg (fun o9 => va_rf o9 :: _) hp)
              refine sw_callS (n := 38) F (ct_J10_parentOf (g := xg x) (l := xl x) Ks ka va L2 R2 P2 c2 (some p) (fun x9 e9 => Option.some.inj e9 ▸ hpK)) q3177 q3178 q114 q3179 nd_J10_parentOf rfl (by decide) [0, 1] rfl [ob (xg x) q 14 [.null, va_rf vs, .null, va_rf rt2, .int (jI sz), .int (jI mc), .null, .null, .null]] rfl 0 0 ⟨by omega, by omega⟩ [.ref p] rfl (Nat.le_of_ble_eq_true rfl) dJ10_fixAfterInsertion_35 rfl (fun _ _ h => h.elim) (fun v Ws h => ?_)
              obtain ⟨rfl, rfl⟩ := h
              show SW x [nd (xg x) Ks ka va L2 R2 P2 c2, ob (xg x) q 14 [.null, va_rf vs, .null, va_rf rt2, .int (jI sz), .int (jI mc), .null, .null, .null]] _ _ _ _ [va_rf ((some p).bind P2), .ref p]
              refine SW.cast (st' := [.null, .ref p]) ?_ rfl rfl (congrArg (fun o9 => va_rf o9 :: _) hgp)
              refine sw_callS (n := 41) F (ct_J10_leftOf (g := xg x) (l := xl x) Ks ka va L2 R2 P2 c2 none (fun x9 e9 => by cases e9)) q3180 q3181 q114 q3182 nd_J10_leftOf rfl (by decide) [0, 1] rfl [ob (xg x) q 14 [.null, va_rf vs, .null, va_rf rt2, .int (jI sz), .int (jI mc), .null, .null, .null]] rfl 0 0 ⟨by omega, by omega⟩ [.ref p] rfl (Nat.le_of_ble_eq_true rfl) dJ10_fixAfterInsertion_38 rfl (fun _ _ h => h.elim) (fun v Ws h => ?_)
              obtain ⟨rfl, rfl⟩ := h
              show SW x [nd (xg x) Ks ka va L2 R2 P2 c2, ob (xg x) q 14 [.null, va_rf vs, .null, va_rf rt2, .int (jI sz), .int (jI mc), .null, .null, .null]] _ _ _ _ [va_rf (none.bind L2), .ref p]
              refine SW.cast (st' := [.null, .ref p]) ?_ rfl rfl rfl
              refine sw_acmp_ne (n := 44) F (rx := (some p)) (ry := none) rfl rfl (tgt := 151) dJ10_fixAfterInsertion_41 (by decide) rfl (fun c_41 => ?_) (fun c_41 => ?_)
              ·
                refine sw_aload_n (n := 152) F 1 (some x2) rfl rfl rfl dJ10_fixAfterInsertion_151 rfl ?_
                refine sw_callS (n := 155) F (ct_J10_parentOf (g := xg x) (l := xl x) Ks ka va L2 R2 P2 c2 (some x2) (fun x9 e9 => Option.some.inj e9 ▸ hx2)) q3177 q3178 q114 q3179 nd_J10_parentOf rfl (by decide) [0, 1] rfl [ob (xg x) q 14 [.null, va_rf vs, .null, va_rf rt2, .int (jI sz), .int (jI mc), .null, .null, .null]] rfl 0 0 ⟨by omega, by omega⟩ [] rfl (Nat.le_of_ble_eq_true rfl) dJ10_fixAfterInsertion_152 rfl (fun _ _ h => h.elim) (fun v Ws h => ?_)
                obtain ⟨rfl, rfl⟩ := h
                show SW x [nd (xg x) Ks ka va L2 R2 P2 c2, ob (xg x) q 14 [.null, va_rf vs, .null, va_rf rt2, .int (jI sz), .int (jI mc), .null, .null, .null]] _ _ _ _ [va_rf ((some x2).bind P2)]
                refine SW.cast (st' := [.ref p]) ?_ rfl rfl (congrArg (fun o9 => va_rf o9 :: _) hp)
                refine sw_callS (n := 158) F (ct_J10_parentOf (g := xg x) (l := xl x) Ks ka va L2 R2 P2 c2 (some p) (fun x9 e9 => Option.some.inj e9 ▸ hpK)) q3177 q3178 q114 q3179 nd_J10_parentOf rfl (by decide) [0, 1] rfl [ob (xg x) q 14 [.null, va_rf vs, .null, va_rf rt2, .int (jI sz), .int (jI mc), .null, .null, .null]] rfl 0 0 ⟨by omega, by omega⟩ [] rfl (Nat.le_of_ble_eq_true rfl) dJ10_fixAfterInsertion_155 rfl (fun _ _ h => h.elim) (fun v Ws h => ?_)
                obtain ⟨rfl, rfl⟩ := h
                show SW x [nd (xg x) Ks ka va L2 R2 P2 c2, ob (xg x) q 14 [.null, va_rf vs, .null, va_rf rt2, .int (jI sz), .int (jI mc), .null, .null, .null]] _ _ _ _ [va_rf ((some p).bind P2)]
                refine SW.cast (st' := [.null]) ?_ rfl rfl (congrArg (fun o9 => va_rf o9 :: _) hgp)
                refine sw_callS (n := 161) F (ct_J10_leftOf (g := xg x) (l := xl x) Ks ka va L2 R2 P2 c2 none (fun x9 e9 => by cases e9)) q3180 q3181 q114 q3182 nd_J10_leftOf rfl (by decide) [0, 1] rfl [ob (xg x) q 14 [.null, va_rf vs, .null, va_rf rt2, .int (jI sz), .int (jI mc), .null, .null, .null]] rfl 0 0 ⟨by omega, by omega⟩ [] rfl (Nat.le_of_ble_eq_true rfl) dJ10_fixAfterInsertion_158 rfl (fun _ _ h => h.elim) (fun v Ws h => ?_)
                obtain ⟨rfl, rfl⟩ := h
                show SW x [nd (xg x) Ks ka va L2 R2 P2 c2, ob (xg x) q 14 [.null, va_rf vs, .null, va_rf rt2, .int (jI sz), .int (jI mc), .null, .null, .null]] _ _ _ _ [va_rf (none.bind L2)]
                refine SW.cast (st' := [.null]) ?_ rfl rfl rfl
                refine sw_astore_n (n := 162) F none (L2 := [(2, .null), (0, .ref q), (1, .ref x2)]) rfl rfl (by decide) rfl dJ10_fixAfterInsertion_161 rfl ?_
                refine sw_aload_n (n := 163) F 0 none rfl rfl rfl dJ10_fixAfterInsertion_162 rfl ?_
                refine sw_callS (n := 166) F (ct_J10_colorOf (g := xg x) (l := xl x) Ks ka va L2 R2 P2 c2 none (fun x9 e9 => by cases e9) (by (repeat' first | assumption | exact Or.inl rfl | exact Or.inr rfl | apply clO_b | refine cb_up ?_ ?_ | refine cb_cu ?_ ?_))) q3186 q3187 q114 q3188 nd_J10_colorOf rfl (by decide) [0, 1] rfl [ob (xg x) q 14 [.null, va_rf vs, .null, va_rf rt2, .int (jI sz), .int (jI mc), .null, .null, .null]] rfl 0 0 ⟨by omega, by omega⟩ [] rfl (Nat.le_of_ble_eq_true rfl) dJ10_fixAfterInsertion_163 rfl (fun _ _ h => h.elim) (fun v Ws h => ?_)
                obtain ⟨rfl, rfl⟩ := h
                show SW x [nd (xg x) Ks ka va L2 R2 P2 c2, ob (xg x) q 14 [.null, va_rf vs, .null, va_rf rt2, .int (jI sz), .int (jI mc), .null, .null, .null]] _ _ _ _ [.int (jI (clO c2 none))]
                refine SW.cast (st' := [.int (jI 1)]) ?_ rfl rfl rfl
                refine sw_if_ne (n := 169) F (by decide) (tgt := 204) dJ10_fixAfterInsertion_166 (by decide) rfl (fun c_166 => ?_) (fun c_166 => ?_)
                ·
                  refine sw_aload_n (n := 205) F 2 (some x2) rfl rfl rfl dJ10_fixAfterInsertion_204 rfl ?_
                  refine sw_aload_n (n := 206) F 2 (some x2) rfl rfl rfl dJ10_fixAfterInsertion_205 rfl ?_
                  refine sw_callS (n := 209) F (ct_J10_parentOf (g := xg x) (l := xl x) Ks ka va L2 R2 P2 c2 (some x2) (fun x9 e9 => Option.some.inj e9 ▸ hx2)) q3177 q3178 q114 q3179 nd_J10_parentOf rfl (by decide) [0, 1] rfl [ob (xg x) q 14 [.null, va_rf vs, .null, va_rf rt2, .int (jI sz), .int (jI mc), .null, .null, .null]] rfl 0 0 ⟨by omega, by omega⟩ [.ref x2] rfl (Nat.le_of_ble_eq_true rfl) dJ10_fixAfterInsertion_206 rfl (fun _ _ h => h.elim) (fun v Ws h => ?_)
                  obtain ⟨rfl, rfl⟩ := h
                  show SW x [nd (xg x) Ks ka va L2 R2 P2 c2, ob (xg x) q 14 [.null, va_rf vs, .null, va_rf rt2, .int (jI sz), .int (jI mc), .null, .null, .null]] _ _ _ _ [va_rf ((some x2).bind P2), .ref x2]
                  refine SW.cast (st' := [.ref p, .ref x2]) ?_ rfl rfl (congrArg (fun o9 => va_rf o9 :: _) hp)
                  refine sw_callS (n := 212) F (ct_J10_leftOf (g := xg x) (l := xl x) Ks ka va L2 R2 P2 c2 (some p) (fun x9 e9 => Option.some.inj e9 ▸ hpK)) q3180 q3181 q114 q3182 nd_J10_leftOf rfl (by decide) [0, 1] rfl [ob (xg x) q 14 [.null, va_rf vs, .null, va_rf rt2, .int (jI sz), .int (jI mc), .null, .null, .null]] rfl 0 0 ⟨by omega, by omega⟩ [.ref x2] rfl (Nat.le_of_ble_eq_true rfl) dJ10_fixAfterInsertion_209 rfl (fun _ _ h => h.elim) (fun v Ws h => ?_)
                  obtain ⟨rfl, rfl⟩ := h
                  show SW x [nd (xg x) Ks ka va L2 R2 P2 c2, ob (xg x) q 14 [.null, va_rf vs, .null, va_rf rt2, .int (jI sz), .int (jI mc), .null, .null, .null]] _ _ _ _ [va_rf ((some p).bind L2), .ref x2]
                  refine SW.cast (st' := [va_rf (L2 p), .ref x2]) ?_ rfl rfl rfl
                  refine sw_acmp_ne (n := 215) F (rx := (some x2)) (ry := (L2 p)) rfl rfl (tgt := 225) dJ10_fixAfterInsertion_212 (by decide) rfl (fun c_212 => ?_) (fun c_212 => ?_)
                  ·
                    refine sw_aload_n (n := 226) F 2 (some x2) rfl rfl rfl dJ10_fixAfterInsertion_225 rfl ?_
                    refine sw_callS (n := 229) F (ct_J10_parentOf (g := xg x) (l := xl x) Ks ka va L2 R2 P2 c2 (some x2) (fun x9 e9 => Option.some.inj e9 ▸ hx2)) q3177 q3178 q114 q3179 nd_J10_parentOf rfl (by decide) [0, 1] rfl [ob (xg x) q 14 [.null, va_rf vs, .null, va_rf rt2, .int (jI sz), .int (jI mc), .null, .null, .null]] rfl 0 0 ⟨by omega, by omega⟩ [] rfl (Nat.le_of_ble_eq_true rfl) dJ10_fixAfterInsertion_226 rfl (fun _ _ h => h.elim) (fun v Ws h => ?_)
                    obtain ⟨rfl, rfl⟩ := h
                    show SW x [nd (xg x) Ks ka va L2 R2 P2 c2, ob (xg x) q 14 [.null, va_rf vs, .null, va_rf rt2, .int (jI sz), .int (jI mc), .null, .null, .null]] _ _ _ _ [va_rf ((some x2).bind P2)]
                    refine SW.cast (st' := [.ref p]) ?_ rfl rfl (congrArg (fun o9 => va_rf o9 :: _) hp)
                    refine sw_iconst (n := 230) F (1) (by decide) dJ10_fixAfterInsertion_229 rfl ?_
                    refine sw_callS (n := 233) F (ct_J10_setColor (g := xg x) (l := xl x) Ks ka va L2 R2 P2 c2 p 1 hpK (by first | omega | assumption)) q3189 q3190 q114 q3191 nd_J10_setColor rfl (by decide) [0, 1] rfl [ob (xg x) q 14 [.null, va_rf vs, .null, va_rf rt2, .int (jI sz), .int (jI mc), .null, .null, .null]] rfl 0 0 ⟨by omega, by omega⟩ [] rfl (Nat.le_of_ble_eq_true rfl) dJ10_fixAfterInsertion_230 rfl (fun _ _ h => h.elim) (fun v Ws h => ?_)
                    obtain ⟨rfl, rfl⟩ := h
                    show SW x [nd (xg x) Ks ka va L2 R2 P2 (va_up c2 p 1), ob (xg x) q 14 [.null, va_rf vs, .null, va_rf rt2, .int (jI sz), .int (jI mc), .null, .null, .null]] _ _ _ _ []
                    refine sw_aload_n (n := 234) F 2 (some x2) rfl rfl rfl dJ10_fixAfterInsertion_233 rfl ?_
                    refine sw_callS (n := 237) F (ct_J10_parentOf (g := xg x) (l := xl x) Ks ka va L2 R2 P2 (va_up c2 p 1) (some x2) (fun x9 e9 => Option.some.inj e9 ▸ hx2)) q3177 q3178 q114 q3179 nd_J10_parentOf rfl (by decide) [0, 1] rfl [ob (xg x) q 14 [.null, va_rf vs, .null, va_rf rt2, .int (jI sz), .int (jI mc), .null, .null, .null]] rfl 0 0 ⟨by omega, by omega⟩ [] rfl (Nat.le_of_ble_eq_true rfl) dJ10_fixAfterInsertion_234 rfl (fun _ _ h => h.elim) (fun v Ws h => ?_)
                    obtain ⟨rfl, rfl⟩ := h
                    show SW x [nd (xg x) Ks ka va L2 R2 P2 (va_up c2 p 1), ob (xg x) q 14 [.null, va_rf vs, .null, va_rf rt2, .int (jI sz), .int (jI mc), .null, .null, .null]] _ _ _ _ [va_rf ((some x2).bind P2)]
                    refine SW.cast (st' := [.ref p]) ?_ rfl rfl (congrArg (fun o9 => va_rf o9 :: _) hp)
                    refine sw_callS (n := 240) F (ct_J10_parentOf (g := xg x) (l := xl x) Ks ka va L2 R2 P2 (va_up c2 p 1) (some p) (fun x9 e9 => Option.some.inj e9 ▸ hpK)) q3177 q3178 q114 q3179 nd_J10_parentOf rfl (by decide) [0, 1] rfl [ob (xg x) q 14 [.null, va_rf vs, .null, va_rf rt2, .int (jI sz), .int (jI mc), .null, .null, .null]] rfl 0 0 ⟨by omega, by omega⟩ [] rfl (Nat.le_of_ble_eq_true rfl) dJ10_fixAfterInsertion_237 rfl (fun _ _ h => h.elim) (fun v Ws h => ?_)
                    obtain ⟨rfl, rfl⟩ := h
                    show SW x [nd (xg x) Ks ka va L2 R2 P2 (va_up c2 p 1), ob (xg x) q 14 [.null, va_rf vs, .null, va_rf rt2, .int (jI sz), .int (jI mc), .null, .null, .null]] _ _ _ _ [va_rf ((some p).bind P2)]
                    refine SW.cast (st' := [.null]) ?_ rfl rfl (congrArg (fun o9 => va_rf o9 :: _) hgp)
                    refine sw_iconst (n := 241) F (0) (by decide) dJ10_fixAfterInsertion_240 rfl ?_
                    refine sw_callS (n := 244) F (ct_J10_setColor_o (g := xg x) (l := xl x) Ks ka va L2 R2 P2 (va_up c2 p 1) none 0 (fun x9 e9 => by cases e9) (by first | omega | assumption)) q3189 q3190 q114 q3191 nd_J10_setColor rfl (by decide) [0, 1] rfl [ob (xg x) q 14 [.null, va_rf vs, .null, va_rf rt2, .int (jI sz), .int (jI mc), .null, .null, .null]] rfl 0 0 ⟨by omega, by omega⟩ [] rfl (Nat.le_of_ble_eq_true rfl) dJ10_fixAfterInsertion_241 rfl (fun _ _ h => h.elim) (fun v Ws h => ?_)
                    obtain ⟨rfl, rfl⟩ := h
                    show SW x [nd (xg x) Ks ka va L2 R2 P2 (cuO (va_up c2 p 1) none 0), ob (xg x) q 14 [.null, va_rf vs, .null, va_rf rt2, .int (jI sz), .int (jI mc), .null, .null, .null]] _ _ _ _ []
                    refine sw_aload_n (n := 245) F 1 (some q) rfl rfl rfl dJ10_fixAfterInsertion_244 rfl ?_
                    refine sw_aload_n (n := 246) F 2 (some x2) rfl rfl rfl dJ10_fixAfterInsertion_245 rfl ?_
                    refine sw_callS (n := 249) F (ct_J10_parentOf (g := xg x) (l := xl x) Ks ka va L2 R2 P2 (cuO (va_up c2 p 1) none 0) (some x2) (fun x9 e9 => Option.some.inj e9 ▸ hx2)) q3177 q3178 q114 q3179 nd_J10_parentOf rfl (by decide) [0, 1] rfl [ob (xg x) q 14 [.null, va_rf vs, .null, va_rf rt2, .int (jI sz), .int (jI mc), .null, .null, .null]] rfl 0 0 ⟨by omega, by omega⟩ [.ref q] rfl (Nat.le_of_ble_eq_true rfl) dJ10_fixAfterInsertion_246 rfl (fun _ _ h => h.elim) (fun v Ws h => ?_)
                    obtain ⟨rfl, rfl⟩ := h
                    show SW x [nd (xg x) Ks ka va L2 R2 P2 (cuO (va_up c2 p 1) none 0), ob (xg x) q 14 [.null, va_rf vs, .null, va_rf rt2, .int (jI sz), .int (jI mc), .null, .null, .null]] _ _ _ _ [va_rf ((some x2).bind P2), .ref q]
                    refine SW.cast (st' := [.ref p, .ref q]) ?_ rfl rfl (congrArg (fun o9 => va_rf o9 :: _) hp)
                    refine sw_callS (n := 252) F (ct_J10_parentOf (g := xg x) (l := xl x) Ks ka va L2 R2 P2 (cuO (va_up c2 p 1) none 0) (some p) (fun x9 e9 => Option.some.inj e9 ▸ hpK)) q3177 q3178 q114 q3179 nd_J10_parentOf rfl (by decide) [0, 1] rfl [ob (xg x) q 14 [.null, va_rf vs, .null, va_rf rt2, .int (jI sz), .int (jI mc), .null, .null, .null]] rfl 0 0 ⟨by omega, by omega⟩ [.ref q] rfl (Nat.le_of_ble_eq_true rfl) dJ10_fixAfterInsertion_249 rfl (fun _ _ h => h.elim) (fun v Ws h => ?_)
                    obtain ⟨rfl, rfl⟩ := h
                    show SW x [nd (xg x) Ks ka va L2 R2 P2 (cuO (va_up c2 p 1) none 0), ob (xg x) q 14 [.null, va_rf vs, .null, va_rf rt2, .int (jI sz), .int (jI mc), .null, .null, .null]] _ _ _ _ [va_rf ((some p).bind P2), .ref q]
                    refine SW.cast (st' := [.null, .ref q]) ?_ rfl rfl (congrArg (fun o9 => va_rf o9 :: _) hgp)
                    refine sw_callV (n := 255) F (ct_J10_rotateLeft_n (g := xg x) (l := xl x) q ) (rcv_ob F 1 rfl rfl) q3192 q3194 qs52 q114 q3195 nd_J10_rotateLeft rfl (by decide) [0, 1] rfl [nd (xg x) Ks ka va L2 R2 P2 (cuO (va_up c2 p 1) none 0), ob (xg x) q 14 [.null, va_rf vs, .null, va_rf rt2, .int (jI sz), .int (jI mc), .null, .null, .null]] rfl 0 0 ⟨by omega, by omega⟩ [] rfl (Nat.le_of_ble_eq_true rfl) dJ10_fixAfterInsertion_252 rfl (fun _ _ h => h.elim) (fun v Ws h => ?_)
                    obtain ⟨rfl, rfl⟩ := h
                    show SW x [nd (xg x) Ks ka va L2 R2 P2 (cuO (va_up c2 p 1) none 0), ob (xg x) q 14 [.null, va_rf vs, .null, va_rf rt2, .int (jI sz), .int (jI mc), .null, .null, .null]] _ _ _ _ []
                    have hpp : P2 x2 = some p := hp
                    have hm0 : fiM P2 (cuO (va_up c2 p 1) none 0) lo2 hi2 x2 = 0 := fiM_0 hpp (Eq.trans (cuO_no (by simp)) (va_up_self _ _ _))
                    have hm1 := fiM_1 (lo := lo2) (hi := hi2) hp c_24
                    refine sw_goto F (n := 5) dJ10_fixAfterInsertion_255 (by decide) ?_
                    refine sw_loc [1, 2] (L2 := [(0, .ref q), (1, .ref x2)]) rfl ?_
                    exact ih5 x2 L2 R2 P2 (cuO (va_up c2 p 1) none 0) rt2 lo2 hi2 hT2 hx2 (by (repeat' first | assumption | exact Or.inl rfl | exact Or.inr rfl | apply clO_b | refine cb_up ?_ ?_ | refine cb_cu ?_ ?_)) (by first | omega | exact Nat.lt_of_lt_of_le (hT2.fiU hx2 hp hgp c_24) (Nat.le_of_lt_succ hmu5))
                  ·
                    refine sw_aload_n (n := 216) F 2 (some x2) rfl rfl rfl dJ10_fixAfterInsertion_215 rfl ?_
                    refine sw_callS (n := 219) F (ct_J10_parentOf (g := xg x) (l := xl x) Ks ka va L2 R2 P2 c2 (some x2) (fun x9 e9 => Option.some.inj e9 ▸ hx2)) q3177 q3178 q114 q3179 nd_J10_parentOf rfl (by decide) [0, 1] rfl [ob (xg x) q 14 [.null, va_rf vs, .null, va_rf rt2, .int (jI sz), .int (jI mc), .null, .null, .null]] rfl 0 0 ⟨by omega, by omega⟩ [] rfl (Nat.le_of_ble_eq_true rfl) dJ10_fixAfterInsertion_216 rfl (fun _ _ h => h.elim) (fun v Ws h => ?_)
                    obtain ⟨rfl, rfl⟩ := h
                    show SW x [nd (xg x) Ks ka va L2 R2 P2 c2, ob (xg x) q 14 [.null, va_rf vs, .null, va_rf rt2, .int (jI sz), .int (jI mc), .null, .null, .null]] _ _ _ _ [va_rf ((some x2).bind P2)]
                    refine SW.cast (st' := [.ref p]) ?_ rfl rfl (congrArg (fun o9 => va_rf o9 :: _) hp)
                    refine sw_astore_n (n := 220) F (some p) (L2 := [(1, .ref p), (2, .null), (0, .ref q)]) rfl rfl (by decide) rfl dJ10_fixAfterInsertion_219 rfl ?_
                    refine sw_aload_n (n := 221) F 2 (some q) rfl rfl rfl dJ10_fixAfterInsertion_220 rfl ?_
                    refine sw_aload_n (n := 222) F 0 (some p) rfl rfl rfl dJ10_fixAfterInsertion_221 rfl ?_
                    refine sw_callV (n := 225) F (ct_J10_rotateRight (g := xg x) (l := xl x) Ks ka va L2 R2 P2 c2 q vs rt2 sz mc rk lo2 hi2 p x2 hT2 hpK (by exact c_212.symm)) (rcv_ob F 1 rfl rfl) q3196 q3198 qs53 q114 q3199 nd_J10_rotateRight rfl (by decide) [1, 0] rfl [] rfl 0 0 ⟨by omega, by omega⟩ [] rfl (Nat.le_of_ble_eq_true rfl) dJ10_fixAfterInsertion_222 rfl (fun _ _ h => h.elim) (fun v Ws h => ?_)
                    obtain ⟨L1_1, R1_2, P1_3, rt1_4, lo1_5, hi1_6, rfl, hR_7, hT1_8, hlo_9, hhi_10, rfl⟩ := h
                    show SW x [ob (xg x) q 14 [.null, va_rf vs, .null, va_rf rt1_4, .int (jI sz), .int (jI mc), .null, .null, .null], nd (xg x) Ks ka va L1_1 R1_2 P1_3 c2] _ _ _ _ []
                    obtain ⟨hb1, hb2, hb3, hb4⟩ := hT2.fiBR hx2 hp c_212.symm hR_7
                    have hb6 : P1_3 x2 = none := hb2.trans hgp
                    refine sw_aload_n (n := 226) F 0 (some p) rfl rfl rfl dJ10_fixAfterInsertion_225 rfl ?_
                    refine sw_callS (n := 229) F (ct_J10_parentOf (g := xg x) (l := xl x) Ks ka va L1_1 R1_2 P1_3 c2 (some p) (fun x9 e9 => Option.some.inj e9 ▸ hpK)) q3177 q3178 q114 q3179 nd_J10_parentOf rfl (by decide) [1, 0] rfl [ob (xg x) q 14 [.null, va_rf vs, .null, va_rf rt1_4, .int (jI sz), .int (jI mc), .null, .null, .null]] rfl 0 0 ⟨by omega, by omega⟩ [] rfl (Nat.le_of_ble_eq_true rfl) dJ10_fixAfterInsertion_226 rfl (fun _ _ h => h.elim) (fun v Ws h => ?_)
                    obtain ⟨rfl, rfl⟩ := h
                    show SW x [nd (xg x) Ks ka va L1_1 R1_2 P1_3 c2, ob (xg x) q 14 [.null, va_rf vs, .null, va_rf rt1_4, .int (jI sz), .int (jI mc), .null, .null, .null]] _ _ _ _ [va_rf ((some p).bind P1_3)]
                    refine SW.cast (st' := [.ref x2]) ?_ rfl rfl (congrArg (fun o9 => va_rf o9 :: _) hb1)
                    refine sw_iconst (n := 230) F (1) (by decide) dJ10_fixAfterInsertion_229 rfl ?_
                    refine sw_callS (n := 233) F (ct_J10_setColor (g := xg x) (l := xl x) Ks ka va L1_1 R1_2 P1_3 c2 x2 1 hx2 (by first | omega | assumption)) q3189 q3190 q114 q3191 nd_J10_setColor rfl (by decide) [0, 1] rfl [ob (xg x) q 14 [.null, va_rf vs, .null, va_rf rt1_4, .int (jI sz), .int (jI mc), .null, .null, .null]] rfl 0 0 ⟨by omega, by omega⟩ [] rfl (Nat.le_of_ble_eq_true rfl) dJ10_fixAfterInsertion_230 rfl (fun _ _ h => h.elim) (fun v Ws h => ?_)
                    obtain ⟨rfl, rfl⟩ := h
                    show SW x [nd (xg x) Ks ka va L1_1 R1_2 P1_3 (va_up c2 x2 1), ob (xg x) q 14 [.null, va_rf vs, .null, va_rf rt1_4, .int (jI sz), .int (jI mc), .null, .null, .null]] _ _ _ _ []
                    refine sw_aload_n (n := 234) F 0 (some p) rfl rfl rfl dJ10_fixAfterInsertion_233 rfl ?_
                    refine sw_callS (n := 237) F (ct_J10_parentOf (g := xg x) (l := xl x) Ks ka va L1_1 R1_2 P1_3 (va_up c2 x2 1) (some p) (fun x9 e9 => Option.some.inj e9 ▸ hpK)) q3177 q3178 q114 q3179 nd_J10_parentOf rfl (by decide) [0, 1] rfl [ob (xg x) q 14 [.null, va_rf vs, .null, va_rf rt1_4, .int (jI sz), .int (jI mc), .null, .null, .null]] rfl 0 0 ⟨by omega, by omega⟩ [] rfl (Nat.le_of_ble_eq_true rfl) dJ10_fixAfterInsertion_234 rfl (fun _ _ h => h.elim) (fun v Ws h => ?_)
                    obtain ⟨rfl, rfl⟩ := h
                    show SW x [nd (xg x) Ks ka va L1_1 R1_2 P1_3 (va_up c2 x2 1), ob (xg x) q 14 [.null, va_rf vs, .null, va_rf rt1_4, .int (jI sz), .int (jI mc), .null, .null, .null]] _ _ _ _ [va_rf ((some p).bind P1_3)]
                    refine SW.cast (st' := [.ref x2]) ?_ rfl rfl (congrArg (fun o9 => va_rf o9 :: _) hb1)
                    refine sw_callS (n := 240) F (ct_J10_parentOf (g := xg x) (l := xl x) Ks ka va L1_1 R1_2 P1_3 (va_up c2 x2 1) (some x2) (fun x9 e9 => Option.some.inj e9 ▸ hx2)) q3177 q3178 q114 q3179 nd_J10_parentOf rfl (by decide) [0, 1] rfl [ob (xg x) q 14 [.null, va_rf vs, .null, va_rf rt1_4, .int (jI sz), .int (jI mc), .null, .null, .null]] rfl 0 0 ⟨by omega, by omega⟩ [] rfl (Nat.le_of_ble_eq_true rfl) dJ10_fixAfterInsertion_237 rfl (fun _ _ h => h.elim) (fun v Ws h => ?_)
                    obtain ⟨rfl, rfl⟩ := h
                    show SW x [nd (xg x) Ks ka va L1_1 R1_2 P1_3 (va_up c2 x2 1), ob (xg x) q 14 [.null, va_rf vs, .null, va_rf rt1_4, .int (jI sz), .int (jI mc), .null, .null, .null]] _ _ _ _ [va_rf ((some x2).bind P1_3)]
                    refine SW.cast (st' := [.null]) ?_ rfl rfl (congrArg (fun o9 => va_rf o9 :: _) hb6)
                    refine sw_iconst (n := 241) F (0) (by decide) dJ10_fixAfterInsertion_240 rfl ?_
                    refine sw_callS (n := 244) F (ct_J10_setColor_o (g := xg x) (l := xl x) Ks ka va L1_1 R1_2 P1_3 (va_up c2 x2 1) none 0 (fun x9 e9 => by cases e9) (by first | omega | assumption)) q3189 q3190 q114 q3191 nd_J10_setColor rfl (by decide) [0, 1] rfl [ob (xg x) q 14 [.null, va_rf vs, .null, va_rf rt1_4, .int (jI sz), .int (jI mc), .null, .null, .null]] rfl 0 0 ⟨by omega, by omega⟩ [] rfl (Nat.le_of_ble_eq_true rfl) dJ10_fixAfterInsertion_241 rfl (fun _ _ h => h.elim) (fun v Ws h => ?_)
                    obtain ⟨rfl, rfl⟩ := h
                    show SW x [nd (xg x) Ks ka va L1_1 R1_2 P1_3 (cuO (va_up c2 x2 1) none 0), ob (xg x) q 14 [.null, va_rf vs, .null, va_rf rt1_4, .int (jI sz), .int (jI mc), .null, .null, .null]] _ _ _ _ []
                    refine sw_aload_n (n := 245) F 2 (some q) rfl rfl rfl dJ10_fixAfterInsertion_244 rfl ?_
                    refine sw_aload_n (n := 246) F 0 (some p) rfl rfl rfl dJ10_fixAfterInsertion_245 rfl ?_
                    refine sw_callS (n := 249) F (ct_J10_parentOf (g := xg x) (l := xl x) Ks ka va L1_1 R1_2 P1_3 (cuO (va_up c2 x2 1) none 0) (some p) (fun x9 e9 => Option.some.inj e9 ▸ hpK)) q3177 q3178 q114 q3179 nd_J10_parentOf rfl (by decide) [0, 1] rfl [ob (xg x) q 14 [.null, va_rf vs, .null, va_rf rt1_4, .int (jI sz), .int (jI mc), .null, .null, .null]] rfl 0 0 ⟨by omega, by omega⟩ [.ref q] rfl (Nat.le_of_ble_eq_true rfl) dJ10_fixAfterInsertion_246 rfl (fun _ _ h => h.elim) (fun v Ws h => ?_)
                    obtain ⟨rfl, rfl⟩ := h
                    show SW x [nd (xg x) Ks ka va L1_1 R1_2 P1_3 (cuO (va_up c2 x2 1) none 0), ob (xg x) q 14 [.null, va_rf vs, .null, va_rf rt1_4, .int (jI sz), .int (jI mc), .null, .null, .null]] _ _ _ _ [va_rf ((some p).bind P1_3), .ref q]
                    refine SW.cast (st' := [.ref x2, .ref q]) ?_ rfl rfl (congrArg (fun o9 => va_rf o9 :: _) hb1)
                    refine sw_callS (n := 252) F (ct_J10_parentOf (g := xg x) (l := xl x) Ks ka va L1_1 R1_2 P1_3 (cuO (va_up c2 x2 1) none 0) (some x2) (fun x9 e9 => Option.some.inj e9 ▸ hx2)) q3177 q3178 q114 q3179 nd_J10_parentOf rfl (by decide) [0, 1] rfl [ob (xg x) q 14 [.null, va_rf vs, .null, va_rf rt1_4, .int (jI sz), .int (jI mc), .null, .null, .null]] rfl 0 0 ⟨by omega, by omega⟩ [.ref q] rfl (Nat.le_of_ble_eq_true rfl) dJ10_fixAfterInsertion_249 rfl (fun _ _ h => h.elim) (fun v Ws h => ?_)
                    obtain ⟨rfl, rfl⟩ := h
                    show SW x [nd (xg x) Ks ka va L1_1 R1_2 P1_3 (cuO (va_up c2 x2 1) none 0), ob (xg x) q 14 [.null, va_rf vs, .null, va_rf rt1_4, .int (jI sz), .int (jI mc), .null, .null, .null]] _ _ _ _ [va_rf ((some x2).bind P1_3), .ref q]
                    refine SW.cast (st' := [.null, .ref q]) ?_ rfl rfl (congrArg (fun o9 => va_rf o9 :: _) hb6)
                    refine sw_callV (n := 255) F (ct_J10_rotateLeft_n (g := xg x) (l := xl x) q ) (rcv_ob F 1 rfl rfl) q3192 q3194 qs52 q114 q3195 nd_J10_rotateLeft rfl (by decide) [0, 1] rfl [nd (xg x) Ks ka va L1_1 R1_2 P1_3 (cuO (va_up c2 x2 1) none 0), ob (xg x) q 14 [.null, va_rf vs, .null, va_rf rt1_4, .int (jI sz), .int (jI mc), .null, .null, .null]] rfl 0 0 ⟨by omega, by omega⟩ [] rfl (Nat.le_of_ble_eq_true rfl) dJ10_fixAfterInsertion_252 rfl (fun _ _ h => h.elim) (fun v Ws h => ?_)
                    obtain ⟨rfl, rfl⟩ := h
                    show SW x [nd (xg x) Ks ka va L1_1 R1_2 P1_3 (cuO (va_up c2 x2 1) none 0), ob (xg x) q 14 [.null, va_rf vs, .null, va_rf rt1_4, .int (jI sz), .int (jI mc), .null, .null, .null]] _ _ _ _ []
                    have hpp : P1_3 p = some x2 := hb1
                    have hm0 : fiM P1_3 (cuO (va_up c2 x2 1) none 0) lo1_5 hi1_6 p = 0 := fiM_0 hpp (Eq.trans (cuO_no (by simp)) (va_up_self _ _ _))
                    have hm1 := fiM_1 (lo := lo2) (hi := hi2) hp c_24
                    refine sw_goto F (n := 5) dJ10_fixAfterInsertion_255 (by decide) ?_
                    refine sw_loc [2, 0] (L2 := [(0, .ref q), (1, .ref p)]) rfl ?_
                    exact ih5 p L1_1 R1_2 P1_3 (cuO (va_up c2 x2 1) none 0) rt1_4 lo1_5 hi1_6 hT1_8 hpK (by (repeat' first | assumption | exact Or.inl rfl | exact Or.inr rfl | apply clO_b | refine cb_up ?_ ?_ | refine cb_cu ?_ ?_)) (by first | omega | exact Nat.lt_of_lt_of_le (hT2.fiU hx2 hp hgp c_24) (Nat.le_of_lt_succ hmu5))
                · exfalso; exact absurd c_166 (by decide)
              · exfalso; cases c_41
            ·
              have hgK : gp ∈ Ks := (hT2.p hpK hgp).1
              have hpg : p ≠ gp := hT2.neP hpK hgp
              have hxg : x2 ≠ gp := hT2.neG hx2 hp hgp
              refine sw_aload_n (n := 28) F 1 (some x2) rfl rfl rfl dJ10_fixAfterInsertion_27 rfl ?_
              refine sw_callS (n := 31) F (ct_J10_parentOf (g := xg x) (l := xl x) Ks ka va L2 R2 P2 c2 (some x2) (fun x9 e9 => Option.some.inj e9 ▸ hx2)) q3177 q3178 q114 q3179 nd_J10_parentOf rfl (by decide) [0, 1] rfl [ob (xg x) q 14 [.null, va_rf vs, .null, va_rf rt2, .int (jI sz), .int (jI mc), .null, .null, .null]] rfl 0 0 ⟨by omega, by omega⟩ [] rfl (Nat.le_of_ble_eq_true rfl) dJ10_fixAfterInsertion_28 rfl (fun _ _ h => h.elim) (fun v Ws h => ?_)
              obtain ⟨rfl, rfl⟩ := h
              show SW x [nd (xg x) Ks ka va L2 R2 P2 c2, ob (xg x) q 14 [.null, va_rf vs, .null, va_rf rt2, .int (jI sz), .int (jI mc), .null, .null, .null]] _ _ _ _ [va_rf ((some x2).bind P2)]
              refine SW.cast (st' := [.ref p]) ?_ rfl rfl (congrArg (fun o9 => va_rf o9 :: _) hp)
              refine sw_aload_n (n := 32) F 1 (some x2) rfl rfl rfl dJ10_fixAfterInsertion_31 rfl ?_
              refine sw_callS (n := 35) F (ct_J10_parentOf (g := xg x) (l := xl x) Ks ka va L2 R2 P2 c2 (some x2) (fun x9 e9 => Option.some.inj e9 ▸ hx2)) q3177 q3178 q114 q3179 nd_J10_parentOf rfl (by decide) [0, 1] rfl [ob (xg x) q 14 [.null, va_rf vs, .null, va_rf rt2, .int (jI sz), .int (jI mc), .null, .null, .null]] rfl 0 0 ⟨by omega, by omega⟩ [.ref p] rfl (Nat.le_of_ble_eq_true rfl) dJ10_fixAfterInsertion_32 rfl (fun _ _ h => h.elim) (fun v Ws h => ?_)
              obtain ⟨rfl, rfl⟩ := h
              show SW x [nd (xg x) Ks ka va L2 R2 P2 c2, ob (xg x) q 14 [.null, va_rf vs, .null, va_rf rt2, .int (jI sz), .int (jI mc), .null, .null, .null]] _ _ _ _ [va_rf ((some x2).bind P2), .ref p]
              refine SW.cast (st' := [.ref p, .ref p]) ?_ rfl rfl (congrArg (fun o9 => va_rf o9 :: _) hp)
              refine sw_callS (n := 38) F (ct_J10_parentOf (g := xg x) (l := xl x) Ks ka va L2 R2 P2 c2 (some p) (fun x9 e9 => Option.some.inj e9 ▸ hpK)) q3177 q3178 q114 q3179 nd_J10_parentOf rfl (by decide) [0, 1] rfl [ob (xg x) q 14 [.null, va_rf vs, .null, va_rf rt2, .int (jI sz), .int (jI mc), .null, .null, .null]] rfl 0 0 ⟨by omega, by omega⟩ [.ref p] rfl (Nat.le_of_ble_eq_true rfl) dJ10_fixAfterInsertion_35 rfl (fun _ _ h => h.elim) (fun v Ws h => ?_)
              obtain ⟨rfl, rfl⟩ := h
              show SW x [nd (xg x) Ks ka va L2 R2 P2 c2, ob (xg x) q 14 [.null, va_rf vs, .null, va_rf rt2, .int (jI sz), .int (jI mc), .null, .null, .null]] _ _ _ _ [va_rf ((some p).bind P2), .ref p]
              refine SW.cast (st' := [.ref gp, .ref p]) ?_ rfl rfl (congrArg (fun o9 => va_rf o9 :: _) hgp)
              refine sw_callS (n := 41) F (ct_J10_leftOf (g := xg x) (l := xl x) Ks ka va L2 R2 P2 c2 (some gp) (fun x9 e9 => Option.some.inj e9 ▸ hgK)) q3180 q3181 q114 q3182 nd_J10_leftOf rfl (by decide) [0, 1] rfl [ob (xg x) q 14 [.null, va_rf vs, .null, va_rf rt2, .int (jI sz), .int (jI mc), .null, .null, .null]] rfl 0 0 ⟨by omega, by omega⟩ [.ref p] rfl (Nat.le_of_ble_eq_true rfl) dJ10_fixAfterInsertion_38 rfl (fun _ _ h => h.elim) (fun v Ws h => ?_)
              obtain ⟨rfl, rfl⟩ := h
              show SW x [nd (xg x) Ks ka va L2 R2 P2 c2, ob (xg x) q 14 [.null, va_rf vs, .null, va_rf rt2, .int (jI sz), .int (jI mc), .null, .null, .null]] _ _ _ _ [va_rf ((some gp).bind L2), .ref p]
              refine SW.cast (st' := [va_rf (L2 gp), .ref p]) ?_ rfl rfl rfl
              refine sw_acmp_ne (n := 44) F (rx := (some p)) (ry := (L2 gp)) rfl rfl (tgt := 151) dJ10_fixAfterInsertion_41 (by decide) rfl (fun c_41 => ?_) (fun c_41 => ?_)
              ·
                have hgl : R2 gp = some p := ((hT2.p hpK hgp).2).resolve_left (fun e9 => c_41 e9.symm)
                refine sw_aload_n (n := 152) F 1 (some x2) rfl rfl rfl dJ10_fixAfterInsertion_151 rfl ?_
                refine sw_callS (n := 155) F (ct_J10_parentOf (g := xg x) (l := xl x) Ks ka va L2 R2 P2 c2 (some x2) (fun x9 e9 => Option.some.inj e9 ▸ hx2)) q3177 q3178 q114 q3179 nd_J10_parentOf rfl (by decide) [0, 1] rfl [ob (xg x) q 14 [.null, va_rf vs, .null, va_rf rt2, .int (jI sz), .int (jI mc), .null, .null, .null]] rfl 0 0 ⟨by omega, by omega⟩ [] rfl (Nat.le_of_ble_eq_true rfl) dJ10_fixAfterInsertion_152 rfl (fun _ _ h => h.elim) (fun v Ws h => ?_)
                obtain ⟨rfl, rfl⟩ := h
                show SW x [nd (xg x) Ks ka va L2 R2 P2 c2, ob (xg x) q 14 [.null, va_rf vs, .null, va_rf rt2, .int (jI sz), .int (jI mc), .null, .null, .null]] _ _ _ _ [va_rf ((some x2).bind P2)]
                refine SW.cast (st' := [.ref p]) ?_ rfl rfl (congrArg (fun o9 => va_rf o9 :: _) hp)
                refine sw_callS (n := 158) F (ct_J10_parentOf (g := xg x) (l := xl x) Ks ka va L2 R2 P2 c2 (some p) (fun x9 e9 => Option.some.inj e9 ▸ hpK)) q3177 q3178 q114 q3179 nd_J10_parentOf rfl (by decide) [0, 1] rfl [ob (xg x) q 14 [.null, va_rf vs, .null, va_rf rt2, .int (jI sz), .int (jI mc), .null, .null, .null]] rfl 0 0 ⟨by omega, by omega⟩ [] rfl (Nat.le_of_ble_eq_true rfl) dJ10_fixAfterInsertion_155 rfl (fun _ _ h => h.elim) (fun v Ws h => ?_)
                obtain ⟨rfl, rfl⟩ := h
                show SW x [nd (xg x) Ks ka va L2 R2 P2 c2, ob (xg x) q 14 [.null, va_rf vs, .null, va_rf rt2, .int (jI sz), .int (jI mc), .null, .null, .null]] _ _ _ _ [va_rf ((some p).bind P2)]
                refine SW.cast (st' := [.ref gp]) ?_ rfl rfl (congrArg (fun o9 => va_rf o9 :: _) hgp)
                refine sw_callS (n := 161) F (ct_J10_leftOf (g := xg x) (l := xl x) Ks ka va L2 R2 P2 c2 (some gp) (fun x9 e9 => Option.some.inj e9 ▸ hgK)) q3180 q3181 q114 q3182 nd_J10_leftOf rfl (by decide) [0, 1] rfl [ob (xg x) q 14 [.null, va_rf vs, .null, va_rf rt2, .int (jI sz), .int (jI mc), .null, .null, .null]] rfl 0 0 ⟨by omega, by omega⟩ [] rfl (Nat.le_of_ble_eq_true rfl) dJ10_fixAfterInsertion_158 rfl (fun _ _ h => h.elim) (fun v Ws h => ?_)
                obtain ⟨rfl, rfl⟩ := h
                show SW x [nd (xg x) Ks ka va L2 R2 P2 c2, ob (xg x) q 14 [.null, va_rf vs, .null, va_rf rt2, .int (jI sz), .int (jI mc), .null, .null, .null]] _ _ _ _ [va_rf ((some gp).bind L2)]
                refine SW.cast (st' := [va_rf (L2 gp)]) ?_ rfl rfl rfl
                refine sw_astore_n (n := 162) F (L2 gp) (L2 := [(2, va_rf (L2 gp)), (0, .ref q), (1, .ref x2)]) (by first | rfl | simp [va_rf_cat]) rfl (by decide) rfl dJ10_fixAfterInsertion_161 rfl ?_
                refine sw_aload_n (n := 163) F 0 (L2 gp) rfl rfl rfl dJ10_fixAfterInsertion_162 rfl ?_
                refine sw_callS (n := 166) F (ct_J10_colorOf (g := xg x) (l := xl x) Ks ka va L2 R2 P2 c2 (L2 gp) (fun x9 e9 => (hT2.l hgK e9).1) (by (repeat' first | assumption | exact Or.inl rfl | exact Or.inr rfl | apply clO_b | refine cb_up ?_ ?_ | refine cb_cu ?_ ?_))) q3186 q3187 q114 q3188 nd_J10_colorOf rfl (by decide) [0, 1] rfl [ob (xg x) q 14 [.null, va_rf vs, .null, va_rf rt2, .int (jI sz), .int (jI mc), .null, .null, .null]] rfl 0 0 ⟨by omega, by omega⟩ [] rfl (Nat.le_of_ble_eq_true rfl) dJ10_fixAfterInsertion_163 rfl (fun _ _ h => h.elim) (fun v Ws h => ?_)
                obtain ⟨rfl, rfl⟩ := h
                show SW x [nd (xg x) Ks ka va L2 R2 P2 c2, ob (xg x) q 14 [.null, va_rf vs, .null, va_rf rt2, .int (jI sz), .int (jI mc), .null, .null, .null]] _ _ _ _ [.int (jI (clO c2 (L2 gp)))]
                have hyb_11 : clO c2 (L2 gp) = 0 ∨ clO c2 (L2 gp) = 1 := clO_b (by (repeat' first | assumption | exact Or.inl rfl | exact Or.inr rfl | apply clO_b | refine cb_up ?_ ?_ | refine cb_cu ?_ ?_)) _
                refine sw_if_ne (n := 169) F (by omega) (tgt := 204) dJ10_fixAfterInsertion_166 (by decide) rfl (fun c_166 => ?_) (fun c_166 => ?_)
                ·
                  refine sw_aload_n (n := 205) F 2 (some x2) rfl rfl rfl dJ10_fixAfterInsertion_204 rfl ?_
                  refine sw_aload_n (n := 206) F 2 (some x2) rfl rfl rfl dJ10_fixAfterInsertion_205 rfl ?_
                  refine sw_callS (n := 209) F (ct_J10_parentOf (g := xg x) (l := xl x) Ks ka va L2 R2 P2 c2 (some x2) (fun x9 e9 => Option.some.inj e9 ▸ hx2)) q3177 q3178 q114 q3179 nd_J10_parentOf rfl (by decide) [0, 1] rfl [ob (xg x) q 14 [.null, va_rf vs, .null, va_rf rt2, .int (jI sz), .int (jI mc), .null, .null, .null]] rfl 0 0 ⟨by omega, by omega⟩ [.ref x2] rfl (Nat.le_of_ble_eq_true rfl) dJ10_fixAfterInsertion_206 rfl (fun _ _ h => h.elim) (fun v Ws h => ?_)
                  obtain ⟨rfl, rfl⟩ := h
                  show SW x [nd (xg x) Ks ka va L2 R2 P2 c2, ob (xg x) q 14 [.null, va_rf vs, .null, va_rf rt2, .int (jI sz), .int (jI mc), .null, .null, .null]] _ _ _ _ [va_rf ((some x2).bind P2), .ref x2]
                  refine SW.cast (st' := [.ref p, .ref x2]) ?_ rfl rfl (congrArg (fun o9 => va_rf o9 :: _) hp)
                  refine sw_callS (n := 212) F (ct_J10_leftOf (g := xg x) (l := xl x) Ks ka va L2 R2 P2 c2 (some p) (fun x9 e9 => Option.some.inj e9 ▸ hpK)) q3180 q3181 q114 q3182 nd_J10_leftOf rfl (by decide) [0, 1] rfl [ob (xg x) q 14 [.null, va_rf vs, .null, va_rf rt2, .int (jI sz), .int (jI mc), .null, .null, .null]] rfl 0 0 ⟨by omega, by omega⟩ [.ref x2] rfl (Nat.le_of_ble_eq_true rfl) dJ10_fixAfterInsertion_209 rfl (fun _ _ h => h.elim) (fun v Ws h => ?_)
                  obtain ⟨rfl, rfl⟩ := h
                  show SW x [nd (xg x) Ks ka va L2 R2 P2 c2, ob (xg x) q 14 [.null, va_rf vs, .null, va_rf rt2, .int (jI sz), .int (jI mc), .null, .null, .null]] _ _ _ _ [va_rf ((some p).bind L2), .ref x2]
                  refine SW.cast (st' := [va_rf (L2 p), .ref x2]) ?_ rfl rfl rfl
                  refine sw_acmp_ne (n := 215) F (rx := (some x2)) (ry := (L2 p)) rfl rfl (tgt := 225) dJ10_fixAfterInsertion_212 (by decide) rfl (fun c_212 => ?_) (fun c_212 => ?_)
                  ·
                    refine sw_aload_n (n := 226) F 2 (some x2) rfl rfl rfl dJ10_fixAfterInsertion_225 rfl ?_
                    refine sw_callS (n := 229) F (ct_J10_parentOf (g := xg x) (l := xl x) Ks ka va L2 R2 P2 c2 (some x2) (fun x9 e9 => Option.some.inj e9 ▸ hx2)) q3177 q3178 q114 q3179 nd_J10_parentOf rfl (by decide) [0, 1] rfl [ob (xg x) q 14 [.null, va_rf vs, .null, va_rf rt2, .int (jI sz), .int (jI mc), .null, .null, .null]] rfl 0 0 ⟨by omega, by omega⟩ [] rfl (Nat.le_of_ble_eq_true rfl) dJ10_fixAfterInsertion_226 rfl (fun _ _ h => h.elim) (fun v Ws h => ?_)
                    obtain ⟨rfl, rfl⟩ := h
                    show SW x [nd (xg x) Ks ka va L2 R2 P2 c2, ob (xg x) q 14 [.null, va_rf vs, .null, va_rf rt2, .int (jI sz), .int (jI mc), .null, .null, .null]] _ _ _ _ [va_rf ((some x2).bind P2)]
                    refine SW.cast (st' := [.ref p]) ?_ rfl rfl (congrArg (fun o9 => va_rf o9 :: _) hp)
                    refine sw_iconst (n := 230) F (1) (by decide) dJ10_fixAfterInsertion_229 rfl ?_
                    refine sw_callS (n := 233) F (ct_J10_setColor (g := xg x) (l := xl x) Ks ka va L2 R2 P2 c2 p 1 hpK (by first | omega | assumption)) q3189 q3190 q114 q3191 nd_J10_setColor rfl (by decide) [0, 1] rfl [ob (xg x) q 14 [.null, va_rf vs, .null, va_rf rt2, .int (jI sz), .int (jI mc), .null, .null, .null]] rfl 0 0 ⟨by omega, by omega⟩ [] rfl (Nat.le_of_ble_eq_true rfl) dJ10_fixAfterInsertion_230 rfl (fun _ _ h => h.elim) (fun v Ws h => ?_)
                    obtain ⟨rfl, rfl⟩ := h
                    show SW x [nd (xg x) Ks ka va L2 R2 P2 (va_up c2 p 1), ob (xg x) q 14 [.null, va_rf vs, .null, va_rf rt2, .int (jI sz), .int (jI mc), .null, .null, .null]] _ _ _ _ []
                    refine sw_aload_n (n := 234) F 2 (some x2) rfl rfl rfl dJ10_fixAfterInsertion_233 rfl ?_
                    refine sw_callS (n := 237) F (ct_J10_parentOf (g := xg x) (l := xl x) Ks ka va L2 R2 P2 (va_up c2 p 1) (some x2) (fun x9 e9 => Option.some.inj e9 ▸ hx2)) q3177 q3178 q114 q3179 nd_J10_parentOf rfl (by decide) [0, 1] rfl [ob (xg x) q 14 [.null, va_rf vs, .null, va_rf rt2, .int (jI sz), .int (jI mc), .null, .null, .null]] rfl 0 0 ⟨by omega, by omega⟩ [] rfl (Nat.le_of_ble_eq_true rfl) dJ10_fixAfterInsertion_234 rfl (fun _ _ h => h.elim) (fun v Ws h => ?_)
                    obtain ⟨rfl, rfl⟩ := h
                    show SW x [nd (xg x) Ks ka va L2 R2 P2 (va_up c2 p 1), ob (xg x) q 14 [.null, va_rf vs, .null, va_rf rt2, .int (jI sz), .int (jI mc), .null, .null, .null]] _ _ _ _ [va_rf ((some x2).bind P2)]
                    refine SW.cast (st' := [.ref p]) ?_ rfl rfl (congrArg (fun o9 => va_rf o9 :: _) hp)
                    refine sw_callS (n := 240) F (ct_J10_parentOf (g := xg x) (l := xl x) Ks ka va L2 R2 P2 (va_up c2 p 1) (some p) (fun x9 e9 => Option.some.inj e9 ▸ hpK)) q3177 q3178 q114 q3179 nd_J10_parentOf rfl (by decide) [0, 1] rfl [ob (xg x) q 14 [.null, va_rf vs, .null, va_rf rt2, .int (jI sz), .int (jI mc), .null, .null, .null]] rfl 0 0 ⟨by omega, by omega⟩ [] rfl (Nat.le_of_ble_eq_true rfl) dJ10_fixAfterInsertion_237 rfl (fun _ _ h => h.elim) (fun v Ws h => ?_)
                    obtain ⟨rfl, rfl⟩ := h
                    show SW x [nd (xg x) Ks ka va L2 R2 P2 (va_up c2 p 1), ob (xg x) q 14 [.null, va_rf vs, .null, va_rf rt2, .int (jI sz), .int (jI mc), .null, .null, .null]] _ _ _ _ [va_rf ((some p).bind P2)]
                    refine SW.cast (st' := [.ref gp]) ?_ rfl rfl (congrArg (fun o9 => va_rf o9 :: _) hgp)
                    refine sw_iconst (n := 241) F (0) (by decide) dJ10_fixAfterInsertion_240 rfl ?_
                    refine sw_callS (n := 244) F (ct_J10_setColor (g := xg x) (l := xl x) Ks ka va L2 R2 P2 (va_up c2 p 1) gp 0 hgK (by first | omega | assumption)) q3189 q3190 q114 q3191 nd_J10_setColor rfl (by decide) [0, 1] rfl [ob (xg x) q 14 [.null, va_rf vs, .null, va_rf rt2, .int (jI sz), .int (jI mc), .null, .null, .null]] rfl 0 0 ⟨by omega, by omega⟩ [] rfl (Nat.le_of_ble_eq_true rfl) dJ10_fixAfterInsertion_241 rfl (fun _ _ h => h.elim) (fun v Ws h => ?_)
                    obtain ⟨rfl, rfl⟩ := h
                    show SW x [nd (xg x) Ks ka va L2 R2 P2 (va_up (va_up c2 p 1) gp 0), ob (xg x) q 14 [.null, va_rf vs, .null, va_rf rt2, .int (jI sz), .int (jI mc), .null, .null, .null]] _ _ _ _ []
                    refine sw_aload_n (n := 245) F 1 (some q) rfl rfl rfl dJ10_fixAfterInsertion_244 rfl ?_
                    refine sw_aload_n (n := 246) F 2 (some x2) rfl rfl rfl dJ10_fixAfterInsertion_245 rfl ?_
                    refine sw_callS (n := 249) F (ct_J10_parentOf (g := xg x) (l := xl x) Ks ka va L2 R2 P2 (va_up (va_up c2 p 1) gp 0) (some x2) (fun x9 e9 => Option.some.inj e9 ▸ hx2)) q3177 q3178 q114 q3179 nd_J10_parentOf rfl (by decide) [0, 1] rfl [ob (xg x) q 14 [.null, va_rf vs, .null, va_rf rt2, .int (jI sz), .int (jI mc), .null, .null, .null]] rfl 0 0 ⟨by omega, by omega⟩ [.ref q] rfl (Nat.le_of_ble_eq_true rfl) dJ10_fixAfterInsertion_246 rfl (fun _ _ h => h.elim) (fun v Ws h => ?_)
                    obtain ⟨rfl, rfl⟩ := h
                    show SW x [nd (xg x) Ks ka va L2 R2 P2 (va_up (va_up c2 p 1) gp 0), ob (xg x) q 14 [.null, va_rf vs, .null, va_rf rt2, .int (jI sz), .int (jI mc), .null, .null, .null]] _ _ _ _ [va_rf ((some x2).bind P2), .ref q]
                    refine SW.cast (st' := [.ref p, .ref q]) ?_ rfl rfl (congrArg (fun o9 => va_rf o9 :: _) hp)
                    refine sw_callS (n := 252) F (ct_J10_parentOf (g := xg x) (l := xl x) Ks ka va L2 R2 P2 (va_up (va_up c2 p 1) gp 0) (some p) (fun x9 e9 => Option.some.inj e9 ▸ hpK)) q3177 q3178 q114 q3179 nd_J10_parentOf rfl (by decide) [0, 1] rfl [ob (xg x) q 14 [.null, va_rf vs, .null, va_rf rt2, .int (jI sz), .int (jI mc), .null, .null, .null]] rfl 0 0 ⟨by omega, by omega⟩ [.ref q] rfl (Nat.le_of_ble_eq_true rfl) dJ10_fixAfterInsertion_249 rfl (fun _ _ h => h.elim) (fun v Ws h => ?_)
                    obtain ⟨rfl, rfl⟩ := h
                    show SW x [nd (xg x) Ks ka va L2 R2 P2 (va_up (va_up c2 p 1) gp 0), ob (xg x) q 14 [.null, va_rf vs, .null, va_rf rt2, .int (jI sz), .int (jI mc), .null, .null, .null]] _ _ _ _ [va_rf ((some p).bind P2), .ref q]
                    refine SW.cast (st' := [.ref gp, .ref q]) ?_ rfl rfl (congrArg (fun o9 => va_rf o9 :: _) hgp)
                    refine sw_callV (n := 255) F (ct_J10_rotateLeft (g := xg x) (l := xl x) Ks ka va L2 R2 P2 (va_up (va_up c2 p 1) gp 0) q vs rt2 sz mc rk lo2 hi2 gp p hT2 hgK hgl) (rcv_ob F 1 rfl rfl) q3192 q3194 qs52 q114 q3195 nd_J10_rotateLeft rfl (by decide) [1, 0] rfl [] rfl 0 0 ⟨by omega, by omega⟩ [] rfl (Nat.le_of_ble_eq_true rfl) dJ10_fixAfterInsertion_252 rfl (fun _ _ h => h.elim) (fun v Ws h => ?_)
                    obtain ⟨L1_12, R1_13, P1_14, rt1_15, lo1_16, hi1_17, rfl, hR_18, hT1_19, hlo_20, hhi_21, rfl⟩ := h
                    show SW x [ob (xg x) q 14 [.null, va_rf vs, .null, va_rf rt1_15, .int (jI sz), .int (jI mc), .null, .null, .null], nd (xg x) Ks ka va L1_12 R1_13 P1_14 (va_up (va_up c2 p 1) gp 0)] _ _ _ _ []
                    have hpp : P1_14 x2 = some p := hT2.fiAL hx2 hp hgp c_212 hR_18
                    have hm0 : fiM P1_14 (va_up (va_up c2 p 1) gp 0) lo1_16 hi1_17 x2 = 0 := fiM_0 hpp (Eq.trans (va_up_ne _ _ hpg) (va_up_self _ _ _))
                    have hm1 := fiM_1 (lo := lo2) (hi := hi2) hp c_24
                    refine sw_goto F (n := 5) dJ10_fixAfterInsertion_255 (by decide) ?_
                    refine sw_perm [1, 0] rfl [nd (xg x) Ks ka va L1_12 R1_13 P1_14 (va_up (va_up c2 p 1) gp 0), ob (xg x) q 14 [.null, va_rf vs, .null, va_rf rt1_15, .int (jI sz), .int (jI mc), .null, .null, .null]] rfl ?_
                    refine sw_loc [1, 2] (L2 := [(0, .ref q), (1, .ref x2)]) rfl ?_
                    exact ih5 x2 L1_12 R1_13 P1_14 (va_up (va_up c2 p 1) gp 0) rt1_15 lo1_16 hi1_17 hT1_19 hx2 (by (repeat' first | assumption | exact Or.inl rfl | exact Or.inr rfl | apply clO_b | refine cb_up ?_ ?_ | refine cb_cu ?_ ?_)) (by first | omega | exact Nat.lt_of_lt_of_le (hT2.fiU hx2 hp hgp c_24) (Nat.le_of_lt_succ hmu5))
                  ·
                    refine sw_aload_n (n := 216) F 2 (some x2) rfl rfl rfl dJ10_fixAfterInsertion_215 rfl ?_
                    refine sw_callS (n := 219) F (ct_J10_parentOf (g := xg x) (l := xl x) Ks ka va L2 R2 P2 c2 (some x2) (fun x9 e9 => Option.some.inj e9 ▸ hx2)) q3177 q3178 q114 q3179 nd_J10_parentOf rfl (by decide) [0, 1] rfl [ob (xg x) q 14 [.null, va_rf vs, .null, va_rf rt2, .int (jI sz), .int (jI mc), .null, .null, .null]] rfl 0 0 ⟨by omega, by omega⟩ [] rfl (Nat.le_of_ble_eq_true rfl) dJ10_fixAfterInsertion_216 rfl (fun _ _ h => h.elim) (fun v Ws h => ?_)
                    obtain ⟨rfl, rfl⟩ := h
                    show SW x [nd (xg x) Ks ka va L2 R2 P2 c2, ob (xg x) q 14 [.null, va_rf vs, .null, va_rf rt2, .int (jI sz), .int (jI mc), .null, .null, .null]] _ _ _ _ [va_rf ((some x2).bind P2)]
                    refine SW.cast (st' := [.ref p]) ?_ rfl rfl (congrArg (fun o9 => va_rf o9 :: _) hp)
                    refine sw_astore_n (n := 220) F (some p) (L2 := [(1, .ref p), (2, va_rf (L2 gp)), (0, .ref q)]) (by first | rfl | simp [va_rf_cat]) rfl (by decide) rfl dJ10_fixAfterInsertion_219 rfl ?_
                    refine sw_aload_n (n := 221) F 2 (some q) rfl rfl rfl dJ10_fixAfterInsertion_220 rfl ?_
                    refine sw_aload_n (n := 222) F 0 (some p) rfl rfl rfl dJ10_fixAfterInsertion_221 rfl ?_
                    refine sw_callV (n := 225) F (ct_J10_rotateRight (g := xg x) (l := xl x) Ks ka va L2 R2 P2 c2 q vs rt2 sz mc rk lo2 hi2 p x2 hT2 hpK (by exact c_212.symm)) (rcv_ob F 1 rfl rfl) q3196 q3198 qs53 q114 q3199 nd_J10_rotateRight rfl (by decide) [1, 0] rfl [] rfl 0 0 ⟨by omega, by omega⟩ [] rfl (Nat.le_of_ble_eq_true rfl) dJ10_fixAfterInsertion_222 rfl (fun _ _ h => h.elim) (fun v Ws h => ?_)
                    obtain ⟨L1_22, R1_23, P1_24, rt1_25, lo1_26, hi1_27, rfl, hR_28, hT1_29, hlo_30, hhi_31, rfl⟩ := h
                    show SW x [ob (xg x) q 14 [.null, va_rf vs, .null, va_rf rt1_25, .int (jI sz), .int (jI mc), .null, .null, .null], nd (xg x) Ks ka va L1_22 R1_23 P1_24 c2] _ _ _ _ []
                    obtain ⟨hb1, hb2, hb3, hb4⟩ := hT2.fiBR hx2 hp c_212.symm hR_28
                    have hb6 : P1_24 x2 = some gp := hb2.trans hgp
                    have hb5 : R1_23 gp = some x2 := (hb4 gp hgp).1 hgl
                    refine sw_aload_n (n := 226) F 0 (some p) rfl rfl rfl dJ10_fixAfterInsertion_225 rfl ?_
                    refine sw_callS (n := 229) F (ct_J10_parentOf (g := xg x) (l := xl x) Ks ka va L1_22 R1_23 P1_24 c2 (some p) (fun x9 e9 => Option.some.inj e9 ▸ hpK)) q3177 q3178 q114 q3179 nd_J10_parentOf rfl (by decide) [1, 0] rfl [ob (xg x) q 14 [.null, va_rf vs, .null, va_rf rt1_25, .int (jI sz), .int (jI mc), .null, .null, .null]] rfl 0 0 ⟨by omega, by omega⟩ [] rfl (Nat.le_of_ble_eq_true rfl) dJ10_fixAfterInsertion_226 rfl (fun _ _ h => h.elim) (fun v Ws h => ?_)
                    obtain ⟨rfl, rfl⟩ := h
                    show SW x [nd (xg x) Ks ka va L1_22 R1_23 P1_24 c2, ob (xg x) q 14 [.null, va_rf vs, .null, va_rf rt1_25, .int (jI sz), .int (jI mc), .null, .null, .null]] _ _ _ _ [va_rf ((some p).bind P1_24)]
                    refine SW.cast (st' := [.ref x2]) ?_ rfl rfl (congrArg (fun o9 => va_rf o9 :: _) hb1)
                    refine sw_iconst (n := 230) F (1) (by decide) dJ10_fixAfterInsertion_229 rfl ?_
                    refine sw_callS (n := 233) F (ct_J10_setColor (g := xg x) (l := xl x) Ks ka va L1_22 R1_23 P1_24 c2 x2 1 hx2 (by first | omega | assumption)) q3189 q3190 q114 q3191 nd_J10_setColor rfl (by decide) [0, 1] rfl [ob (xg x) q 14 [.null, va_rf vs, .null, va_rf rt1_25, .int (jI sz), .int (jI mc), .null, .null, .null]] rfl 0 0 ⟨by omega, by omega⟩ [] rfl (Nat.le_of_ble_eq_true rfl) dJ10_fixAfterInsertion_230 rfl (fun _ _ h => h.elim) (fun v Ws h => ?_)
                    obtain ⟨rfl, rfl⟩ := h
                    show SW x [nd (xg x) Ks ka va L1_22 R1_23 P1_24 (va_up c2 x2 1), ob (xg x) q 14 [.null, va_rf vs, .null, va_rf rt1_25, .int (jI sz), .int (jI mc), .null, .null, .null]] _ _ _ _ []
                    refine sw_aload_n (n := 234) F 0 (some p) rfl rfl rfl dJ10_fixAfterInsertion_233 rfl ?_
                    refine sw_callS (n := 237) F (ct_J10_parentOf (g := xg x) (l := xl x) Ks ka va L1_22 R1_23 P1_24 (va_up c2 x2 1) (some p) (fun x9 e9 => Option.some.inj e9 ▸ hpK)) q3177 q3178 q114 q3179 nd_J10_parentOf rfl (by decide) [0, 1] rfl [ob (xg x) q 14 [.null, va_rf vs, .null, va_rf rt1_25, .int (jI sz), .int (jI mc), .null, .null, .null]] rfl 0 0 ⟨by omega, by omega⟩ [] rfl (Nat.le_of_ble_eq_true rfl) dJ10_fixAfterInsertion_234 rfl (fun _ _ h => h.elim) (fun v Ws h => ?_)
                    obtain ⟨rfl, rfl⟩ := h
                    show SW x [nd (xg x) Ks ka va L1_22 R1_23 P1_24 (va_up c2 x2 1), ob (xg x) q 14 [.null, va_rf vs, .null, va_rf rt1_25, .int (jI sz), .int (jI mc), .null, .null, .null]] _ _ _ _ [va_rf ((some p).bind P1_24)]
                    refine SW.cast (st' := [.ref x2]) ?_ rfl rfl (congrArg (fun o9 => va_rf o9 :: _) hb1)
                    refine sw_callS (n := 240) F (ct_J10_parentOf (g := xg x) (l := xl x) Ks ka va L1_22 R1_23 P1_24 (va_up c2 x2 1) (some x2) (fun x9 e9 => Option.some.inj e9 ▸ hx2)) q3177 q3178 q114 q3179 nd_J10_parentOf rfl (by decide) [0, 1] rfl [ob (xg x) q 14 [.null, va_rf vs, .null, va_rf rt1_25, .int (jI sz), .int (jI mc), .null, .null, .null]] rfl 0 0 ⟨by omega, by omega⟩ [] rfl (Nat.le_of_ble_eq_true rfl) dJ10_fixAfterInsertion_237 rfl (fun _ _ h => h.elim) (fun v Ws h => ?_)
                    obtain ⟨rfl, rfl⟩ := h
                    show SW x [nd (xg x) Ks ka va L1_22 R1_23 P1_24 (va_up c2 x2 1), ob (xg x) q 14 [.null, va_rf vs, .null, va_rf rt1_25, .int (jI sz), .int (jI mc), .null, .null, .null]] _ _ _ _ [va_rf ((some x2).bind P1_24)]
                    refine SW.cast (st' := [.ref gp]) ?_ rfl rfl (congrArg (fun o9 => va_rf o9 :: _) hb6)
                    refine sw_iconst (n := 241) F (0) (by decide) dJ10_fixAfterInsertion_240 rfl ?_
                    refine sw_callS (n := 244) F (ct_J10_setColor (g := xg x) (l := xl x) Ks ka va L1_22 R1_23 P1_24 (va_up c2 x2 1) gp 0 hgK (by first | omega | assumption)) q3189 q3190 q114 q3191 nd_J10_setColor rfl (by decide) [0, 1] rfl [ob (xg x) q 14 [.null, va_rf vs, .null, va_rf rt1_25, .int (jI sz), .int (jI mc), .null, .null, .null]] rfl 0 0 ⟨by omega, by omega⟩ [] rfl (Nat.le_of_ble_eq_true rfl) dJ10_fixAfterInsertion_241 rfl (fun _ _ h => h.elim) (fun v Ws h => ?_)
                    obtain ⟨rfl, rfl⟩ := h
                    show SW x [nd (xg x) Ks ka va L1_22 R1_23 P1_24 (va_up (va_up c2 x2 1) gp 0), ob (xg x) q 14 [.null, va_rf vs, .null, va_rf rt1_25, .int (jI sz), .int (jI mc), .null, .null, .null]] _ _ _ _ []
                    refine sw_aload_n (n := 245) F 2 (some q) rfl rfl rfl dJ10_fixAfterInsertion_244 rfl ?_
                    refine sw_aload_n (n := 246) F 0 (some p) rfl rfl rfl dJ10_fixAfterInsertion_245 rfl ?_
                    refine sw_callS (n := 249) F (ct_J10_parentOf (g := xg x) (l := xl x) Ks ka va L1_22 R1_23 P1_24 (va_up (va_up c2 x2 1) gp 0) (some p) (fun x9 e9 => Option.some.inj e9 ▸ hpK)) q3177 q3178 q114 q3179 nd_J10_parentOf rfl (by decide) [0, 1] rfl [ob (xg x) q 14 [.null, va_rf vs, .null, va_rf rt1_25, .int (jI sz), .int (jI mc), .null, .null, .null]] rfl 0 0 ⟨by omega, by omega⟩ [.ref q] rfl (Nat.le_of_ble_eq_true rfl) dJ10_fixAfterInsertion_246 rfl (fun _ _ h => h.elim) (fun v Ws h => ?_)
                    obtain ⟨rfl, rfl⟩ := h
                    show SW x [nd (xg x) Ks ka va L1_22 R1_23 P1_24 (va_up (va_up c2 x2 1) gp 0), ob (xg x) q 14 [.null, va_rf vs, .null, va_rf rt1_25, .int (jI sz), .int (jI mc), .null, .null, .null]] _ _ _ _ [va_rf ((some p).bind P1_24), .ref q]
                    refine SW.cast (st' := [.ref x2, .ref q]) ?_ rfl rfl (congrArg (fun o9 => va_rf o9 :: _) hb1)
                    refine sw_callS (n := 252) F (ct_J10_parentOf (g := xg x) (l := xl x) Ks ka va L1_22 R1_23 P1_24 (va_up (va_up c2 x2 1) gp 0) (some x2) (fun x9 e9 => Option.some.inj e9 ▸ hx2)) q3177 q3178 q114 q3179 nd_J10_parentOf rfl (by decide) [0, 1] rfl [ob (xg x) q 14 [.null, va_rf vs, .null, va_rf rt1_25, .int (jI sz), .int (jI mc), .null, .null, .null]] rfl 0 0 ⟨by omega, by omega⟩ [.ref q] rfl (Nat.le_of_ble_eq_true rfl) dJ10_fixAfterInsertion_249 rfl (fun _ _ h => h.elim) (fun v Ws h => ?_)
                    obtain ⟨rfl, rfl⟩ := h
                    show SW x [nd (xg x) Ks ka va L1_22 R1_23 P1_24 (va_up (va_up c2 x2 1) gp 0), ob (xg x) q 14 [.null, va_rf vs, .null, va_rf rt1_25, .int (jI sz), .int (jI mc), .null, .null, .null]] _ _ _ _ [va_rf ((some x2).bind P1_24), .ref q]
                    refine SW.cast (st' := [.ref gp, .ref q]) ?_ rfl rfl (congrArg (fun o9 => va_rf o9 :: _) hb6)
                    refine sw_callV (n := 255) F (ct_J10_rotateLeft (g := xg x) (l := xl x) Ks ka va L1_22 R1_23 P1_24 (va_up (va_up c2 x2 1) gp 0) q vs rt1_25 sz mc rk lo1_26 hi1_27 gp x2 hT1_29 hgK hb5) (rcv_ob F 1 rfl rfl) q3192 q3194 qs52 q114 q3195 nd_J10_rotateLeft rfl (by decide) [1, 0] rfl [] rfl 0 0 ⟨by omega, by omega⟩ [] rfl (Nat.le_of_ble_eq_true rfl) dJ10_fixAfterInsertion_252 rfl (fun _ _ h => h.elim) (fun v Ws h => ?_)
                    obtain ⟨L1_32, R1_33, P1_34, rt1_35, lo1_36, hi1_37, rfl, hR_38, hT1_39, hlo_40, hhi_41, rfl⟩ := h
                    show SW x [ob (xg x) q 14 [.null, va_rf vs, .null, va_rf rt1_35, .int (jI sz), .int (jI mc), .null, .null, .null], nd (xg x) Ks ka va L1_32 R1_33 P1_34 (va_up (va_up c2 x2 1) gp 0)] _ _ _ _ []
                    have hpp : P1_34 p = some x2 := hT1_29.fiAL hpK hb1 hb6 (fun e9 => hT1_29.lr hx2 e9.symm hb3) hR_38
                    have hm0 : fiM P1_34 (va_up (va_up c2 x2 1) gp 0) lo1_36 hi1_37 p = 0 := fiM_0 hpp (Eq.trans (va_up_ne _ _ hxg) (va_up_self _ _ _))
                    have hm1 := fiM_1 (lo := lo2) (hi := hi2) hp c_24
                    refine sw_goto F (n := 5) dJ10_fixAfterInsertion_255 (by decide) ?_
                    refine sw_perm [1, 0] rfl [nd (xg x) Ks ka va L1_32 R1_33 P1_34 (va_up (va_up c2 x2 1) gp 0), ob (xg x) q 14 [.null, va_rf vs, .null, va_rf rt1_35, .int (jI sz), .int (jI mc), .null, .null, .null]] rfl ?_
                    refine sw_loc [2, 0] (L2 := [(0, .ref q), (1, .ref p)]) rfl ?_
                    exact ih5 p L1_32 R1_33 P1_34 (va_up (va_up c2 x2 1) gp 0) rt1_35 lo1_36 hi1_37 hT1_39 hpK (by (repeat' first | assumption | exact Or.inl rfl | exact Or.inr rfl | apply clO_b | refine cb_up ?_ ?_ | refine cb_cu ?_ ?_)) (by first | omega | exact Nat.lt_of_lt_of_le (hT2.fiU hx2 hp hgp c_24) (Nat.le_of_lt_succ hmu5))
                ·
                  refine sw_aload_n (n := 170) F 2 (some x2) rfl rfl rfl dJ10_fixAfterInsertion_169 rfl ?_
                  refine sw_callS (n := 173) F (ct_J10_parentOf (g := xg x) (l := xl x) Ks ka va L2 R2 P2 c2 (some x2) (fun x9 e9 => Option.some.inj e9 ▸ hx2)) q3177 q3178 q114 q3179 nd_J10_parentOf rfl (by decide) [0, 1] rfl [ob (xg x) q 14 [.null, va_rf vs, .null, va_rf rt2, .int (jI sz), .int (jI mc), .null, .null, .null]] rfl 0 0 ⟨by omega, by omega⟩ [] rfl (Nat.le_of_ble_eq_true rfl) dJ10_fixAfterInsertion_170 rfl (fun _ _ h => h.elim) (fun v Ws h => ?_)
                  obtain ⟨rfl, rfl⟩ := h
                  show SW x [nd (xg x) Ks ka va L2 R2 P2 c2, ob (xg x) q 14 [.null, va_rf vs, .null, va_rf rt2, .int (jI sz), .int (jI mc), .null, .null, .null]] _ _ _ _ [va_rf ((some x2).bind P2)]
                  refine SW.cast (st' := [.ref p]) ?_ rfl rfl (congrArg (fun o9 => va_rf o9 :: _) hp)
                  refine sw_iconst (n := 174) F (1) (by decide) dJ10_fixAfterInsertion_173 rfl ?_
                  refine sw_callS (n := 177) F (ct_J10_setColor (g := xg x) (l := xl x) Ks ka va L2 R2 P2 c2 p 1 hpK (by first | omega | assumption)) q3189 q3190 q114 q3191 nd_J10_setColor rfl (by decide) [0, 1] rfl [ob (xg x) q 14 [.null, va_rf vs, .null, va_rf rt2, .int (jI sz), .int (jI mc), .null, .null, .null]] rfl 0 0 ⟨by omega, by omega⟩ [] rfl (Nat.le_of_ble_eq_true rfl) dJ10_fixAfterInsertion_174 rfl (fun _ _ h => h.elim) (fun v Ws h => ?_)
                  obtain ⟨rfl, rfl⟩ := h
                  show SW x [nd (xg x) Ks ka va L2 R2 P2 (va_up c2 p 1), ob (xg x) q 14 [.null, va_rf vs, .null, va_rf rt2, .int (jI sz), .int (jI mc), .null, .null, .null]] _ _ _ _ []
                  refine sw_aload_n (n := 178) F 0 (L2 gp) rfl rfl rfl dJ10_fixAfterInsertion_177 rfl ?_
                  refine sw_iconst (n := 179) F (1) (by decide) dJ10_fixAfterInsertion_178 rfl ?_
                  refine sw_callS (n := 182) F (ct_J10_setColor_o (g := xg x) (l := xl x) Ks ka va L2 R2 P2 (va_up c2 p 1) (L2 gp) 1 (fun x9 e9 => (hT2.l hgK e9).1) (by first | omega | assumption)) q3189 q3190 q114 q3191 nd_J10_setColor rfl (by decide) [0, 1] rfl [ob (xg x) q 14 [.null, va_rf vs, .null, va_rf rt2, .int (jI sz), .int (jI mc), .null, .null, .null]] rfl 0 0 ⟨by omega, by omega⟩ [] rfl (Nat.le_of_ble_eq_true rfl) dJ10_fixAfterInsertion_179 rfl (fun _ _ h => h.elim) (fun v Ws h => ?_)
                  obtain ⟨rfl, rfl⟩ := h
                  show SW x [nd (xg x) Ks ka va L2 R2 P2 (cuO (va_up c2 p 1) (L2 gp) 1), ob (xg x) q 14 [.null, va_rf vs, .null, va_rf rt2, .int (jI sz), .int (jI mc), .null, .null, .null]] _ _ _ _ []
                  refine sw_aload_n (n := 183) F 2 (some x2) rfl rfl rfl dJ10_fixAfterInsertion_182 rfl ?_
                  refine sw_callS (n := 186) F (ct_J10_parentOf (g := xg x) (l := xl x) Ks ka va L2 R2 P2 (cuO (va_up c2 p 1) (L2 gp) 1) (some x2) (fun x9 e9 => Option.some.inj e9 ▸ hx2)) q3177 q3178 q114 q3179 nd_J10_parentOf rfl (by decide) [0, 1] rfl [ob (xg x) q 14 [.null, va_rf vs, .null, va_rf rt2, .int (jI sz), .int (jI mc), .null, .null, .null]] rfl 0 0 ⟨by omega, by omega⟩ [] rfl (Nat.le_of_ble_eq_true rfl) dJ10_fixAfterInsertion_183 rfl (fun _ _ h => h.elim) (fun v Ws h => ?_)
                  obtain ⟨rfl, rfl⟩ := h
                  show SW x [nd (xg x) Ks ka va L2 R2 P2 (cuO (va_up c2 p 1) (L2 gp) 1), ob (xg x) q 14 [.null, va_rf vs, .null, va_rf rt2, .int (jI sz), .int (jI mc), .null, .null, .null]] _ _ _ _ [va_rf ((some x2).bind P2)]
                  refine SW.cast (st' := [.ref p]) ?_ rfl rfl (congrArg (fun o9 => va_rf o9 :: _) hp)
                  refine sw_callS (n := 189) F (ct_J10_parentOf (g := xg x) (l := xl x) Ks ka va L2 R2 P2 (cuO (va_up c2 p 1) (L2 gp) 1) (some p) (fun x9 e9 => Option.some.inj e9 ▸ hpK)) q3177 q3178 q114 q3179 nd_J10_parentOf rfl (by decide) [0, 1] rfl [ob (xg x) q 14 [.null, va_rf vs, .null, va_rf rt2, .int (jI sz), .int (jI mc), .null, .null, .null]] rfl 0 0 ⟨by omega, by omega⟩ [] rfl (Nat.le_of_ble_eq_true rfl) dJ10_fixAfterInsertion_186 rfl (fun _ _ h => h.elim) (fun v Ws h => ?_)
                  obtain ⟨rfl, rfl⟩ := h
                  show SW x [nd (xg x) Ks ka va L2 R2 P2 (cuO (va_up c2 p 1) (L2 gp) 1), ob (xg x) q 14 [.null, va_rf vs, .null, va_rf rt2, .int (jI sz), .int (jI mc), .null, .null, .null]] _ _ _ _ [va_rf ((some p).bind P2)]
                  refine SW.cast (st' := [.ref gp]) ?_ rfl rfl (congrArg (fun o9 => va_rf o9 :: _) hgp)
                  refine sw_iconst (n := 190) F (0) (by decide) dJ10_fixAfterInsertion_189 rfl ?_
                  refine sw_callS (n := 193) F (ct_J10_setColor (g := xg x) (l := xl x) Ks ka va L2 R2 P2 (cuO (va_up c2 p 1) (L2 gp) 1) gp 0 hgK (by first | omega | assumption)) q3189 q3190 q114 q3191 nd_J10_setColor rfl (by decide) [0, 1] rfl [ob (xg x) q 14 [.null, va_rf vs, .null, va_rf rt2, .int (jI sz), .int (jI mc), .null, .null, .null]] rfl 0 0 ⟨by omega, by omega⟩ [] rfl (Nat.le_of_ble_eq_true rfl) dJ10_fixAfterInsertion_190 rfl (fun _ _ h => h.elim) (fun v Ws h => ?_)
                  obtain ⟨rfl, rfl⟩ := h
                  show SW x [nd (xg x) Ks ka va L2 R2 P2 (va_up (cuO (va_up c2 p 1) (L2 gp) 1) gp 0), ob (xg x) q 14 [.null, va_rf vs, .null, va_rf rt2, .int (jI sz), .int (jI mc), .null, .null, .null]] _ _ _ _ []
                  refine sw_aload_n (n := 194) F 2 (some x2) rfl rfl rfl dJ10_fixAfterInsertion_193 rfl ?_
                  refine sw_callS (n := 197) F (ct_J10_parentOf (g := xg x) (l := xl x) Ks ka va L2 R2 P2 (va_up (cuO (va_up c2 p 1) (L2 gp) 1) gp 0) (some x2) (fun x9 e9 => Option.some.inj e9 ▸ hx2)) q3177 q3178 q114 q3179 nd_J10_parentOf rfl (by decide) [0, 1] rfl [ob (xg x) q 14 [.null, va_rf vs, .null, va_rf rt2, .int (jI sz), .int (jI mc), .null, .null, .null]] rfl 0 0 ⟨by omega, by omega⟩ [] rfl (Nat.le_of_ble_eq_true rfl) dJ10_fixAfterInsertion_194 rfl (fun _ _ h => h.elim) (fun v Ws h => ?_)
                  obtain ⟨rfl, rfl⟩ := h
                  show SW x [nd (xg x) Ks ka va L2 R2 P2 (va_up (cuO (va_up c2 p 1) (L2 gp) 1) gp 0), ob (xg x) q 14 [.null, va_rf vs, .null, va_rf rt2, .int (jI sz), .int (jI mc), .null, .null, .null]] _ _ _ _ [va_rf ((some x2).bind P2)]
                  refine SW.cast (st' := [.ref p]) ?_ rfl rfl (congrArg (fun o9 => va_rf o9 :: _) hp)
                  refine sw_callS (n := 200) F (ct_J10_parentOf (g := xg x) (l := xl x) Ks ka va L2 R2 P2 (va_up (cuO (va_up c2 p 1) (L2 gp) 1) gp 0) (some p) (fun x9 e9 => Option.some.inj e9 ▸ hpK)) q3177 q3178 q114 q3179 nd_J10_parentOf rfl (by decide) [0, 1] rfl [ob (xg x) q 14 [.null, va_rf vs, .null, va_rf rt2, .int (jI sz), .int (jI mc), .null, .null, .null]] rfl 0 0 ⟨by omega, by omega⟩ [] rfl (Nat.le_of_ble_eq_true rfl) dJ10_fixAfterInsertion_197 rfl (fun _ _ h => h.elim) (fun v Ws h => ?_)
                  obtain ⟨rfl, rfl⟩ := h
                  show SW x [nd (xg x) Ks ka va L2 R2 P2 (va_up (cuO (va_up c2 p 1) (L2 gp) 1) gp 0), ob (xg x) q 14 [.null, va_rf vs, .null, va_rf rt2, .int (jI sz), .int (jI mc), .null, .null, .null]] _ _ _ _ [va_rf ((some p).bind P2)]
                  refine SW.cast (st' := [.ref gp]) ?_ rfl rfl (congrArg (fun o9 => va_rf o9 :: _) hgp)
                  refine sw_astore_n (n := 201) F (some gp) (L2 := [(1, .ref gp), (2, va_rf (L2 gp)), (0, .ref q)]) (by first | rfl | simp [va_rf_cat]) rfl (by decide) rfl dJ10_fixAfterInsertion_200 rfl ?_
                  refine sw_goto F (n := 255) dJ10_fixAfterInsertion_201 (by decide) ?_
                  refine sw_goto F (n := 5) dJ10_fixAfterInsertion_255 (by decide) ?_
                  refine sw_loc [2, 0] (L2 := [(0, .ref q), (1, .ref gp)]) rfl ?_
                  exact ih5 gp L2 R2 P2 (va_up (cuO (va_up c2 p 1) (L2 gp) 1) gp 0) rt2 lo2 hi2 hT2 hgK (by (repeat' first | assumption | exact Or.inl rfl | exact Or.inr rfl | apply clO_b | refine cb_up ?_ ?_ | refine cb_cu ?_ ?_)) (by first | omega | exact Nat.lt_of_lt_of_le (hT2.fiU hx2 hp hgp c_24) (Nat.le_of_lt_succ hmu5))
              ·
                have hgl : L2 gp = some p := c_41.symm
                refine sw_aload_n (n := 45) F 1 (some x2) rfl rfl rfl dJ10_fixAfterInsertion_44 rfl ?_
                refine sw_callS (n := 48) F (ct_J10_parentOf (g := xg x) (l := xl x) Ks ka va L2 R2 P2 c2 (some x2) (fun x9 e9 => Option.some.inj e9 ▸ hx2)) q3177 q3178 q114 q3179 nd_J10_parentOf rfl (by decide) [0, 1] rfl [ob (xg x) q 14 [.null, va_rf vs, .null, va_rf rt2, .int (jI sz), .int (jI mc), .null, .null, .null]] rfl 0 0 ⟨by omega, by omega⟩ [] rfl (Nat.le_of_ble_eq_true rfl) dJ10_fixAfterInsertion_45 rfl (fun _ _ h => h.elim) (fun v Ws h => ?_)
                obtain ⟨rfl, rfl⟩ := h
                show SW x [nd (xg x) Ks ka va L2 R2 P2 c2, ob (xg x) q 14 [.null, va_rf vs, .null, va_rf rt2, .int (jI sz), .int (jI mc), .null, .null, .null]] _ _ _ _ [va_rf ((some x2).bind P2)]
                refine SW.cast (st' := [.ref p]) ?_ rfl rfl (congrArg (fun o9 => va_rf o9 :: _) hp)
                refine sw_callS (n := 51) F (ct_J10_parentOf (g := xg x) (l := xl x) Ks ka va L2 R2 P2 c2 (some p) (fun x9 e9 => Option.some.inj e9 ▸ hpK)) q3177 q3178 q114 q3179 nd_J10_parentOf rfl (by decide) [0, 1] rfl [ob (xg x) q 14 [.null, va_rf vs, .null, va_rf rt2, .int (jI sz), .int (jI mc), .null, .null, .null]] rfl 0 0 ⟨by omega, by omega⟩ [] rfl (Nat.le_of_ble_eq_true rfl) dJ10_fixAfterInsertion_48 rfl (fun _ _ h => h.elim) (fun v Ws h => ?_)
                obtain ⟨rfl, rfl⟩ := h
                show SW x [nd (xg x) Ks ka va L2 R2 P2 c2, ob (xg x) q 14 [.null, va_rf vs, .null, va_rf rt2, .int (jI sz), .int (jI mc), .null, .null, .null]] _ _ _ _ [va_rf ((some p).bind P2)]
                refine SW.cast (st' := [.ref gp]) ?_ rfl rfl (congrArg (fun o9 => va_rf o9 :: _) hgp)
                refine sw_callS (n := 54) F (ct_J10_rightOf (g := xg x) (l := xl x) Ks ka va L2 R2 P2 c2 (some gp) (fun x9 e9 => Option.some.inj e9 ▸ hgK)) q3183 q3184 q114 q3185 nd_J10_rightOf rfl (by decide) [0, 1] rfl [ob (xg x) q 14 [.null, va_rf vs, .null, va_rf rt2, .int (jI sz), .int (jI mc), .null, .null, .null]] rfl 0 0 ⟨by omega, by omega⟩ [] rfl (Nat.le_of_ble_eq_true rfl) dJ10_fixAfterInsertion_51 rfl (fun _ _ h => h.elim) (fun v Ws h => ?_)
                obtain ⟨rfl, rfl⟩ := h
                show SW x [nd (xg x) Ks ka va L2 R2 P2 c2, ob (xg x) q 14 [.null, va_rf vs, .null, va_rf rt2, .int (jI sz), .int (jI mc), .null, .null, .null]] _ _ _ _ [va_rf ((some gp).bind R2)]
                refine SW.cast (st' := [va_rf (R2 gp)]) ?_ rfl rfl rfl
                refine sw_astore_n (n := 55) F (R2 gp) (L2 := [(2, va_rf (R2 gp)), (0, .ref q), (1, .ref x2)]) (by first | rfl | simp [va_rf_cat]) rfl (by decide) rfl dJ10_fixAfterInsertion_54 rfl ?_
                refine sw_aload_n (n := 56) F 0 (R2 gp) rfl rfl rfl dJ10_fixAfterInsertion_55 rfl ?_
                refine sw_callS (n := 59) F (ct_J10_colorOf (g := xg x) (l := xl x) Ks ka va L2 R2 P2 c2 (R2 gp) (fun x9 e9 => (hT2.r hgK e9).1) (by (repeat' first | assumption | exact Or.inl rfl | exact Or.inr rfl | apply clO_b | refine cb_up ?_ ?_ | refine cb_cu ?_ ?_))) q3186 q3187 q114 q3188 nd_J10_colorOf rfl (by decide) [0, 1] rfl [ob (xg x) q 14 [.null, va_rf vs, .null, va_rf rt2, .int (jI sz), .int (jI mc), .null, .null, .null]] rfl 0 0 ⟨by omega, by omega⟩ [] rfl (Nat.le_of_ble_eq_true rfl) dJ10_fixAfterInsertion_56 rfl (fun _ _ h => h.elim) (fun v Ws h => ?_)
                obtain ⟨rfl, rfl⟩ := h
                show SW x [nd (xg x) Ks ka va L2 R2 P2 c2, ob (xg x) q 14 [.null, va_rf vs, .null, va_rf rt2, .int (jI sz), .int (jI mc), .null, .null, .null]] _ _ _ _ [.int (jI (clO c2 (R2 gp)))]
                have hyb_42 : clO c2 (R2 gp) = 0 ∨ clO c2 (R2 gp) = 1 := clO_b (by (repeat' first | assumption | exact Or.inl rfl | exact Or.inr rfl | apply clO_b | refine cb_up ?_ ?_ | refine cb_cu ?_ ?_)) _
                refine sw_if_ne (n := 62) F (by omega) (tgt := 97) dJ10_fixAfterInsertion_59 (by decide) rfl (fun c_59 => ?_) (fun c_59 => ?_)
                ·
                  refine sw_aload_n (n := 98) F 2 (some x2) rfl rfl rfl dJ10_fixAfterInsertion_97 rfl ?_
                  refine sw_aload_n (n := 99) F 2 (some x2) rfl rfl rfl dJ10_fixAfterInsertion_98 rfl ?_
                  refine sw_callS (n := 102) F (ct_J10_parentOf (g := xg x) (l := xl x) Ks ka va L2 R2 P2 c2 (some x2) (fun x9 e9 => Option.some.inj e9 ▸ hx2)) q3177 q3178 q114 q3179 nd_J10_parentOf rfl (by decide) [0, 1] rfl [ob (xg x) q 14 [.null, va_rf vs, .null, va_rf rt2, .int (jI sz), .int (jI mc), .null, .null, .null]] rfl 0 0 ⟨by omega, by omega⟩ [.ref x2] rfl (Nat.le_of_ble_eq_true rfl) dJ10_fixAfterInsertion_99 rfl (fun _ _ h => h.elim) (fun v Ws h => ?_)
                  obtain ⟨rfl, rfl⟩ := h
                  show SW x [nd (xg x) Ks ka va L2 R2 P2 c2, ob (xg x) q 14 [.null, va_rf vs, .null, va_rf rt2, .int (jI sz), .int (jI mc), .null, .null, .null]] _ _ _ _ [va_rf ((some x2).bind P2), .ref x2]
                  refine SW.cast (st' := [.ref p, .ref x2]) ?_ rfl rfl (congrArg (fun o9 => va_rf o9 :: _) hp)
                  refine sw_callS (n := 105) F (ct_J10_rightOf (g := xg x) (l := xl x) Ks ka va L2 R2 P2 c2 (some p) (fun x9 e9 => Option.some.inj e9 ▸ hpK)) q3183 q3184 q114 q3185 nd_J10_rightOf rfl (by decide) [0, 1] rfl [ob (xg x) q 14 [.null, va_rf vs, .null, va_rf rt2, .int (jI sz), .int (jI mc), .null, .null, .null]] rfl 0 0 ⟨by omega, by omega⟩ [.ref x2] rfl (Nat.le_of_ble_eq_true rfl) dJ10_fixAfterInsertion_102 rfl (fun _ _ h => h.elim) (fun v Ws h => ?_)
                  obtain ⟨rfl, rfl⟩ := h
                  show SW x [nd (xg x) Ks ka va L2 R2 P2 c2, ob (xg x) q 14 [.null, va_rf vs, .null, va_rf rt2, .int (jI sz), .int (jI mc), .null, .null, .null]] _ _ _ _ [va_rf ((some p).bind R2), .ref x2]
                  refine SW.cast (st' := [va_rf (R2 p), .ref x2]) ?_ rfl rfl rfl
                  refine sw_acmp_ne (n := 108) F (rx := (some x2)) (ry := (R2 p)) rfl rfl (tgt := 118) dJ10_fixAfterInsertion_105 (by decide) rfl (fun c_105 => ?_) (fun c_105 => ?_)
                  ·
                    refine sw_aload_n (n := 119) F 2 (some x2) rfl rfl rfl dJ10_fixAfterInsertion_118 rfl ?_
                    refine sw_callS (n := 122) F (ct_J10_parentOf (g := xg x) (l := xl x) Ks ka va L2 R2 P2 c2 (some x2) (fun x9 e9 => Option.some.inj e9 ▸ hx2)) q3177 q3178 q114 q3179 nd_J10_parentOf rfl (by decide) [0, 1] rfl [ob (xg x) q 14 [.null, va_rf vs, .null, va_rf rt2, .int (jI sz), .int (jI mc), .null, .null, .null]] rfl 0 0 ⟨by omega, by omega⟩ [] rfl (Nat.le_of_ble_eq_true rfl) dJ10_fixAfterInsertion_119 rfl (fun _ _ h => h.elim) (fun v Ws h => ?_)
                    obtain ⟨rfl, rfl⟩ := h
                    show SW x [nd (xg x) Ks ka va L2 R2 P2 c2, ob (xg x) q 14 [.null, va_rf vs, .null, va_rf rt2, .int (jI sz), .int (jI mc), .null, .null, .null]] _ _ _ _ [va_rf ((some x2).bind P2)]
                    refine SW.cast (st' := [.ref p]) ?_ rfl rfl (congrArg (fun o9 => va_rf o9 :: _) hp)
                    refine sw_iconst (n := 123) F (1) (by decide) dJ10_fixAfterInsertion_122 rfl ?_
                    refine sw_callS (n := 126) F (ct_J10_setColor (g := xg x) (l := xl x) Ks ka va L2 R2 P2 c2 p 1 hpK (by first | omega | assumption)) q3189 q3190 q114 q3191 nd_J10_setColor rfl (by decide) [0, 1] rfl [ob (xg x) q 14 [.null, va_rf vs, .null, va_rf rt2, .int (jI sz), .int (jI mc), .null, .null, .null]] rfl 0 0 ⟨by omega, by omega⟩ [] rfl (Nat.le_of_ble_eq_true rfl) dJ10_fixAfterInsertion_123 rfl (fun _ _ h => h.elim) (fun v Ws h => ?_)
                    obtain ⟨rfl, rfl⟩ := h
                    show SW x [nd (xg x) Ks ka va L2 R2 P2 (va_up c2 p 1), ob (xg x) q 14 [.null, va_rf vs, .null, va_rf rt2, .int (jI sz), .int (jI mc), .null, .null, .null]] _ _ _ _ []
                    refine sw_aload_n (n := 127) F 2 (some x2) rfl rfl rfl dJ10_fixAfterInsertion_126 rfl ?_
                    refine sw_callS (n := 130) F (ct_J10_parentOf (g := xg x) (l := xl x) Ks ka va L2 R2 P2 (va_up c2 p 1) (some x2) (fun x9 e9 => Option.some.inj e9 ▸ hx2)) q3177 q3178 q114 q3179 nd_J10_parentOf rfl (by decide) [0, 1] rfl [ob (xg x) q 14 [.null, va_rf vs, .null, va_rf rt2, .int (jI sz), .int (jI mc), .null, .null, .null]] rfl 0 0 ⟨by omega, by omega⟩ [] rfl (Nat.le_of_ble_eq_true rfl) dJ10_fixAfterInsertion_127 rfl (fun _ _ h => h.elim) (fun v Ws h => ?_)
                    obtain ⟨rfl, rfl⟩ := h
                    show SW x [nd (xg x) Ks ka va L2 R2 P2 (va_up c2 p 1), ob (xg x) q 14 [.null, va_rf vs, .null, va_rf rt2, .int (jI sz), .int (jI mc), .null, .null, .null]] _ _ _ _ [va_rf ((some x2).bind P2)]
                    refine SW.cast (st' := [.ref p]) ?_ rfl rfl (congrArg (fun o9 => va_rf o9 :: _) hp)
                    refine sw_callS (n := 133) F (ct_J10_parentOf (g := xg x) (l := xl x) Ks ka va L2 R2 P2 (va_up c2 p 1) (some p) (fun x9 e9 => Option.some.inj e9 ▸ hpK)) q3177 q3178 q114 q3179 nd_J10_parentOf rfl (by decide) [0, 1] rfl [ob (xg x) q 14 [.null, va_rf vs, .null, va_rf rt2, .int (jI sz), .int (jI mc), .null, .null, .null]] rfl 0 0 ⟨by omega, by omega⟩ [] rfl (Nat.le_of_ble_eq_true rfl) dJ10_fixAfterInsertion_130 rfl (fun _ _ h => h.elim) (fun v Ws h => ?_)
                    obtain ⟨rfl, rfl⟩ := h
                    show SW x [nd (xg x) Ks ka va L2 R2 P2 (va_up c2 p 1), ob (xg x) q 14 [.null, va_rf vs, .null, va_rf rt2, .int (jI sz), .int (jI mc), .null, .null, .null]] _ _ _ _ [va_rf ((some p).bind P2)]
                    refine SW.cast (st' := [.ref gp]) ?_ rfl rfl (congrArg (fun o9 => va_rf o9 :: _) hgp)
                    refine sw_iconst (n := 134) F (0) (by decide) dJ10_fixAfterInsertion_133 rfl ?_
                    refine sw_callS (n := 137) F (ct_J10_setColor (g := xg x) (l := xl x) Ks ka va L2 R2 P2 (va_up c2 p 1) gp 0 hgK (by first | omega | assumption)) q3189 q3190 q114 q3191 nd_J10_setColor rfl (by decide) [0, 1] rfl [ob (xg x) q 14 [.null, va_rf vs, .null, va_rf rt2, .int (jI sz), .int (jI mc), .null, .null, .null]] rfl 0 0 ⟨by omega, by omega⟩ [] rfl (Nat.le_of_ble_eq_true rfl) dJ10_fixAfterInsertion_134 rfl (fun _ _ h => h.elim) (fun v Ws h => ?_)
                    obtain ⟨rfl, rfl⟩ := h
                    show SW x [nd (xg x) Ks ka va L2 R2 P2 (va_up (va_up c2 p 1) gp 0), ob (xg x) q 14 [.null, va_rf vs, .null, va_rf rt2, .int (jI sz), .int (jI mc), .null, .null, .null]] _ _ _ _ []
                    refine sw_aload_n (n := 138) F 1 (some q) rfl rfl rfl dJ10_fixAfterInsertion_137 rfl ?_
                    refine sw_aload_n (n := 139) F 2 (some x2) rfl rfl rfl dJ10_fixAfterInsertion_138 rfl ?_
                    refine sw_callS (n := 142) F (ct_J10_parentOf (g := xg x) (l := xl x) Ks ka va L2 R2 P2 (va_up (va_up c2 p 1) gp 0) (some x2) (fun x9 e9 => Option.some.inj e9 ▸ hx2)) q3177 q3178 q114 q3179 nd_J10_parentOf rfl (by decide) [0, 1] rfl [ob (xg x) q 14 [.null, va_rf vs, .null, va_rf rt2, .int (jI sz), .int (jI mc), .null, .null, .null]] rfl 0 0 ⟨by omega, by omega⟩ [.ref q] rfl (Nat.le_of_ble_eq_true rfl) dJ10_fixAfterInsertion_139 rfl (fun _ _ h => h.elim) (fun v Ws h => ?_)
                    obtain ⟨rfl, rfl⟩ := h
                    show SW x [nd (xg x) Ks ka va L2 R2 P2 (va_up (va_up c2 p 1) gp 0), ob (xg x) q 14 [.null, va_rf vs, .null, va_rf rt2, .int (jI sz), .int (jI mc), .null, .null, .null]] _ _ _ _ [va_rf ((some x2).bind P2), .ref q]
                    refine SW.cast (st' := [.ref p, .ref q]) ?_ rfl rfl (congrArg (fun o9 => va_rf o9 :: _) hp)
                    refine sw_callS (n := 145) F (ct_J10_parentOf (g := xg x) (l := xl x) Ks ka va L2 R2 P2 (va_up (va_up c2 p 1) gp 0) (some p) (fun x9 e9 => Option.some.inj e9 ▸ hpK)) q3177 q3178 q114 q3179 nd_J10_parentOf rfl (by decide) [0, 1] rfl [ob (xg x) q 14 [.null, va_rf vs, .null, va_rf rt2, .int (jI sz), .int (jI mc), .null, .null, .null]] rfl 0 0 ⟨by omega, by omega⟩ [.ref q] rfl (Nat.le_of_ble_eq_true rfl) dJ10_fixAfterInsertion_142 rfl (fun _ _ h => h.elim) (fun v Ws h => ?_)
                    obtain ⟨rfl, rfl⟩ := h
                    show SW x [nd (xg x) Ks ka va L2 R2 P2 (va_up (va_up c2 p 1) gp 0), ob (xg x) q 14 [.null, va_rf vs, .null, va_rf rt2, .int (jI sz), .int (jI mc), .null, .null, .null]] _ _ _ _ [va_rf ((some p).bind P2), .ref q]
                    refine SW.cast (st' := [.ref gp, .ref q]) ?_ rfl rfl (congrArg (fun o9 => va_rf o9 :: _) hgp)
                    refine sw_callV (n := 148) F (ct_J10_rotateRight (g := xg x) (l := xl x) Ks ka va L2 R2 P2 (va_up (va_up c2 p 1) gp 0) q vs rt2 sz mc rk lo2 hi2 gp p hT2 hgK hgl) (rcv_ob F 1 rfl rfl) q3196 q3198 qs53 q114 q3199 nd_J10_rotateRight rfl (by decide) [1, 0] rfl [] rfl 0 0 ⟨by omega, by omega⟩ [] rfl (Nat.le_of_ble_eq_true rfl) dJ10_fixAfterInsertion_145 rfl (fun _ _ h => h.elim) (fun v Ws h => ?_)
                    obtain ⟨L1_43, R1_44, P1_45, rt1_46, lo1_47, hi1_48, rfl, hR_49, hT1_50, hlo_51, hhi_52, rfl⟩ := h
                    show SW x [ob (xg x) q 14 [.null, va_rf vs, .null, va_rf rt1_46, .int (jI sz), .int (jI mc), .null, .null, .null], nd (xg x) Ks ka va L1_43 R1_44 P1_45 (va_up (va_up c2 p 1) gp 0)] _ _ _ _ []
                    have hpp : P1_45 x2 = some p := hT2.fiAR hx2 hp hgp c_105 hR_49
                    have hm0 : fiM P1_45 (va_up (va_up c2 p 1) gp 0) lo1_47 hi1_48 x2 = 0 := fiM_0 hpp (Eq.trans (va_up_ne _ _ hpg) (va_up_self _ _ _))
                    have hm1 := fiM_1 (lo := lo2) (hi := hi2) hp c_24
                    refine sw_goto F (n := 5) dJ10_fixAfterInsertion_148 (by decide) ?_
                    refine sw_perm [1, 0] rfl [nd (xg x) Ks ka va L1_43 R1_44 P1_45 (va_up (va_up c2 p 1) gp 0), ob (xg x) q 14 [.null, va_rf vs, .null, va_rf rt1_46, .int (jI sz), .int (jI mc), .null, .null, .null]] rfl ?_
                    refine sw_loc [1, 2] (L2 := [(0, .ref q), (1, .ref x2)]) rfl ?_
                    exact ih5 x2 L1_43 R1_44 P1_45 (va_up (va_up c2 p 1) gp 0) rt1_46 lo1_47 hi1_48 hT1_50 hx2 (by (repeat' first | assumption | exact Or.inl rfl | exact Or.inr rfl | apply clO_b | refine cb_up ?_ ?_ | refine cb_cu ?_ ?_)) (by first | omega | exact Nat.lt_of_lt_of_le (hT2.fiU hx2 hp hgp c_24) (Nat.le_of_lt_succ hmu5))
                  ·
                    refine sw_aload_n (n := 109) F 2 (some x2) rfl rfl rfl dJ10_fixAfterInsertion_108 rfl ?_
                    refine sw_callS (n := 112) F (ct_J10_parentOf (g := xg x) (l := xl x) Ks ka va L2 R2 P2 c2 (some x2) (fun x9 e9 => Option.some.inj e9 ▸ hx2)) q3177 q3178 q114 q3179 nd_J10_parentOf rfl (by decide) [0, 1] rfl [ob (xg x) q 14 [.null, va_rf vs, .null, va_rf rt2, .int (jI sz), .int (jI mc), .null, .null, .null]] rfl 0 0 ⟨by omega, by omega⟩ [] rfl (Nat.le_of_ble_eq_true rfl) dJ10_fixAfterInsertion_109 rfl (fun _ _ h => h.elim) (fun v Ws h => ?_)
                    obtain ⟨rfl, rfl⟩ := h
                    show SW x [nd (xg x) Ks ka va L2 R2 P2 c2, ob (xg x) q 14 [.null, va_rf vs, .null, va_rf rt2, .int (jI sz), .int (jI mc), .null, .null, .null]] _ _ _ _ [va_rf ((some x2).bind P2)]
                    refine SW.cast (st' := [.ref p]) ?_ rfl rfl (congrArg (fun o9 => va_rf o9 :: _) hp)
                    refine sw_astore_n (n := 113) F (some p) (L2 := [(1, .ref p), (2, va_rf (R2 gp)), (0, .ref q)]) (by first | rfl | simp [va_rf_cat]) rfl (by decide) rfl dJ10_fixAfterInsertion_112 rfl ?_
                    refine sw_aload_n (n := 114) F 2 (some q) rfl rfl rfl dJ10_fixAfterInsertion_113 rfl ?_
                    refine sw_aload_n (n := 115) F 0 (some p) rfl rfl rfl dJ10_fixAfterInsertion_114 rfl ?_
                    refine sw_callV (n := 118) F (ct_J10_rotateLeft (g := xg x) (l := xl x) Ks ka va L2 R2 P2 c2 q vs rt2 sz mc rk lo2 hi2 p x2 hT2 hpK (by exact c_105.symm)) (rcv_ob F 1 rfl rfl) q3192 q3194 qs52 q114 q3195 nd_J10_rotateLeft rfl (by decide) [1, 0] rfl [] rfl 0 0 ⟨by omega, by omega⟩ [] rfl (Nat.le_of_ble_eq_true rfl) dJ10_fixAfterInsertion_115 rfl (fun _ _ h => h.elim) (fun v Ws h => ?_)
                    obtain ⟨L1_53, R1_54, P1_55, rt1_56, lo1_57, hi1_58, rfl, hR_59, hT1_60, hlo_61, hhi_62, rfl⟩ := h
                    show SW x [ob (xg x) q 14 [.null, va_rf vs, .null, va_rf rt1_56, .int (jI sz), .int (jI mc), .null, .null, .null], nd (xg x) Ks ka va L1_53 R1_54 P1_55 c2] _ _ _ _ []
                    obtain ⟨hb1, hb2, hb3, hb4⟩ := hT2.fiBL hx2 hp c_105.symm hR_59
                    have hb6 : P1_55 x2 = some gp := hb2.trans hgp
                    have hb5 : L1_53 gp = some x2 := (hb4 gp hgp).1 hgl
                    refine sw_aload_n (n := 119) F 0 (some p) rfl rfl rfl dJ10_fixAfterInsertion_118 rfl ?_
                    refine sw_callS (n := 122) F (ct_J10_parentOf (g := xg x) (l := xl x) Ks ka va L1_53 R1_54 P1_55 c2 (some p) (fun x9 e9 => Option.some.inj e9 ▸ hpK)) q3177 q3178 q114 q3179 nd_J10_parentOf rfl (by decide) [1, 0] rfl [ob (xg x) q 14 [.null, va_rf vs, .null, va_rf rt1_56, .int (jI sz), .int (jI mc), .null, .null, .null]] rfl 0 0 ⟨by omega, by omega⟩ [] rfl (Nat.le_of_ble_eq_true rfl) dJ10_fixAfterInsertion_119 rfl (fun _ _ h => h.elim) (fun v Ws h => ?_)
                    obtain ⟨rfl, rfl⟩ := h
                    show SW x [nd (xg x) Ks ka va L1_53 R1_54 P1_55 c2, ob (xg x) q 14 [.null, va_rf vs, .null, va_rf rt1_56, .int (jI sz), .int (jI mc), .null, .null, .null]] _ _ _ _ [va_rf ((some p).bind P1_55)]
                    refine SW.cast (st' := [.ref x2]) ?_ rfl rfl (congrArg (fun o9 => va_rf o9 :: _) hb1)
                    refine sw_iconst (n := 123) F (1) (by decide) dJ10_fixAfterInsertion_122 rfl ?_
                    refine sw_callS (n := 126) F (ct_J10_setColor (g := xg x) (l := xl x) Ks ka va L1_53 R1_54 P1_55 c2 x2 1 hx2 (by first | omega | assumption)) q3189 q3190 q114 q3191 nd_J10_setColor rfl (by decide) [0, 1] rfl [ob (xg x) q 14 [.null, va_rf vs, .null, va_rf rt1_56, .int (jI sz), .int (jI mc), .null, .null, .null]] rfl 0 0 ⟨by omega, by omega⟩ [] rfl (Nat.le_of_ble_eq_true rfl) dJ10_fixAfterInsertion_123 rfl (fun _ _ h => h.elim) (fun v Ws h => ?_)
                    obtain ⟨rfl, rfl⟩ := h
                    show SW x [nd (xg x) Ks ka va L1_53 R1_54 P1_55 (va_up c2 x2 1), ob (xg x) q 14 [.null, va_rf vs, .null, va_rf rt1_56, .int (jI sz), .int (jI mc), .null, .null, .null]] _ _ _ _ []
                    refine sw_aload_n (n := 127) F 0 (some p) rfl rfl rfl dJ10_fixAfterInsertion_126 rfl ?_
                    refine sw_callS (n := 130) F (ct_J10_parentOf (g := xg x) (l := xl x) Ks ka va L1_53 R1_54 P1_55 (va_up c2 x2 1) (some p) (fun x9 e9 => Option.some.inj e9 ▸ hpK)) q3177 q3178 q114 q3179 nd_J10_parentOf rfl (by decide) [0, 1] rfl [ob (xg x) q 14 [.null, va_rf vs, .null, va_rf rt1_56, .int (jI sz), .int (jI mc), .null, .null, .null]] rfl 0 0 ⟨by omega, by omega⟩ [] rfl (Nat.le_of_ble_eq_true rfl) dJ10_fixAfterInsertion_127 rfl (fun _ _ h => h.elim) (fun v Ws h => ?_)
                    obtain ⟨rfl, rfl⟩ := h
                    show SW x [nd (xg x) Ks ka va L1_53 R1_54 P1_55 (va_up c2 x2 1), ob (xg x) q 14 [.null, va_rf vs, .null, va_rf rt1_56, .int (jI sz), .int (jI mc), .null, .null, .null]] _ _ _ _ [va_rf ((some p).bind P1_55)]
                    refine SW.cast (st' := [.ref x2]) ?_ rfl rfl (congrArg (fun o9 => va_rf o9 :: _) hb1)
                    refine sw_callS (n := 133) F (ct_J10_parentOf (g := xg x) (l := xl x) Ks ka va L1_53 R1_54 P1_55 (va_up c2 x2 1) (some x2) (fun x9 e9 => Option.some.inj e9 ▸ hx2)) q3177 q3178 q114 q3179 nd_J10_parentOf rfl (by decide) [0, 1] rfl [ob (xg x) q 14 [.null, va_rf vs, .null, va_rf rt1_56, .int (jI sz), .int (jI mc), .null, .null, .null]] rfl 0 0 ⟨by omega, by omega⟩ [] rfl (Nat.le_of_ble_eq_true rfl) dJ10_fixAfterInsertion_130 rfl (fun _ _ h => h.elim) (fun v Ws h => ?_)
                    obtain ⟨rfl, rfl⟩ := h
                    show SW x [nd (xg x) Ks ka va L1_53 R1_54 P1_55 (va_up c2 x2 1), ob (xg x) q 14 [.null, va_rf vs, .null, va_rf rt1_56, .int (jI sz), .int (jI mc), .null, .null, .null]] _ _ _ _ [va_rf ((some x2).bind P1_55)]
                    refine SW.cast (st' := [.ref gp]) ?_ rfl rfl (congrArg (fun o9 => va_rf o9 :: _) hb6)
                    refine sw_iconst (n := 134) F (0) (by decide) dJ10_fixAfterInsertion_133 rfl ?_
                    refine sw_callS (n := 137) F (ct_J10_setColor (g := xg x) (l := xl x) Ks ka va L1_53 R1_54 P1_55 (va_up c2 x2 1) gp 0 hgK (by first | omega | assumption)) q3189 q3190 q114 q3191 nd_J10_setColor rfl (by decide) [0, 1] rfl [ob (xg x) q 14 [.null, va_rf vs, .null, va_rf rt1_56, .int (jI sz), .int (jI mc), .null, .null, .null]] rfl 0 0 ⟨by omega, by omega⟩ [] rfl (Nat.le_of_ble_eq_true rfl) dJ10_fixAfterInsertion_134 rfl (fun _ _ h => h.elim) (fun v Ws h => ?_)
                    obtain ⟨rfl, rfl⟩ := h
                    show SW x [nd (xg x) Ks ka va L1_53 R1_54 P1_55 (va_up (va_up c2 x2 1) gp 0), ob (xg x) q 14 [.null, va_rf vs, .null, va_rf rt1_56, .int (jI sz), .int (jI mc), .null, .null, .null]] _ _ _ _ []
                    refine sw_aload_n (n := 138) F 2 (some q) rfl rfl rfl dJ10_fixAfterInsertion_137 rfl ?_
                    refine sw_aload_n (n := 139) F 0 (some p) rfl rfl rfl dJ10_fixAfterInsertion_138 rfl ?_
                    refine sw_callS (n := 142) F (ct_J10_parentOf (g := xg x) (l := xl x) Ks ka va L1_53 R1_54 P1_55 (va_up (va_up c2 x2 1) gp 0) (some p) (fun x9 e9 => Option.some.inj e9 ▸ hpK)) q3177 q3178 q114 q3179 nd_J10_parentOf rfl (by decide) [0, 1] rfl [ob (xg x) q 14 [.null, va_rf vs, .null, va_rf rt1_56, .int (jI sz), .int (jI mc), .null, .null, .null]] rfl 0 0 ⟨by omega, by omega⟩ [.ref q] rfl (Nat.le_of_ble_eq_true rfl) dJ10_fixAfterInsertion_139 rfl (fun _ _ h => h.elim) (fun v Ws h => ?_)
                    obtain ⟨rfl, rfl⟩ := h
                    show SW x [nd (xg x) Ks ka va L1_53 R1_54 P1_55 (va_up (va_up c2 x2 1) gp 0), ob (xg x) q 14 [.null, va_rf vs, .null, va_rf rt1_56, .int (jI sz), .int (jI mc), .null, .null, .null]] _ _ _ _ [va_rf ((some p).bind P1_55), .ref q]
                    refine SW.cast (st' := [.ref x2, .ref q]) ?_ rfl rfl (congrArg (fun o9 => va_rf o9 :: _) hb1)
                    refine sw_callS (n := 145) F (ct_J10_parentOf (g := xg x) (l := xl x) Ks ka va L1_53 R1_54 P1_55 (va_up (va_up c2 x2 1) gp 0) (some x2) (fun x9 e9 => Option.some.inj e9 ▸ hx2)) q3177 q3178 q114 q3179 nd_J10_parentOf rfl (by decide) [0, 1] rfl [ob (xg x) q 14 [.null, va_rf vs, .null, va_rf rt1_56, .int (jI sz), .int (jI mc), .null, .null, .null]] rfl 0 0 ⟨by omega, by omega⟩ [.ref q] rfl (Nat.le_of_ble_eq_true rfl) dJ10_fixAfterInsertion_142 rfl (fun _ _ h => h.elim) (fun v Ws h => ?_)
                    obtain ⟨rfl, rfl⟩ := h
                    show SW x [nd (xg x) Ks ka va L1_53 R1_54 P1_55 (va_up (va_up c2 x2 1) gp 0), ob (xg x) q 14 [.null, va_rf vs, .null, va_rf rt1_56, .int (jI sz), .int (jI mc), .null, .null, .null]] _ _ _ _ [va_rf ((some x2).bind P1_55), .ref q]
                    refine SW.cast (st' := [.ref gp, .ref q]) ?_ rfl rfl (congrArg (fun o9 => va_rf o9 :: _) hb6)
                    refine sw_callV (n := 148) F (ct_J10_rotateRight (g := xg x) (l := xl x) Ks ka va L1_53 R1_54 P1_55 (va_up (va_up c2 x2 1) gp 0) q vs rt1_56 sz mc rk lo1_57 hi1_58 gp x2 hT1_60 hgK hb5) (rcv_ob F 1 rfl rfl) q3196 q3198 qs53 q114 q3199 nd_J10_rotateRight rfl (by decide) [1, 0] rfl [] rfl 0 0 ⟨by omega, by omega⟩ [] rfl (Nat.le_of_ble_eq_true rfl) dJ10_fixAfterInsertion_145 rfl (fun _ _ h => h.elim) (fun v Ws h => ?_)
                    obtain ⟨L1_63, R1_64, P1_65, rt1_66, lo1_67, hi1_68, rfl, hR_69, hT1_70, hlo_71, hhi_72, rfl⟩ := h
                    show SW x [ob (xg x) q 14 [.null, va_rf vs, .null, va_rf rt1_66, .int (jI sz), .int (jI mc), .null, .null, .null], nd (xg x) Ks ka va L1_63 R1_64 P1_65 (va_up (va_up c2 x2 1) gp 0)] _ _ _ _ []
                    have hpp : P1_65 p = some x2 := hT1_60.fiAR hpK hb1 hb6 (fun e9 => hT1_60.lr hx2 hb3 e9.symm) hR_69
                    have hm0 : fiM P1_65 (va_up (va_up c2 x2 1) gp 0) lo1_67 hi1_68 p = 0 := fiM_0 hpp (Eq.trans (va_up_ne _ _ hxg) (va_up_self _ _ _))
                    have hm1 := fiM_1 (lo := lo2) (hi := hi2) hp c_24
                    refine sw_goto F (n := 5) dJ10_fixAfterInsertion_148 (by decide) ?_
                    refine sw_perm [1, 0] rfl [nd (xg x) Ks ka va L1_63 R1_64 P1_65 (va_up (va_up c2 x2 1) gp 0), ob (xg x) q 14 [.null, va_rf vs, .null, va_rf rt1_66, .int (jI sz), .int (jI mc), .null, .null, .null]] rfl ?_
                    refine sw_loc [2, 0] (L2 := [(0, .ref q), (1, .ref p)]) rfl ?_
                    exact ih5 p L1_63 R1_64 P1_65 (va_up (va_up c2 x2 1) gp 0) rt1_66 lo1_67 hi1_68 hT1_70 hpK (by (repeat' first | assumption | exact Or.inl rfl | exact Or.inr rfl | apply clO_b | refine cb_up ?_ ?_ | refine cb_cu ?_ ?_)) (by first | omega | exact Nat.lt_of_lt_of_le (hT2.fiU hx2 hp hgp c_24) (Nat.le_of_lt_succ hmu5))
                ·
                  refine sw_aload_n (n := 63) F 2 (some x2) rfl rfl rfl dJ10_fixAfterInsertion_62 rfl ?_
                  refine sw_callS (n := 66) F (ct_J10_parentOf (g := xg x) (l := xl x) Ks ka va L2 R2 P2 c2 (some x2) (fun x9 e9 => Option.some.inj e9 ▸ hx2)) q3177 q3178 q114 q3179 nd_J10_parentOf rfl (by decide) [0, 1] rfl [ob (xg x) q 14 [.null, va_rf vs, .null, va_rf rt2, .int (jI sz), .int (jI mc), .null, .null, .null]] rfl 0 0 ⟨by omega, by omega⟩ [] rfl (Nat.le_of_ble_eq_true rfl) dJ10_fixAfterInsertion_63 rfl (fun _ _ h => h.elim) (fun v Ws h => ?_)
                  obtain ⟨rfl, rfl⟩ := h
                  show SW x [nd (xg x) Ks ka va L2 R2 P2 c2, ob (xg x) q 14 [.null, va_rf vs, .null, va_rf rt2, .int (jI sz), .int (jI mc), .null, .null, .null]] _ _ _ _ [va_rf ((some x2).bind P2)]
                  refine SW.cast (st' := [.ref p]) ?_ rfl rfl (congrArg (fun o9 => va_rf o9 :: _) hp)
                  refine sw_iconst (n := 67) F (1) (by decide) dJ10_fixAfterInsertion_66 rfl ?_
                  refine sw_callS (n := 70) F (ct_J10_setColor (g := xg x) (l := xl x) Ks ka va L2 R2 P2 c2 p 1 hpK (by first | omega | assumption)) q3189 q3190 q114 q3191 nd_J10_setColor rfl (by decide) [0, 1] rfl [ob (xg x) q 14 [.null, va_rf vs, .null, va_rf rt2, .int (jI sz), .int (jI mc), .null, .null, .null]] rfl 0 0 ⟨by omega, by omega⟩ [] rfl (Nat.le_of_ble_eq_true rfl) dJ10_fixAfterInsertion_67 rfl (fun _ _ h => h.elim) (fun v Ws h => ?_)
                  obtain ⟨rfl, rfl⟩ := h
                  show SW x [nd (xg x) Ks ka va L2 R2 P2 (va_up c2 p 1), ob (xg x) q 14 [.null, va_rf vs, .null, va_rf rt2, .int (jI sz), .int (jI mc), .null, .null, .null]] _ _ _ _ []
                  refine sw_aload_n (n := 71) F 0 (R2 gp) rfl rfl rfl dJ10_fixAfterInsertion_70 rfl ?_
                  refine sw_iconst (n := 72) F (1) (by decide) dJ10_fixAfterInsertion_71 rfl ?_
                  refine sw_callS (n := 75) F (ct_J10_setColor_o (g := xg x) (l := xl x) Ks ka va L2 R2 P2 (va_up c2 p 1) (R2 gp) 1 (fun x9 e9 => (hT2.r hgK e9).1) (by first | omega | assumption)) q3189 q3190 q114 q3191 nd_J10_setColor rfl (by decide) [0, 1] rfl [ob (xg x) q 14 [.null, va_rf vs, .null, va_rf rt2, .int (jI sz), .int (jI mc), .null, .null, .null]] rfl 0 0 ⟨by omega, by omega⟩ [] rfl (Nat.le_of_ble_eq_true rfl) dJ10_fixAfterInsertion_72 rfl (fun _ _ h => h.elim) (fun v Ws h => ?_)
                  obtain ⟨rfl, rfl⟩ := h
                  show SW x [nd (xg x) Ks ka va L2 R2 P2 (cuO (va_up c2 p 1) (R2 gp) 1), ob (xg x) q 14 [.null, va_rf vs, .null, va_rf rt2, .int (jI sz), .int (jI mc), .null, .null, .null]] _ _ _ _ []
                  refine sw_aload_n (n := 76) F 2 (some x2) rfl rfl rfl dJ10_fixAfterInsertion_75 rfl ?_
                  refine sw_callS (n := 79) F (ct_J10_parentOf (g := xg x) (l := xl x) Ks ka va L2 R2 P2 (cuO (va_up c2 p 1) (R2 gp) 1) (some x2) (fun x9 e9 => Option.some.inj e9 ▸ hx2)) q3177 q3178 q114 q3179 nd_J10_parentOf rfl (by decide) [0, 1] rfl [ob (xg x) q 14 [.null, va_rf vs, .null, va_rf rt2, .int (jI sz), .int (jI mc), .null, .null, .null]] rfl 0 0 ⟨by omega, by omega⟩ [] rfl (Nat.le_of_ble_eq_true rfl) dJ10_fixAfterInsertion_76 rfl (fun _ _ h => h.elim) (fun v Ws h => ?_)
                  obtain ⟨rfl, rfl⟩ := h
                  show SW x [nd (xg x) Ks ka va L2 R2 P2 (cuO (va_up c2 p 1) (R2 gp) 1), ob (xg x) q 14 [.null, va_rf vs, .null, va_rf rt2, .int (jI sz), .int (jI mc), .null, .null, .null]] _ _ _ _ [va_rf ((some x2).bind P2)]
                  refine SW.cast (st' := [.ref p]) ?_ rfl rfl (congrArg (fun o9 => va_rf o9 :: _) hp)
                  refine sw_callS (n := 82) F (ct_J10_parentOf (g := xg x) (l := xl x) Ks ka va L2 R2 P2 (cuO (va_up c2 p 1) (R2 gp) 1) (some p) (fun x9 e9 => Option.some.inj e9 ▸ hpK)) q3177 q3178 q114 q3179 nd_J10_parentOf rfl (by decide) [0, 1] rfl [ob (xg x) q 14 [.null, va_rf vs, .null, va_rf rt2, .int (jI sz), .int (jI mc), .null, .null, .null]] rfl 0 0 ⟨by omega, by omega⟩ [] rfl (Nat.le_of_ble_eq_true rfl) dJ10_fixAfterInsertion_79 rfl (fun _ _ h => h.elim) (fun v Ws h => ?_)
                  obtain ⟨rfl, rfl⟩ := h
                  show SW x [nd (xg x) Ks ka va L2 R2 P2 (cuO (va_up c2 p 1) (R2 gp) 1), ob (xg x) q 14 [.null, va_rf vs, .null, va_rf rt2, .int (jI sz), .int (jI mc), .null, .null, .null]] _ _ _ _ [va_rf ((some p).bind P2)]
                  refine SW.cast (st' := [.ref gp]) ?_ rfl rfl (congrArg (fun o9 => va_rf o9 :: _) hgp)
                  refine sw_iconst (n := 83) F (0) (by decide) dJ10_fixAfterInsertion_82 rfl ?_
                  refine sw_callS (n := 86) F (ct_J10_setColor (g := xg x) (l := xl x) Ks ka va L2 R2 P2 (cuO (va_up c2 p 1) (R2 gp) 1) gp 0 hgK (by first | omega | assumption)) q3189 q3190 q114 q3191 nd_J10_setColor rfl (by decide) [0, 1] rfl [ob (xg x) q 14 [.null, va_rf vs, .null, va_rf rt2, .int (jI sz), .int (jI mc), .null, .null, .null]] rfl 0 0 ⟨by omega, by omega⟩ [] rfl (Nat.le_of_ble_eq_true rfl) dJ10_fixAfterInsertion_83 rfl (fun _ _ h => h.elim) (fun v Ws h => ?_)
                  obtain ⟨rfl, rfl⟩ := h
                  show SW x [nd (xg x) Ks ka va L2 R2 P2 (va_up (cuO (va_up c2 p 1) (R2 gp) 1) gp 0), ob (xg x) q 14 [.null, va_rf vs, .null, va_rf rt2, .int (jI sz), .int (jI mc), .null, .null, .null]] _ _ _ _ []
                  refine sw_aload_n (n := 87) F 2 (some x2) rfl rfl rfl dJ10_fixAfterInsertion_86 rfl ?_
                  refine sw_callS (n := 90) F (ct_J10_parentOf (g := xg x) (l := xl x) Ks ka va L2 R2 P2 (va_up (cuO (va_up c2 p 1) (R2 gp) 1) gp 0) (some x2) (fun x9 e9 => Option.some.inj e9 ▸ hx2)) q3177 q3178 q114 q3179 nd_J10_parentOf rfl (by decide) [0, 1] rfl [ob (xg x) q 14 [.null, va_rf vs, .null, va_rf rt2, .int (jI sz), .int (jI mc), .null, .null, .null]] rfl 0 0 ⟨by omega, by omega⟩ [] rfl (Nat.le_of_ble_eq_true rfl) dJ10_fixAfterInsertion_87 rfl (fun _ _ h => h.elim) (fun v Ws h => ?_)
                  obtain ⟨rfl, rfl⟩ := h
                  show SW x [nd (xg x) Ks ka va L2 R2 P2 (va_up (cuO (va_up c2 p 1) (R2 gp) 1) gp 0), ob (xg x) q 14 [.null, va_rf vs, .null, va_rf rt2, .int (jI sz), .int (jI mc), .null, .null, .null]] _ _ _ _ [va_rf ((some x2).bind P2)]
                  refine SW.cast (st' := [.ref p]) ?_ rfl rfl (congrArg (fun o9 => va_rf o9 :: _) hp)
                  refine sw_callS (n := 93) F (ct_J10_parentOf (g := xg x) (l := xl x) Ks ka va L2 R2 P2 (va_up (cuO (va_up c2 p 1) (R2 gp) 1) gp 0) (some p) (fun x9 e9 => Option.some.inj e9 ▸ hpK)) q3177 q3178 q114 q3179 nd_J10_parentOf rfl (by decide) [0, 1] rfl [ob (xg x) q 14 [.null, va_rf vs, .null, va_rf rt2, .int (jI sz), .int (jI mc), .null, .null, .null]] rfl 0 0 ⟨by omega, by omega⟩ [] rfl (Nat.le_of_ble_eq_true rfl) dJ10_fixAfterInsertion_90 rfl (fun _ _ h => h.elim) (fun v Ws h => ?_)
                  obtain ⟨rfl, rfl⟩ := h
                  show SW x [nd (xg x) Ks ka va L2 R2 P2 (va_up (cuO (va_up c2 p 1) (R2 gp) 1) gp 0), ob (xg x) q 14 [.null, va_rf vs, .null, va_rf rt2, .int (jI sz), .int (jI mc), .null, .null, .null]] _ _ _ _ [va_rf ((some p).bind P2)]
                  refine SW.cast (st' := [.ref gp]) ?_ rfl rfl (congrArg (fun o9 => va_rf o9 :: _) hgp)
                  refine sw_astore_n (n := 94) F (some gp) (L2 := [(1, .ref gp), (2, va_rf (R2 gp)), (0, .ref q)]) (by first | rfl | simp [va_rf_cat]) rfl (by decide) rfl dJ10_fixAfterInsertion_93 rfl ?_
                  refine sw_goto F (n := 148) dJ10_fixAfterInsertion_94 (by decide) ?_
                  refine sw_goto F (n := 5) dJ10_fixAfterInsertion_148 (by decide) ?_
                  refine sw_loc [2, 0] (L2 := [(0, .ref q), (1, .ref gp)]) rfl ?_
                  exact ih5 gp L2 R2 P2 (va_up (cuO (va_up c2 p 1) (R2 gp) 1) gp 0) rt2 lo2 hi2 hT2 hgK (by (repeat' first | assumption | exact Or.inl rfl | exact Or.inr rfl | apply clO_b | refine cb_up ?_ ?_ | refine cb_cu ?_ ?_)) (by first | omega | exact Nat.lt_of_lt_of_le (hT2.fiU hx2 hp hgp c_24) (Nat.le_of_lt_succ hmu5))
  exact K5 _ nx L R P (va_up cl nx 0) rt lo hi hT hx (by (repeat' first | assumption | exact Or.inl rfl | exact Or.inr rfl | apply clO_b | refine cb_up ?_ ?_ | refine cb_cu ?_ ?_)) (Nat.lt_succ_self _)
theorem nd_J10_fixAfterDeletion : yJ10_fixAfterDeletion.cls ≠ "java/lang/invoke/MethodHandle" ∧ yJ10_fixAfterDeletion.cls ≠ "java/lang/invoke/VarHandle" ∧ (parseMethodDescriptor yJ10_fixAfterDeletion.desc).map (fun d => d.parameters.length) = some 1 := by decide +kernel
set_option maxRecDepth 100000 in
set_option maxHeartbeats 16000000 in
theorem ct_J10_fixAfterDeletion {g : GG} {l : Launch} (Ks : List Nat) (ka : Nat → Nat) (va : Nat → Nat) (L : OP) (R : OP) (P : OP) (cl : Nat → Int) (q : Nat) (vs : Option Nat) (rt : Option Nat) (sz : Int) (mc : Int) (rk : Nat → Int) (lo : Nat → Int) (hi : Nat → Int) (nx : Nat) (s : Nat) (hT : TrI Ks L R P rk lo hi rt) (hx : nx ∈ Ks) (hcb : ∀ t, cl t = 0 ∨ cl t = 1) (hlf : s ∈ Ks → (lo nx < rk s ∧ rk s < hi nx) ∧ L s = none ∧ R s = none) : Ct g l yJ10_fixAfterDeletion (ws_ yJ10_fixAfterDeletion cJ10_fixAfterDeletion 3 (Option.none : Option Jvm.ClassFile.FieldType)) 2 34 0 0 [.ref q, .ref nx] [ob g q 14 [.null, va_rf vs, .null, va_rf rt, .int (jI sz), .int (jI mc), .null, .null, .null], nd g Ks ka va L R P cl] (fun v9 Ws9 => ∃ L1 : OP, ∃ R1 : OP, ∃ P1 : OP, ∃ rt1 : Option Nat, ∃ lo1 : Nat → Int, ∃ hi1 : Nat → Int, ∃ cl1 : Nat → Int, v9 = none ∧ (TrI Ks L1 R1 P1 rk lo1 hi1 rt1) ∧ (∀ t, cl1 t = 0 ∨ cl1 t = 1) ∧ (s ∈ Ks → L1 s = none ∧ R1 s = none) ∧ Ws9 = [ob g q 14 [.null, va_rf vs, .null, va_rf rt1, .int (jI sz), .int (jI mc), .null, .null, .null], nd g Ks ka va L1 R1 P1 cl1]) (nox) := by
  refine Ct.of (cc := cJ10_fixAfterDeletion) (nL := 3) (ret := (Option.none : Option Jvm.ClassFile.FieldType)) (by decide) rfl (Nat.le_of_ble_eq_true rfl) ?_
  intro x hg hl hPo hPx hmc hms F
  subst hg; subst hl
  refine SW.cast (L' := [(0, .ref q), (1, .ref nx)]) ?_ rfl rfl rfl
  have K0 : ∀ N0 : Nat, ∀ (x2 : Nat) (L2 : OP) (R2 : OP) (P2 : OP) (c2 : Nat → Int) (rt2 : Option Nat) (lo2 : Nat → Int) (hi2 : Nat → Int), (TrI Ks L2 R2 P2 rk lo2 hi2 rt2) → (x2 ∈ Ks) → (∀ t, c2 t = 0 ∨ c2 t = 1) → (s ∈ Ks → (lo2 x2 < rk s ∧ rk s < hi2 x2) ∧ L2 s = none ∧ R2 s = none) → ((wd lo2 hi2 x2) < N0) → SW x [ob (xg x) q 14 [.null, va_rf vs, .null, va_rf rt2, .int (jI sz), .int (jI mc), .null, .null, .null], nd (xg x) Ks ka va L2 R2 P2 c2] 0 0 0 [(0, .ref q), (1, .ref x2)] [] := by
    intro N0; induction N0 with
    | zero => intro x2 L2 R2 P2 c2 rt2 lo2 hi2 hT2 hx2 hc2 hl2 hmu0; omega
    | succ N0 ih0 =>
      intro x2 L2 R2 P2 c2 rt2 lo2 hi2 hT2 hx2 hc2 hl2 hmu0
      refine sw_aload_n (n := 1) F 1 (some x2) rfl rfl rfl dJ10_fixAfterDeletion_0 rfl ?_
      refine sw_aload_n (n := 2) F 0 (some q) rfl rfl rfl dJ10_fixAfterDeletion_1 rfl ?_
      refine sw_get (n := 5) F 0 rfl (k := 3) ⟨(RJ10, TJ10, 9), rfl, by decide, q288, in_J10, Or.inl rfl⟩ rfl dJ10_fixAfterDeletion_2 rfl ?_
      refine sw_acmp_eq (n := 8) F (rx := (some x2)) (ry := rt2) rfl rfl (tgt := 345) dJ10_fixAfterDeletion_5 (by decide) rfl (fun c_5 => ?_) (fun c_5 => ?_)
      ·
        refine sw_aload_n (n := 346) F 1 (some x2) rfl rfl rfl dJ10_fixAfterDeletion_345 rfl ?_
        refine sw_iconst (n := 347) F (1) (by decide) dJ10_fixAfterDeletion_346 rfl ?_
        refine sw_callS (n := 350) F (ct_J10_setColor (g := xg x) (l := xl x) Ks ka va L2 R2 P2 c2 x2 1 hx2 (by first | omega | assumption)) q3189 q3190 q114 q3191 nd_J10_setColor rfl (by decide) [1, 0] rfl [ob (xg x) q 14 [.null, va_rf vs, .null, va_rf rt2, .int (jI sz), .int (jI mc), .null, .null, .null]] rfl 0 0 ⟨by omega, by omega⟩ [] rfl (Nat.le_of_ble_eq_true rfl) dJ10_fixAfterDeletion_347 rfl (fun _ _ h => h.elim) (fun v Ws h => ?_)
        obtain ⟨rfl, rfl⟩ := h
        show SW x [nd (xg x) Ks ka va L2 R2 P2 (va_up c2 x2 1), ob (xg x) q 14 [.null, va_rf vs, .null, va_rf rt2, .int (jI sz), .int (jI mc), .null, .null, .null]] _ _ _ _ []
        refine sw_perm [1, 0] rfl [ob (xg x) q 14 [.null, va_rf vs, .null, va_rf rt2, .int (jI sz), .int (jI mc), .null, .null, .null], nd (xg x) Ks ka va L2 R2 P2 (va_up c2 x2 1)] rfl ?_
        exact sw_vret F rfl dJ10_fixAfterDeletion_350 (by rw [hPo]; exact ⟨L2, R2, P2, rt2, lo2, hi2, va_up c2 x2 1, rfl, hT2, (by (repeat' first | assumption | exact Or.inl rfl | exact Or.inr rfl | apply clO_b | refine cb_up ?_ ?_ | refine cb_cu ?_ ?_)), (by exact fun h9 => (hl2 h9).2), rfl⟩)
      ·
        refine sw_aload_n (n := 9) F 1 (some x2) rfl rfl rfl dJ10_fixAfterDeletion_8 rfl ?_
        refine sw_callS (n := 12) F (ct_J10_colorOf (g := xg x) (l := xl x) Ks ka va L2 R2 P2 c2 (some x2) (fun x9 e9 => Option.some.inj e9 ▸ hx2) (by (repeat' first | assumption | exact Or.inl rfl | exact Or.inr rfl | apply clO_b | refine cb_up ?_ ?_ | refine cb_cu ?_ ?_))) q3186 q3187 q114 q3188 nd_J10_colorOf rfl (by decide) [1, 0] rfl [ob (xg x) q 14 [.null, va_rf vs, .null, va_rf rt2, .int (jI sz), .int (jI mc), .null, .null, .null]] rfl 0 0 ⟨by omega, by omega⟩ [] rfl (Nat.le_of_ble_eq_true rfl) dJ10_fixAfterDeletion_9 rfl (fun _ _ h => h.elim) (fun v Ws h => ?_)
        obtain ⟨rfl, rfl⟩ := h
        show SW x [nd (xg x) Ks ka va L2 R2 P2 c2, ob (xg x) q 14 [.null, va_rf vs, .null, va_rf rt2, .int (jI sz), .int (jI mc), .null, .null, .null]] _ _ _ _ [.int (jI (clO c2 (some x2)))]
        refine SW.cast (st' := [.int (jI (c2 x2))]) ?_ rfl rfl rfl
        have hyb_1 : c2 x2 = 0 ∨ c2 x2 = 1 := (show ∀ t, c2 t = 0 ∨ c2 t = 1 by (repeat' first | assumption | exact Or.inl rfl | exact Or.inr rfl | apply clO_b | refine cb_up ?_ ?_ | refine cb_cu ?_ ?_)) _
        refine sw_iconst (n := 13) F (1) (by decide) dJ10_fixAfterDeletion_12 rfl ?_
        refine sw_icmp_ne (n := 16) F (by omega) (by decide) (tgt := 345) dJ10_fixAfterDeletion_13 (by decide) rfl (fun c_13 => ?_) (fun c_13 => ?_)
        ·
          refine sw_aload_n (n := 346) F 1 (some x2) rfl rfl rfl dJ10_fixAfterDeletion_345 rfl ?_
          refine sw_iconst (n := 347) F (1) (by decide) dJ10_fixAfterDeletion_346 rfl ?_
          refine sw_callS (n := 350) F (ct_J10_setColor (g := xg x) (l := xl x) Ks ka va L2 R2 P2 c2 x2 1 hx2 (by first | omega | assumption)) q3189 q3190 q114 q3191 nd_J10_setColor rfl (by decide) [0, 1] rfl [ob (xg x) q 14 [.null, va_rf vs, .null, va_rf rt2, .int (jI sz), .int (jI mc), .null, .null, .null]] rfl 0 0 ⟨by omega, by omega⟩ [] rfl (Nat.le_of_ble_eq_true rfl) dJ10_fixAfterDeletion_347 rfl (fun _ _ h => h.elim) (fun v Ws h => ?_)
          obtain ⟨rfl, rfl⟩ := h
          show SW x [nd (xg x) Ks ka va L2 R2 P2 (va_up c2 x2 1), ob (xg x) q 14 [.null, va_rf vs, .null, va_rf rt2, .int (jI sz), .int (jI mc), .null, .null, .null]] _ _ _ _ []
          refine sw_perm [1, 0] rfl [ob (xg x) q 14 [.null, va_rf vs, .null, va_rf rt2, .int (jI sz), .int (jI mc), .null, .null, .null], nd (xg x) Ks ka va L2 R2 P2 (va_up c2 x2 1)] rfl ?_
          exact sw_vret F rfl dJ10_fixAfterDeletion_350 (by rw [hPo]; exact ⟨L2, R2, P2, rt2, lo2, hi2, va_up c2 x2 1, rfl, hT2, (by (repeat' first | assumption | exact Or.inl rfl | exact Or.inr rfl | apply clO_b | refine cb_up ?_ ?_ | refine cb_cu ?_ ?_)), (by exact fun h9 => (hl2 h9).2), rfl⟩)
        ·
          obtain ⟨p, hp, hpK⟩ := hT2.par hx2 c_5
          refine sw_aload_n (n := 17) F 1 (some x2) rfl rfl rfl dJ10_fixAfterDeletion_16 rfl ?_
          refine sw_aload_n (n := 18) F 1 (some x2) rfl rfl rfl dJ10_fixAfterDeletion_17 rfl ?_
          refine sw_callS (n := 21) F (ct_J10_parentOf (g := xg x) (l := xl x) Ks ka va L2 R2 P2 c2 (some x2) (fun x9 e9 => Option.some.inj e9 ▸ hx2)) q3177 q3178 q114 q3179 nd_J10_parentOf rfl (by decide) [0, 1] rfl [ob (xg x) q 14 [.null, va_rf vs, .null, va_rf rt2, .int (jI sz), .int (jI mc), .null, .null, .null]] rfl 0 0 ⟨by omega, by omega⟩ [.ref x2] rfl (Nat.le_of_ble_eq_true rfl) dJ10_fixAfterDeletion_18 rfl (fun _ _ h => h.elim) (fun v Ws h => ?_)
          obtain ⟨rfl, rfl⟩ := h
          show SW x [nd (xg x) Ks ka va L2 R2 P2 c2, ob (xg x) q 14 [.null, va_rf vs, .null, va_rf rt2, .int (jI sz), .int (jI mc), .null, .null, .null]] _ _ _ _ [va_rf ((some x2).bind P2), .ref x2]
          refine SW.cast (st' := [.ref p, .ref x2]) ?_ rfl rfl (congrArg (fun o9 => va_rf o9 :: _) hp)
          refine sw_callS (n := 24) F (ct_J10_leftOf (g := xg x) (l := xl x) Ks ka va L2 R2 P2 c2 (some p) (fun x9 e9 => Option.some.inj e9 ▸ hpK)) q3180 q3181 q114 q3182 nd_J10_leftOf rfl (by decide) [0, 1] rfl [ob (xg x) q 14 [.null, va_rf vs, .null, va_rf rt2, .int (jI sz), .int (jI mc), .null, .null, .null]] rfl 0 0 ⟨by omega, by omega⟩ [.ref x2] rfl (Nat.le_of_ble_eq_true rfl) dJ10_fixAfterDeletion_21 rfl (fun _ _ h => h.elim) (fun v Ws h => ?_)
          obtain ⟨rfl, rfl⟩ := h
          show SW x [nd (xg x) Ks ka va L2 R2 P2 c2, ob (xg x) q 14 [.null, va_rf vs, .null, va_rf rt2, .int (jI sz), .int (jI mc), .null, .null, .null]] _ _ _ _ [va_rf ((some p).bind L2), .ref x2]
          refine SW.cast (st' := [va_rf (L2 p), .ref x2]) ?_ rfl rfl rfl
          refine sw_acmp_ne (n := 27) F (rx := (some x2)) (ry := (L2 p)) rfl rfl (tgt := 186) dJ10_fixAfterDeletion_24 (by decide) rfl (fun c_24 => ?_) (fun c_24 => ?_)
          ·
            have hl : R2 p = some x2 := ((hT2.p hx2 hp).2).resolve_left (fun e9 => c_24 e9.symm)
            refine sw_aload_n (n := 187) F 1 (some x2) rfl rfl rfl dJ10_fixAfterDeletion_186 rfl ?_
            refine sw_callS (n := 190) F (ct_J10_parentOf (g := xg x) (l := xl x) Ks ka va L2 R2 P2 c2 (some x2) (fun x9 e9 => Option.some.inj e9 ▸ hx2)) q3177 q3178 q114 q3179 nd_J10_parentOf rfl (by decide) [0, 1] rfl [ob (xg x) q 14 [.null, va_rf vs, .null, va_rf rt2, .int (jI sz), .int (jI mc), .null, .null, .null]] rfl 0 0 ⟨by omega, by omega⟩ [] rfl (Nat.le_of_ble_eq_true rfl) dJ10_fixAfterDeletion_187 rfl (fun _ _ h => h.elim) (fun v Ws h => ?_)
            obtain ⟨rfl, rfl⟩ := h
            show SW x [nd (xg x) Ks ka va L2 R2 P2 c2, ob (xg x) q 14 [.null, va_rf vs, .null, va_rf rt2, .int (jI sz), .int (jI mc), .null, .null, .null]] _ _ _ _ [va_rf ((some x2).bind P2)]
            refine SW.cast (st' := [.ref p]) ?_ rfl rfl (congrArg (fun o9 => va_rf o9 :: _) hp)
            refine sw_callS (n := 193) F (ct_J10_leftOf (g := xg x) (l := xl x) Ks ka va L2 R2 P2 c2 (some p) (fun x9 e9 => Option.some.inj e9 ▸ hpK)) q3180 q3181 q114 q3182 nd_J10_leftOf rfl (by decide) [0, 1] rfl [ob (xg x) q 14 [.null, va_rf vs, .null, va_rf rt2, .int (jI sz), .int (jI mc), .null, .null, .null]] rfl 0 0 ⟨by omega, by omega⟩ [] rfl (Nat.le_of_ble_eq_true rfl) dJ10_fixAfterDeletion_190 rfl (fun _ _ h => h.elim) (fun v Ws h => ?_)
            obtain ⟨rfl, rfl⟩ := h
            show SW x [nd (xg x) Ks ka va L2 R2 P2 c2, ob (xg x) q 14 [.null, va_rf vs, .null, va_rf rt2, .int (jI sz), .int (jI mc), .null, .null, .null]] _ _ _ _ [va_rf ((some p).bind L2)]
            refine SW.cast (st' := [va_rf (L2 p)]) ?_ rfl rfl rfl
            refine sw_astore_n (n := 194) F (L2 p) (L2 := [(2, va_rf (L2 p)), (0, .ref q), (1, .ref x2)]) (by first | rfl | simp [va_rf_cat]) rfl (by decide) rfl dJ10_fixAfterDeletion_193 rfl ?_
            have K230 : ∀ (L3 : OP) (R3 : OP) (P3 : OP) (c3 : Nat → Int) (rt3 : Option Nat) (lo3 : Nat → Int) (hi3 : Nat → Int) (o3 : Option Nat), (TrI Ks L3 R3 P3 rk lo3 hi3 rt3) → (∀ t, c3 t = 0 ∨ c3 t = 1) → (P3 x2 = some p) → (R3 p = some x2) → (L3 p = o3) → (lo3 x2 = lo2 x2) → (hi3 x2 = hi2 x2) → (s ∈ Ks → L3 s = none ∧ R3 s = none) → SW x [nd (xg x) Ks ka va L3 R3 P3 c3, ob (xg x) q 14 [.null, va_rf vs, .null, va_rf rt3, .int (jI sz), .int (jI mc), .null, .null, .null]] 0 0 230 [(0, .ref q), (1, .ref x2), (2, va_rf o3)] [] := by
              intro L3 R3 P3 c3 rt3 lo3 hi3 o3 hT3 hc3 hp3 hl3 ho3 hlo3 hhi3 hs3
              rcases o3 with _ | sb
              ·
                refine sw_aload_n (n := 231) F 2 none rfl rfl rfl dJ10_fixAfterDeletion_230 rfl ?_
                refine sw_callS (n := 234) F (ct_J10_rightOf (g := xg x) (l := xl x) Ks ka va L3 R3 P3 c3 none (fun x9 e9 => by cases e9)) q3183 q3184 q114 q3185 nd_J10_rightOf rfl (by decide) [0, 1] rfl [ob (xg x) q 14 [.null, va_rf vs, .null, va_rf rt3, .int (jI sz), .int (jI mc), .null, .null, .null]] rfl 0 0 ⟨by omega, by omega⟩ [] rfl (Nat.le_of_ble_eq_true rfl) dJ10_fixAfterDeletion_231 rfl (fun _ _ h => h.elim) (fun v Ws h => ?_)
                obtain ⟨rfl, rfl⟩ := h
                show SW x [nd (xg x) Ks ka va L3 R3 P3 c3, ob (xg x) q 14 [.null, va_rf vs, .null, va_rf rt3, .int (jI sz), .int (jI mc), .null, .null, .null]] _ _ _ _ [va_rf (none.bind R3)]
                refine SW.cast (st' := [.null]) ?_ rfl rfl rfl
                refine sw_callS (n := 237) F (ct_J10_colorOf (g := xg x) (l := xl x) Ks ka va L3 R3 P3 c3 none (fun x9 e9 => by cases e9) (by (repeat' first | assumption | exact Or.inl rfl | exact Or.inr rfl | apply clO_b | refine cb_up ?_ ?_ | refine cb_cu ?_ ?_))) q3186 q3187 q114 q3188 nd_J10_colorOf rfl (by decide) [0, 1] rfl [ob (xg x) q 14 [.null, va_rf vs, .null, va_rf rt3, .int (jI sz), .int (jI mc), .null, .null, .null]] rfl 0 0 ⟨by omega, by omega⟩ [] rfl (Nat.le_of_ble_eq_true rfl) dJ10_fixAfterDeletion_234 rfl (fun _ _ h => h.elim) (fun v Ws h => ?_)
                obtain ⟨rfl, rfl⟩ := h
                show SW x [nd (xg x) Ks ka va L3 R3 P3 c3, ob (xg x) q 14 [.null, va_rf vs, .null, va_rf rt3, .int (jI sz), .int (jI mc), .null, .null, .null]] _ _ _ _ [.int (jI (clO c3 none))]
                refine SW.cast (st' := [.int (jI 1)]) ?_ rfl rfl rfl
                refine sw_iconst (n := 238) F (1) (by decide) dJ10_fixAfterDeletion_237 rfl ?_
                refine sw_icmp_ne (n := 241) F (by decide) (by decide) (tgt := 265) dJ10_fixAfterDeletion_238 (by decide) rfl (fun c_238 => ?_) (fun c_238 => ?_)
                · exfalso; exact absurd c_238 (by decide)
                ·
                  refine sw_aload_n (n := 242) F 2 none rfl rfl rfl dJ10_fixAfterDeletion_241 rfl ?_
                  refine sw_callS (n := 245) F (ct_J10_leftOf (g := xg x) (l := xl x) Ks ka va L3 R3 P3 c3 none (fun x9 e9 => by cases e9)) q3180 q3181 q114 q3182 nd_J10_leftOf rfl (by decide) [0, 1] rfl [ob (xg x) q 14 [.null, va_rf vs, .null, va_rf rt3, .int (jI sz), .int (jI mc), .null, .null, .null]] rfl 0 0 ⟨by omega, by omega⟩ [] rfl (Nat.le_of_ble_eq_true rfl) dJ10_fixAfterDeletion_242 rfl (fun _ _ h => h.elim) (fun v Ws h => ?_)
                  obtain ⟨rfl, rfl⟩ := h
                  show SW x [nd (xg x) Ks ka va L3 R3 P3 c3, ob (xg x) q 14 [.null, va_rf vs, .null, va_rf rt3, .int (jI sz), .int (jI mc), .null, .null, .null]] _ _ _ _ [va_rf (none.bind L3)]
                  refine SW.cast (st' := [.null]) ?_ rfl rfl rfl
                  refine sw_callS (n := 248) F (ct_J10_colorOf (g := xg x) (l := xl x) Ks ka va L3 R3 P3 c3 none (fun x9 e9 => by cases e9) (by (repeat' first | assumption | exact Or.inl rfl | exact Or.inr rfl | apply clO_b | refine cb_up ?_ ?_ | refine cb_cu ?_ ?_))) q3186 q3187 q114 q3188 nd_J10_colorOf rfl (by decide) [0, 1] rfl [ob (xg x) q 14 [.null, va_rf vs, .null, va_rf rt3, .int (jI sz), .int (jI mc), .null, .null, .null]] rfl 0 0 ⟨by omega, by omega⟩ [] rfl (Nat.le_of_ble_eq_true rfl) dJ10_fixAfterDeletion_245 rfl (fun _ _ h => h.elim) (fun v Ws h => ?_)
                  obtain ⟨rfl, rfl⟩ := h
                  show SW x [nd (xg x) Ks ka va L3 R3 P3 c3, ob (xg x) q 14 [.null, va_rf vs, .null, va_rf rt3, .int (jI sz), .int (jI mc), .null, .null, .null]] _ _ _ _ [.int (jI (clO c3 none))]
                  refine SW.cast (st' := [.int (jI 1)]) ?_ rfl rfl rfl
                  refine sw_iconst (n := 249) F (1) (by decide) dJ10_fixAfterDeletion_248 rfl ?_
                  refine sw_icmp_ne (n := 252) F (by decide) (by decide) (tgt := 265) dJ10_fixAfterDeletion_249 (by decide) rfl (fun c_249 => ?_) (fun c_249 => ?_)
                  · exfalso; exact absurd c_249 (by decide)
                  ·
                    refine sw_aload_n (n := 253) F 2 none rfl rfl rfl dJ10_fixAfterDeletion_252 rfl ?_
                    refine sw_iconst (n := 254) F (0) (by decide) dJ10_fixAfterDeletion_253 rfl ?_
                    refine sw_callS (n := 257) F (ct_J10_setColor_o (g := xg x) (l := xl x) Ks ka va L3 R3 P3 c3 none 0 (fun x9 e9 => by cases e9) (by first | omega | assumption)) q3189 q3190 q114 q3191 nd_J10_setColor rfl (by decide) [0, 1] rfl [ob (xg x) q 14 [.null, va_rf vs, .null, va_rf rt3, .int (jI sz), .int (jI mc), .null, .null, .null]] rfl 0 0 ⟨by omega, by omega⟩ [] rfl (Nat.le_of_ble_eq_true rfl) dJ10_fixAfterDeletion_254 rfl (fun _ _ h => h.elim) (fun v Ws h => ?_)
                    obtain ⟨rfl, rfl⟩ := h
                    show SW x [nd (xg x) Ks ka va L3 R3 P3 (cuO c3 none 0), ob (xg x) q 14 [.null, va_rf vs, .null, va_rf rt3, .int (jI sz), .int (jI mc), .null, .null, .null]] _ _ _ _ []
                    refine sw_aload_n (n := 258) F 1 (some x2) rfl rfl rfl dJ10_fixAfterDeletion_257 rfl ?_
                    refine sw_callS (n := 261) F (ct_J10_parentOf (g := xg x) (l := xl x) Ks ka va L3 R3 P3 (cuO c3 none 0) (some x2) (fun x9 e9 => Option.some.inj e9 ▸ hx2)) q3177 q3178 q114 q3179 nd_J10_parentOf rfl (by decide) [0, 1] rfl [ob (xg x) q 14 [.null, va_rf vs, .null, va_rf rt3, .int (jI sz), .int (jI mc), .null, .null, .null]] rfl 0 0 ⟨by omega, by omega⟩ [] rfl (Nat.le_of_ble_eq_true rfl) dJ10_fixAfterDeletion_258 rfl (fun _ _ h => h.elim) (fun v Ws h => ?_)
                    obtain ⟨rfl, rfl⟩ := h
                    show SW x [nd (xg x) Ks ka va L3 R3 P3 (cuO c3 none 0), ob (xg x) q 14 [.null, va_rf vs, .null, va_rf rt3, .int (jI sz), .int (jI mc), .null, .null, .null]] _ _ _ _ [va_rf ((some x2).bind P3)]
                    refine SW.cast (st' := [.ref p]) ?_ rfl rfl (congrArg (fun o9 => va_rf o9 :: _) hp3)
                    refine sw_astore_n (n := 262) F (some p) (L2 := [(1, .ref p), (0, .ref q), (2, .null)]) rfl rfl (by decide) rfl dJ10_fixAfterDeletion_261 rfl ?_
                    refine sw_goto F (n := 342) dJ10_fixAfterDeletion_262 (by decide) ?_
                    have hlN : s ∈ Ks → (lo3 p < rk s ∧ rk s < hi3 p) ∧ L3 s = none ∧ R3 s = none := fun h9 => ⟨by have g1 := hl2 h9; have g2 := hT3.r hpK hl3; have g4 := hT3.rng hpK; omega, hs3 h9⟩
                    have hwd := hT3.wdl hx2 hp3
                    have hwe : wd lo3 hi3 x2 = wd lo2 hi2 x2 := by unfold wd; rw [hlo3, hhi3]
                    refine sw_goto F (n := 0) dJ10_fixAfterDeletion_342 (by decide) ?_
                    refine sw_perm [1, 0] rfl [ob (xg x) q 14 [.null, va_rf vs, .null, va_rf rt3, .int (jI sz), .int (jI mc), .null, .null, .null], nd (xg x) Ks ka va L3 R3 P3 (cuO c3 none 0)] rfl ?_
                    refine sw_loc [1, 0] (L2 := [(0, .ref q), (1, .ref p)]) rfl ?_
                    exact ih0 p L3 R3 P3 (cuO c3 none 0) rt3 lo3 hi3 hT3 hpK (by (repeat' first | assumption | exact Or.inl rfl | exact Or.inr rfl | apply clO_b | refine cb_up ?_ ?_ | refine cb_cu ?_ ?_)) (by first | exact hlN | assumption) (by omega)
              ·
                have hsbK : sb ∈ Ks := (hT3.l hpK ho3).1
                have hpsb : p ≠ sb := hT3.neL hpK ho3
                refine sw_aload_n (n := 231) F 2 (some sb) rfl rfl rfl dJ10_fixAfterDeletion_230 rfl ?_
                refine sw_callS (n := 234) F (ct_J10_rightOf (g := xg x) (l := xl x) Ks ka va L3 R3 P3 c3 (some sb) (fun x9 e9 => Option.some.inj e9 ▸ hsbK)) q3183 q3184 q114 q3185 nd_J10_rightOf rfl (by decide) [0, 1] rfl [ob (xg x) q 14 [.null, va_rf vs, .null, va_rf rt3, .int (jI sz), .int (jI mc), .null, .null, .null]] rfl 0 0 ⟨by omega, by omega⟩ [] rfl (Nat.le_of_ble_eq_true rfl) dJ10_fixAfterDeletion_231 rfl (fun _ _ h => h.elim) (fun v Ws h => ?_)
                obtain ⟨rfl, rfl⟩ := h
                show SW x [nd (xg x) Ks ka va L3 R3 P3 c3, ob (xg x) q 14 [.null, va_rf vs, .null, va_rf rt3, .int (jI sz), .int (jI mc), .null, .null, .null]] _ _ _ _ [va_rf ((some sb).bind R3)]
                refine SW.cast (st' := [va_rf (R3 sb)]) ?_ rfl rfl rfl
                refine sw_callS (n := 237) F (ct_J10_colorOf (g := xg x) (l := xl x) Ks ka va L3 R3 P3 c3 (R3 sb) (fun x9 e9 => (hT3.r hsbK e9).1) (by (repeat' first | assumption | exact Or.inl rfl | exact Or.inr rfl | apply clO_b | refine cb_up ?_ ?_ | refine cb_cu ?_ ?_))) q3186 q3187 q114 q3188 nd_J10_colorOf rfl (by decide) [0, 1] rfl [ob (xg x) q 14 [.null, va_rf vs, .null, va_rf rt3, .int (jI sz), .int (jI mc), .null, .null, .null]] rfl 0 0 ⟨by omega, by omega⟩ [] rfl (Nat.le_of_ble_eq_true rfl) dJ10_fixAfterDeletion_234 rfl (fun _ _ h => h.elim) (fun v Ws h => ?_)
                obtain ⟨rfl, rfl⟩ := h
                show SW x [nd (xg x) Ks ka va L3 R3 P3 c3, ob (xg x) q 14 [.null, va_rf vs, .null, va_rf rt3, .int (jI sz), .int (jI mc), .null, .null, .null]] _ _ _ _ [.int (jI (clO c3 (R3 sb)))]
                have hyb_2 : clO c3 (R3 sb) = 0 ∨ clO c3 (R3 sb) = 1 := clO_b (by (repeat' first | assumption | exact Or.inl rfl | exact Or.inr rfl | apply clO_b | refine cb_up ?_ ?_ | refine cb_cu ?_ ?_)) _
                refine sw_iconst (n := 238) F (1) (by decide) dJ10_fixAfterDeletion_237 rfl ?_
                refine sw_icmp_ne (n := 241) F (by omega) (by decide) (tgt := 265) dJ10_fixAfterDeletion_238 (by decide) rfl (fun c_238 => ?_) (fun c_238 => ?_)
                ·
                  refine sw_aload_n (n := 266) F 2 (some sb) rfl rfl rfl dJ10_fixAfterDeletion_265 rfl ?_
                  refine sw_callS (n := 269) F (ct_J10_leftOf (g := xg x) (l := xl x) Ks ka va L3 R3 P3 c3 (some sb) (fun x9 e9 => Option.some.inj e9 ▸ hsbK)) q3180 q3181 q114 q3182 nd_J10_leftOf rfl (by decide) [0, 1] rfl [ob (xg x) q 14 [.null, va_rf vs, .null, va_rf rt3, .int (jI sz), .int (jI mc), .null, .null, .null]] rfl 0 0 ⟨by omega, by omega⟩ [] rfl (Nat.le_of_ble_eq_true rfl) dJ10_fixAfterDeletion_266 rfl (fun _ _ h => h.elim) (fun v Ws h => ?_)
                  obtain ⟨rfl, rfl⟩ := h
                  show SW x [nd (xg x) Ks ka va L3 R3 P3 c3, ob (xg x) q 14 [.null, va_rf vs, .null, va_rf rt3, .int (jI sz), .int (jI mc), .null, .null, .null]] _ _ _ _ [va_rf ((some sb).bind L3)]
                  refine SW.cast (st' := [va_rf (L3 sb)]) ?_ rfl rfl rfl
                  refine sw_callS (n := 272) F (ct_J10_colorOf (g := xg x) (l := xl x) Ks ka va L3 R3 P3 c3 (L3 sb) (fun x9 e9 => (hT3.l hsbK e9).1) (by (repeat' first | assumption | exact Or.inl rfl | exact Or.inr rfl | apply clO_b | refine cb_up ?_ ?_ | refine cb_cu ?_ ?_))) q3186 q3187 q114 q3188 nd_J10_colorOf rfl (by decide) [0, 1] rfl [ob (xg x) q 14 [.null, va_rf vs, .null, va_rf rt3, .int (jI sz), .int (jI mc), .null, .null, .null]] rfl 0 0 ⟨by omega, by omega⟩ [] rfl (Nat.le_of_ble_eq_true rfl) dJ10_fixAfterDeletion_269 rfl (fun _ _ h => h.elim) (fun v Ws h => ?_)
                  obtain ⟨rfl, rfl⟩ := h
                  show SW x [nd (xg x) Ks ka va L3 R3 P3 c3, ob (xg x) q 14 [.null, va_rf vs, .null, va_rf rt3, .int (jI sz), .int (jI mc), .null, .null, .null]] _ _ _ _ [.int (jI (clO c3 (L3 sb)))]
                  have hyb_3 : clO c3 (L3 sb) = 0 ∨ clO c3 (L3 sb) = 1 := clO_b (by (repeat' first | assumption | exact Or.inl rfl | exact Or.inr rfl | apply clO_b | refine cb_up ?_ ?_ | refine cb_cu ?_ ?_)) _
                  refine sw_iconst (n := 273) F (1) (by decide) dJ10_fixAfterDeletion_272 rfl ?_
                  refine sw_icmp_ne (n := 276) F (by omega) (by decide) (tgt := 302) dJ10_fixAfterDeletion_273 (by decide) rfl (fun c_273 => ?_) (fun c_273 => ?_)
                  ·
                    refine sw_aload_n (n := 303) F 2 (some sb) rfl rfl rfl dJ10_fixAfterDeletion_302 rfl ?_
                    refine sw_aload_n (n := 304) F 1 (some x2) rfl rfl rfl dJ10_fixAfterDeletion_303 rfl ?_
                    refine sw_callS (n := 307) F (ct_J10_parentOf (g := xg x) (l := xl x) Ks ka va L3 R3 P3 c3 (some x2) (fun x9 e9 => Option.some.inj e9 ▸ hx2)) q3177 q3178 q114 q3179 nd_J10_parentOf rfl (by decide) [0, 1] rfl [ob (xg x) q 14 [.null, va_rf vs, .null, va_rf rt3, .int (jI sz), .int (jI mc), .null, .null, .null]] rfl 0 0 ⟨by omega, by omega⟩ [.ref sb] rfl (Nat.le_of_ble_eq_true rfl) dJ10_fixAfterDeletion_304 rfl (fun _ _ h => h.elim) (fun v Ws h => ?_)
                    obtain ⟨rfl, rfl⟩ := h
                    show SW x [nd (xg x) Ks ka va L3 R3 P3 c3, ob (xg x) q 14 [.null, va_rf vs, .null, va_rf rt3, .int (jI sz), .int (jI mc), .null, .null, .null]] _ _ _ _ [va_rf ((some x2).bind P3), .ref sb]
                    refine SW.cast (st' := [.ref p, .ref sb]) ?_ rfl rfl (congrArg (fun o9 => va_rf o9 :: _) hp3)
                    refine sw_callS (n := 310) F (ct_J10_colorOf (g := xg x) (l := xl x) Ks ka va L3 R3 P3 c3 (some p) (fun x9 e9 => Option.some.inj e9 ▸ hpK) (by (repeat' first | assumption | exact Or.inl rfl | exact Or.inr rfl | apply clO_b | refine cb_up ?_ ?_ | refine cb_cu ?_ ?_))) q3186 q3187 q114 q3188 nd_J10_colorOf rfl (by decide) [0, 1] rfl [ob (xg x) q 14 [.null, va_rf vs, .null, va_rf rt3, .int (jI sz), .int (jI mc), .null, .null, .null]] rfl 0 0 ⟨by omega, by omega⟩ [.ref sb] rfl (Nat.le_of_ble_eq_true rfl) dJ10_fixAfterDeletion_307 rfl (fun _ _ h => h.elim) (fun v Ws h => ?_)
                    obtain ⟨rfl, rfl⟩ := h
                    show SW x [nd (xg x) Ks ka va L3 R3 P3 c3, ob (xg x) q 14 [.null, va_rf vs, .null, va_rf rt3, .int (jI sz), .int (jI mc), .null, .null, .null]] _ _ _ _ [.int (jI (clO c3 (some p))), .ref sb]
                    refine SW.cast (st' := [.int (jI (c3 p)), .ref sb]) ?_ rfl rfl rfl
                    have hyb_4 : c3 p = 0 ∨ c3 p = 1 := (show ∀ t, c3 t = 0 ∨ c3 t = 1 by (repeat' first | assumption | exact Or.inl rfl | exact Or.inr rfl | apply clO_b | refine cb_up ?_ ?_ | refine cb_cu ?_ ?_)) _
                    refine sw_callS (n := 313) F (ct_J10_setColor (g := xg x) (l := xl x) Ks ka va L3 R3 P3 c3 sb (c3 p) hsbK hyb_4) q3189 q3190 q114 q3191 nd_J10_setColor rfl (by decide) [0, 1] rfl [ob (xg x) q 14 [.null, va_rf vs, .null, va_rf rt3, .int (jI sz), .int (jI mc), .null, .null, .null]] rfl 0 0 ⟨by omega, by omega⟩ [] rfl (Nat.le_of_ble_eq_true rfl) dJ10_fixAfterDeletion_310 rfl (fun _ _ h => h.elim) (fun v Ws h => ?_)
                    obtain ⟨rfl, rfl⟩ := h
                    show SW x [nd (xg x) Ks ka va L3 R3 P3 (va_up c3 sb (c3 p)), ob (xg x) q 14 [.null, va_rf vs, .null, va_rf rt3, .int (jI sz), .int (jI mc), .null, .null, .null]] _ _ _ _ []
                    refine sw_aload_n (n := 314) F 1 (some x2) rfl rfl rfl dJ10_fixAfterDeletion_313 rfl ?_
                    refine sw_callS (n := 317) F (ct_J10_parentOf (g := xg x) (l := xl x) Ks ka va L3 R3 P3 (va_up c3 sb (c3 p)) (some x2) (fun x9 e9 => Option.some.inj e9 ▸ hx2)) q3177 q3178 q114 q3179 nd_J10_parentOf rfl (by decide) [0, 1] rfl [ob (xg x) q 14 [.null, va_rf vs, .null, va_rf rt3, .int (jI sz), .int (jI mc), .null, .null, .null]] rfl 0 0 ⟨by omega, by omega⟩ [] rfl (Nat.le_of_ble_eq_true rfl) dJ10_fixAfterDeletion_314 rfl (fun _ _ h => h.elim) (fun v Ws h => ?_)
                    obtain ⟨rfl, rfl⟩ := h
                    show SW x [nd (xg x) Ks ka va L3 R3 P3 (va_up c3 sb (c3 p)), ob (xg x) q 14 [.null, va_rf vs, .null, va_rf rt3, .int (jI sz), .int (jI mc), .null, .null, .null]] _ _ _ _ [va_rf ((some x2).bind P3)]
                    refine SW.cast (st' := [.ref p]) ?_ rfl rfl (congrArg (fun o9 => va_rf o9 :: _) hp3)
                    refine sw_iconst (n := 318) F (1) (by decide) dJ10_fixAfterDeletion_317 rfl ?_
                    refine sw_callS (n := 321) F (ct_J10_setColor (g := xg x) (l := xl x) Ks ka va L3 R3 P3 (va_up c3 sb (c3 p)) p 1 hpK (by first | omega | assumption)) q3189 q3190 q114 q3191 nd_J10_setColor rfl (by decide) [0, 1] rfl [ob (xg x) q 14 [.null, va_rf vs, .null, va_rf rt3, .int (jI sz), .int (jI mc), .null, .null, .null]] rfl 0 0 ⟨by omega, by omega⟩ [] rfl (Nat.le_of_ble_eq_true rfl) dJ10_fixAfterDeletion_318 rfl (fun _ _ h => h.elim) (fun v Ws h => ?_)
                    obtain ⟨rfl, rfl⟩ := h
                    show SW x [nd (xg x) Ks ka va L3 R3 P3 (va_up (va_up c3 sb (c3 p)) p 1), ob (xg x) q 14 [.null, va_rf vs, .null, va_rf rt3, .int (jI sz), .int (jI mc), .null, .null, .null]] _ _ _ _ []
                    refine sw_aload_n (n := 322) F 2 (some sb) rfl rfl rfl dJ10_fixAfterDeletion_321 rfl ?_
                    refine sw_callS (n := 325) F (ct_J10_leftOf (g := xg x) (l := xl x) Ks ka va L3 R3 P3 (va_up (va_up c3 sb (c3 p)) p 1) (some sb) (fun x9 e9 => Option.some.inj e9 ▸ hsbK)) q3180 q3181 q114 q3182 nd_J10_leftOf rfl (by decide) [0, 1] rfl [ob (xg x) q 14 [.null, va_rf vs, .null, va_rf rt3, .int (jI sz), .int (jI mc), .null, .null, .null]] rfl 0 0 ⟨by omega, by omega⟩ [] rfl (Nat.le_of_ble_eq_true rfl) dJ10_fixAfterDeletion_322 rfl (fun _ _ h => h.elim) (fun v Ws h => ?_)
                    obtain ⟨rfl, rfl⟩ := h
                    show SW x [nd (xg x) Ks ka va L3 R3 P3 (va_up (va_up c3 sb (c3 p)) p 1), ob (xg x) q 14 [.null, va_rf vs, .null, va_rf rt3, .int (jI sz), .int (jI mc), .null, .null, .null]] _ _ _ _ [va_rf ((some sb).bind L3)]
                    refine SW.cast (st' := [va_rf (L3 sb)]) ?_ rfl rfl rfl
                    refine sw_iconst (n := 326) F (1) (by decide) dJ10_fixAfterDeletion_325 rfl ?_
                    refine sw_callS (n := 329) F (ct_J10_setColor_o (g := xg x) (l := xl x) Ks ka va L3 R3 P3 (va_up (va_up c3 sb (c3 p)) p 1) (L3 sb) 1 (fun x9 e9 => (hT3.l hsbK e9).1) (by first | omega | assumption)) q3189 q3190 q114 q3191 nd_J10_setColor rfl (by decide) [0, 1] rfl [ob (xg x) q 14 [.null, va_rf vs, .null, va_rf rt3, .int (jI sz), .int (jI mc), .null, .null, .null]] rfl 0 0 ⟨by omega, by omega⟩ [] rfl (Nat.le_of_ble_eq_true rfl) dJ10_fixAfterDeletion_326 rfl (fun _ _ h => h.elim) (fun v Ws h => ?_)
                    obtain ⟨rfl, rfl⟩ := h
                    show SW x [nd (xg x) Ks ka va L3 R3 P3 (cuO (va_up (va_up c3 sb (c3 p)) p 1) (L3 sb) 1), ob (xg x) q 14 [.null, va_rf vs, .null, va_rf rt3, .int (jI sz), .int (jI mc), .null, .null, .null]] _ _ _ _ []
                    refine sw_aload_n (n := 330) F 0 (some q) rfl rfl rfl dJ10_fixAfterDeletion_329 rfl ?_
                    refine sw_aload_n (n := 331) F 1 (some x2) rfl rfl rfl dJ10_fixAfterDeletion_330 rfl ?_
                    refine sw_callS (n := 334) F (ct_J10_parentOf (g := xg x) (l := xl x) Ks ka va L3 R3 P3 (cuO (va_up (va_up c3 sb (c3 p)) p 1) (L3 sb) 1) (some x2) (fun x9 e9 => Option.some.inj e9 ▸ hx2)) q3177 q3178 q114 q3179 nd_J10_parentOf rfl (by decide) [0, 1] rfl [ob (xg x) q 14 [.null, va_rf vs, .null, va_rf rt3, .int (jI sz), .int (jI mc), .null, .null, .null]] rfl 0 0 ⟨by omega, by omega⟩ [.ref q] rfl (Nat.le_of_ble_eq_true rfl) dJ10_fixAfterDeletion_331 rfl (fun _ _ h => h.elim) (fun v Ws h => ?_)
                    obtain ⟨rfl, rfl⟩ := h
                    show SW x [nd (xg x) Ks ka va L3 R3 P3 (cuO (va_up (va_up c3 sb (c3 p)) p 1) (L3 sb) 1), ob (xg x) q 14 [.null, va_rf vs, .null, va_rf rt3, .int (jI sz), .int (jI mc), .null, .null, .null]] _ _ _ _ [va_rf ((some x2).bind P3), .ref q]
                    refine SW.cast (st' := [.ref p, .ref q]) ?_ rfl rfl (congrArg (fun o9 => va_rf o9 :: _) hp3)
                    refine sw_callV (n := 337) F (ct_J10_rotateRight (g := xg x) (l := xl x) Ks ka va L3 R3 P3 (cuO (va_up (va_up c3 sb (c3 p)) p 1) (L3 sb) 1) q vs rt3 sz mc rk lo3 hi3 p sb hT3 hpK ho3) (rcv_ob F 1 rfl rfl) q3196 q3198 qs53 q114 q3199 nd_J10_rotateRight rfl (by decide) [1, 0] rfl [] rfl 0 0 ⟨by omega, by omega⟩ [] rfl (Nat.le_of_ble_eq_true rfl) dJ10_fixAfterDeletion_334 rfl (fun _ _ h => h.elim) (fun v Ws h => ?_)
                    obtain ⟨L1_5, R1_6, P1_7, rt1_8, lo1_9, hi1_10, rfl, hR_11, hT1_12, hlo_13, hhi_14, rfl⟩ := h
                    show SW x [ob (xg x) q 14 [.null, va_rf vs, .null, va_rf rt1_8, .int (jI sz), .int (jI mc), .null, .null, .null], nd (xg x) Ks ka va L1_5 R1_6 P1_7 (cuO (va_up (va_up c3 sb (c3 p)) p 1) (L3 sb) 1)] _ _ _ _ []
                    obtain ⟨r0, hr0, hr0K⟩ := hT1_12.rt1 hx2
                    have hs5 : s ∈ Ks → L1_5 s = none ∧ R1_6 s = none := fun h9 => hT3.lfR hpK ho3 hR_11 (hs3 h9).1 (hs3 h9).2 (fun e9 => by subst e9; have g1 := hl2 h9; have g2 := hT3.r hpK hl3; have g3 := hT3.l hpK ho3; have g4 := hT3.rng h9; omega)
                    refine sw_aload_n (n := 338) F 0 (some q) rfl rfl rfl dJ10_fixAfterDeletion_337 rfl ?_
                    refine sw_get (n := 341) F 0 rfl (k := 3) ⟨(RJ10, TJ10, 9), rfl, by decide, q288, in_J10, Or.inl rfl⟩ rfl dJ10_fixAfterDeletion_338 rfl ?_
                    refine SW.cast (st' := [.ref r0]) ?_ rfl rfl (congrArg (fun o9 => va_rf o9 :: _) hr0)
                    refine sw_astore_n (n := 342) F (some r0) (L2 := [(1, .ref r0), (0, .ref q), (2, .ref sb)]) rfl rfl (by decide) rfl dJ10_fixAfterDeletion_341 rfl ?_
                    have hlN : s ∈ Ks → (lo1_9 r0 < rk s ∧ rk s < hi1_10 r0) ∧ L1_5 s = none ∧ R1_6 s = none := fun h9 => ⟨by have g1 := hT1_12.root hr0; have g4 := hT1_12.rng h9; omega, hs5 h9⟩
                    have hwd : wd lo1_9 hi1_10 r0 < wd lo2 hi2 x2 := by have g1 := hT1_12.root hr0; have g2 := hT3.wid hx2 hp3; have g4 := hT3.rng hpK; unfold wd; omega
                    refine sw_goto F (n := 0) dJ10_fixAfterDeletion_342 (by decide) ?_
                    refine sw_loc [1, 0] (L2 := [(0, .ref q), (1, .ref r0)]) rfl ?_
                    exact ih0 r0 L1_5 R1_6 P1_7 (cuO (va_up (va_up c3 sb (c3 p)) p 1) (L3 sb) 1) rt1_8 lo1_9 hi1_10 hT1_12 hr0K (by (repeat' first | assumption | exact Or.inl rfl | exact Or.inr rfl | apply clO_b | refine cb_up ?_ ?_ | refine cb_cu ?_ ?_)) (by first | exact hlN | assumption) (by omega)
                  ·
                    obtain ⟨j, hj⟩ := clO_s c_238
                    have hjK : j ∈ Ks := (hT3.r hsbK hj).1
                    have hsbj : sb ≠ j := hT3.neR hsbK hj
                    have hpj : p ≠ j := fun e9 => hT3.neG hjK (hT3.r hsbK hj).2.1 (hT3.l hpK ho3).2.1 e9.symm
                    refine sw_aload_n (n := 277) F 2 (some sb) rfl rfl rfl dJ10_fixAfterDeletion_276 rfl ?_
                    refine sw_callS (n := 280) F (ct_J10_rightOf (g := xg x) (l := xl x) Ks ka va L3 R3 P3 c3 (some sb) (fun x9 e9 => Option.some.inj e9 ▸ hsbK)) q3183 q3184 q114 q3185 nd_J10_rightOf rfl (by decide) [0, 1] rfl [ob (xg x) q 14 [.null, va_rf vs, .null, va_rf rt3, .int (jI sz), .int (jI mc), .null, .null, .null]] rfl 0 0 ⟨by omega, by omega⟩ [] rfl (Nat.le_of_ble_eq_true rfl) dJ10_fixAfterDeletion_277 rfl (fun _ _ h => h.elim) (fun v Ws h => ?_)
                    obtain ⟨rfl, rfl⟩ := h
                    show SW x [nd (xg x) Ks ka va L3 R3 P3 c3, ob (xg x) q 14 [.null, va_rf vs, .null, va_rf rt3, .int (jI sz), .int (jI mc), .null, .null, .null]] _ _ _ _ [va_rf ((some sb).bind R3)]
                    refine SW.cast (st' := [.ref j]) ?_ rfl rfl (congrArg (fun o9 => va_rf o9 :: _) hj)
                    refine sw_iconst (n := 281) F (1) (by decide) dJ10_fixAfterDeletion_280 rfl ?_
                    refine sw_callS (n := 284) F (ct_J10_setColor (g := xg x) (l := xl x) Ks ka va L3 R3 P3 c3 j 1 hjK (by first | omega | assumption)) q3189 q3190 q114 q3191 nd_J10_setColor rfl (by decide) [0, 1] rfl [ob (xg x) q 14 [.null, va_rf vs, .null, va_rf rt3, .int (jI sz), .int (jI mc), .null, .null, .null]] rfl 0 0 ⟨by omega, by omega⟩ [] rfl (Nat.le_of_ble_eq_true rfl) dJ10_fixAfterDeletion_281 rfl (fun _ _ h => h.elim) (fun v Ws h => ?_)
                    obtain ⟨rfl, rfl⟩ := h
                    show SW x [nd (xg x) Ks ka va L3 R3 P3 (va_up c3 j 1), ob (xg x) q 14 [.null, va_rf vs, .null, va_rf rt3, .int (jI sz), .int (jI mc), .null, .null, .null]] _ _ _ _ []
                    refine sw_aload_n (n := 285) F 2 (some sb) rfl rfl rfl dJ10_fixAfterDeletion_284 rfl ?_
                    refine sw_iconst (n := 286) F (0) (by decide) dJ10_fixAfterDeletion_285 rfl ?_
                    refine sw_callS (n := 289) F (ct_J10_setColor (g := xg x) (l := xl x) Ks ka va L3 R3 P3 (va_up c3 j 1) sb 0 hsbK (by first | omega | assumption)) q3189 q3190 q114 q3191 nd_J10_setColor rfl (by decide) [0, 1] rfl [ob (xg x) q 14 [.null, va_rf vs, .null, va_rf rt3, .int (jI sz), .int (jI mc), .null, .null, .null]] rfl 0 0 ⟨by omega, by omega⟩ [] rfl (Nat.le_of_ble_eq_true rfl) dJ10_fixAfterDeletion_286 rfl (fun _ _ h => h.elim) (fun v Ws h => ?_)
                    obtain ⟨rfl, rfl⟩ := h
                    show SW x [nd (xg x) Ks ka va L3 R3 P3 (va_up (va_up c3 j 1) sb 0), ob (xg x) q 14 [.null, va_rf vs, .null, va_rf rt3, .int (jI sz), .int (jI mc), .null, .null, .null]] _ _ _ _ []
                    refine sw_aload_n (n := 290) F 0 (some q) rfl rfl rfl dJ10_fixAfterDeletion_289 rfl ?_
                    refine sw_aload_n (n := 291) F 2 (some sb) rfl rfl rfl dJ10_fixAfterDeletion_290 rfl ?_
                    refine sw_callV (n := 294) F (ct_J10_rotateLeft (g := xg x) (l := xl x) Ks ka va L3 R3 P3 (va_up (va_up c3 j 1) sb 0) q vs rt3 sz mc rk lo3 hi3 sb j hT3 hsbK hj) (rcv_ob F 1 rfl rfl) q3192 q3194 qs52 q114 q3195 nd_J10_rotateLeft rfl (by decide) [1, 0] rfl [] rfl 0 0 ⟨by omega, by omega⟩ [] rfl (Nat.le_of_ble_eq_true rfl) dJ10_fixAfterDeletion_291 rfl (fun _ _ h => h.elim) (fun v Ws h => ?_)
                    obtain ⟨L1_15, R1_16, P1_17, rt1_18, lo1_19, hi1_20, rfl, hR_21, hT1_22, hlo_23, hhi_24, rfl⟩ := h
                    show SW x [ob (xg x) q 14 [.null, va_rf vs, .null, va_rf rt1_18, .int (jI sz), .int (jI mc), .null, .null, .null], nd (xg x) Ks ka va L1_15 R1_16 P1_17 (va_up (va_up c3 j 1) sb 0)] _ _ _ _ []
                    obtain ⟨hp4, hl4, hj4, e4, e5⟩ := hT3.feR hx2 hp3 hl3 ho3 hj hR_21
                    have hs4 : s ∈ Ks → L1_15 s = none ∧ R1_16 s = none := fun h9 => hT3.lfL hsbK hj hR_21 (hs3 h9).1 (hs3 h9).2 (fun e9 => by subst e9; have g1 := hl2 h9; have g2 := hT3.r hpK hl3; have g3 := hT3.l hpK ho3; have g5 := hT3.r hsbK hj; have g4 := hT3.rng h9; omega)
                    refine sw_aload_n (n := 295) F 1 (some x2) rfl rfl rfl dJ10_fixAfterDeletion_294 rfl ?_
                    refine sw_callS (n := 298) F (ct_J10_parentOf (g := xg x) (l := xl x) Ks ka va L1_15 R1_16 P1_17 (va_up (va_up c3 j 1) sb 0) (some x2) (fun x9 e9 => Option.some.inj e9 ▸ hx2)) q3177 q3178 q114 q3179 nd_J10_parentOf rfl (by decide) [1, 0] rfl [ob (xg x) q 14 [.null, va_rf vs, .null, va_rf rt1_18, .int (jI sz), .int (jI mc), .null, .null, .null]] rfl 0 0 ⟨by omega, by omega⟩ [] rfl (Nat.le_of_ble_eq_true rfl) dJ10_fixAfterDeletion_295 rfl (fun _ _ h => h.elim) (fun v Ws h => ?_)
                    obtain ⟨rfl, rfl⟩ := h
                    show SW x [nd (xg x) Ks ka va L1_15 R1_16 P1_17 (va_up (va_up c3 j 1) sb 0), ob (xg x) q 14 [.null, va_rf vs, .null, va_rf rt1_18, .int (jI sz), .int (jI mc), .null, .null, .null]] _ _ _ _ [va_rf ((some x2).bind P1_17)]
                    refine SW.cast (st' := [.ref p]) ?_ rfl rfl (congrArg (fun o9 => va_rf o9 :: _) hp4)
                    refine sw_callS (n := 301) F (ct_J10_leftOf (g := xg x) (l := xl x) Ks ka va L1_15 R1_16 P1_17 (va_up (va_up c3 j 1) sb 0) (some p) (fun x9 e9 => Option.some.inj e9 ▸ hpK)) q3180 q3181 q114 q3182 nd_J10_leftOf rfl (by decide) [0, 1] rfl [ob (xg x) q 14 [.null, va_rf vs, .null, va_rf rt1_18, .int (jI sz), .int (jI mc), .null, .null, .null]] rfl 0 0 ⟨by omega, by omega⟩ [] rfl (Nat.le_of_ble_eq_true rfl) dJ10_fixAfterDeletion_298 rfl (fun _ _ h => h.elim) (fun v Ws h => ?_)
                    obtain ⟨rfl, rfl⟩ := h
                    show SW x [nd (xg x) Ks ka va L1_15 R1_16 P1_17 (va_up (va_up c3 j 1) sb 0), ob (xg x) q 14 [.null, va_rf vs, .null, va_rf rt1_18, .int (jI sz), .int (jI mc), .null, .null, .null]] _ _ _ _ [va_rf ((some p).bind L1_15)]
                    refine SW.cast (st' := [.ref j]) ?_ rfl rfl (congrArg (fun o9 => va_rf o9 :: _) hj4)
                    refine sw_astore_n (n := 302) F (some j) (L2 := [(2, .ref j), (0, .ref q), (1, .ref x2)]) rfl rfl (by decide) rfl dJ10_fixAfterDeletion_301 rfl ?_
                    refine sw_aload_n (n := 303) F 0 (some j) rfl rfl rfl dJ10_fixAfterDeletion_302 rfl ?_
                    refine sw_aload_n (n := 304) F 2 (some x2) rfl rfl rfl dJ10_fixAfterDeletion_303 rfl ?_
                    refine sw_callS (n := 307) F (ct_J10_parentOf (g := xg x) (l := xl x) Ks ka va L1_15 R1_16 P1_17 (va_up (va_up c3 j 1) sb 0) (some x2) (fun x9 e9 => Option.some.inj e9 ▸ hx2)) q3177 q3178 q114 q3179 nd_J10_parentOf rfl (by decide) [0, 1] rfl [ob (xg x) q 14 [.null, va_rf vs, .null, va_rf rt1_18, .int (jI sz), .int (jI mc), .null, .null, .null]] rfl 0 0 ⟨by omega, by omega⟩ [.ref j] rfl (Nat.le_of_ble_eq_true rfl) dJ10_fixAfterDeletion_304 rfl (fun _ _ h => h.elim) (fun v Ws h => ?_)
                    obtain ⟨rfl, rfl⟩ := h
                    show SW x [nd (xg x) Ks ka va L1_15 R1_16 P1_17 (va_up (va_up c3 j 1) sb 0), ob (xg x) q 14 [.null, va_rf vs, .null, va_rf rt1_18, .int (jI sz), .int (jI mc), .null, .null, .null]] _ _ _ _ [va_rf ((some x2).bind P1_17), .ref j]
                    refine SW.cast (st' := [.ref p, .ref j]) ?_ rfl rfl (congrArg (fun o9 => va_rf o9 :: _) hp4)
                    refine sw_callS (n := 310) F (ct_J10_colorOf (g := xg x) (l := xl x) Ks ka va L1_15 R1_16 P1_17 (va_up (va_up c3 j 1) sb 0) (some p) (fun x9 e9 => Option.some.inj e9 ▸ hpK) (by (repeat' first | assumption | exact Or.inl rfl | exact Or.inr rfl | apply clO_b | refine cb_up ?_ ?_ | refine cb_cu ?_ ?_))) q3186 q3187 q114 q3188 nd_J10_colorOf rfl (by decide) [0, 1] rfl [ob (xg x) q 14 [.null, va_rf vs, .null, va_rf rt1_18, .int (jI sz), .int (jI mc), .null, .null, .null]] rfl 0 0 ⟨by omega, by omega⟩ [.ref j] rfl (Nat.le_of_ble_eq_true rfl) dJ10_fixAfterDeletion_307 rfl (fun _ _ h => h.elim) (fun v Ws h => ?_)
                    obtain ⟨rfl, rfl⟩ := h
                    show SW x [nd (xg x) Ks ka va L1_15 R1_16 P1_17 (va_up (va_up c3 j 1) sb 0), ob (xg x) q 14 [.null, va_rf vs, .null, va_rf rt1_18, .int (jI sz), .int (jI mc), .null, .null, .null]] _ _ _ _ [.int (jI (clO (va_up (va_up c3 j 1) sb 0) (some p))), .ref j]
                    refine SW.cast (st' := [.int (jI (c3 p)), .ref j]) ?_ rfl rfl (congrArg (fun o9 => Value.int (jI o9) :: _) (Eq.trans (va_up_ne _ _ hpsb) (va_up_ne _ _ hpj)))
                    have hyb_25 : c3 p = 0 ∨ c3 p = 1 := (show ∀ t, c3 t = 0 ∨ c3 t = 1 by (repeat' first | assumption | exact Or.inl rfl | exact Or.inr rfl | apply clO_b | refine cb_up ?_ ?_ | refine cb_cu ?_ ?_)) _
                    refine sw_callS (n := 313) F (ct_J10_setColor (g := xg x) (l := xl x) Ks ka va L1_15 R1_16 P1_17 (va_up (va_up c3 j 1) sb 0) j (c3 p) hjK hyb_25) q3189 q3190 q114 q3191 nd_J10_setColor rfl (by decide) [0, 1] rfl [ob (xg x) q 14 [.null, va_rf vs, .null, va_rf rt1_18, .int (jI sz), .int (jI mc), .null, .null, .null]] rfl 0 0 ⟨by omega, by omega⟩ [] rfl (Nat.le_of_ble_eq_true rfl) dJ10_fixAfterDeletion_310 rfl (fun _ _ h => h.elim) (fun v Ws h => ?_)
                    obtain ⟨rfl, rfl⟩ := h
                    show SW x [nd (xg x) Ks ka va L1_15 R1_16 P1_17 (va_up (va_up (va_up c3 j 1) sb 0) j (c3 p)), ob (xg x) q 14 [.null, va_rf vs, .null, va_rf rt1_18, .int (jI sz), .int (jI mc), .null, .null, .null]] _ _ _ _ []
                    refine sw_aload_n (n := 314) F 2 (some x2) rfl rfl rfl dJ10_fixAfterDeletion_313 rfl ?_
                    refine sw_callS (n := 317) F (ct_J10_parentOf (g := xg x) (l := xl x) Ks ka va L1_15 R1_16 P1_17 (va_up (va_up (va_up c3 j 1) sb 0) j (c3 p)) (some x2) (fun x9 e9 => Option.some.inj e9 ▸ hx2)) q3177 q3178 q114 q3179 nd_J10_parentOf rfl (by decide) [0, 1] rfl [ob (xg x) q 14 [.null, va_rf vs, .null, va_rf rt1_18, .int (jI sz), .int (jI mc), .null, .null, .null]] rfl 0 0 ⟨by omega, by omega⟩ [] rfl (Nat.le_of_ble_eq_true rfl) dJ10_fixAfterDeletion_314 rfl (fun _ _ h => h.elim) (fun v Ws h => ?_)
                    obtain ⟨rfl, rfl⟩ := h
                    show SW x [nd (xg x) Ks ka va L1_15 R1_16 P1_17 (va_up (va_up (va_up c3 j 1) sb 0) j (c3 p)), ob (xg x) q 14 [.null, va_rf vs, .null, va_rf rt1_18, .int (jI sz), .int (jI mc), .null, .null, .null]] _ _ _ _ [va_rf ((some x2).bind P1_17)]
                    refine SW.cast (st' := [.ref p]) ?_ rfl rfl (congrArg (fun o9 => va_rf o9 :: _) hp4)
                    refine sw_iconst (n := 318) F (1) (by decide) dJ10_fixAfterDeletion_317 rfl ?_
                    refine sw_callS (n := 321) F (ct_J10_setColor (g := xg x) (l := xl x) Ks ka va L1_15 R1_16 P1_17 (va_up (va_up (va_up c3 j 1) sb 0) j (c3 p)) p 1 hpK (by first | omega | assumption)) q3189 q3190 q114 q3191 nd_J10_setColor rfl (by decide) [0, 1] rfl [ob (xg x) q 14 [.null, va_rf vs, .null, va_rf rt1_18, .int (jI sz), .int (jI mc), .null, .null, .null]] rfl 0 0 ⟨by omega, by omega⟩ [] rfl (Nat.le_of_ble_eq_true rfl) dJ10_fixAfterDeletion_318 rfl (fun _ _ h => h.elim) (fun v Ws h => ?_)
                    obtain ⟨rfl, rfl⟩ := h
                    show SW x [nd (xg x) Ks ka va L1_15 R1_16 P1_17 (va_up (va_up (va_up (va_up c3 j 1) sb 0) j (c3 p)) p 1), ob (xg x) q 14 [.null, va_rf vs, .null, va_rf rt1_18, .int (jI sz), .int (jI mc), .null, .null, .null]] _ _ _ _ []
                    refine sw_aload_n (n := 322) F 0 (some j) rfl rfl rfl dJ10_fixAfterDeletion_321 rfl ?_
                    refine sw_callS (n := 325) F (ct_J10_leftOf (g := xg x) (l := xl x) Ks ka va L1_15 R1_16 P1_17 (va_up (va_up (va_up (va_up c3 j 1) sb 0) j (c3 p)) p 1) (some j) (fun x9 e9 => Option.some.inj e9 ▸ hjK)) q3180 q3181 q114 q3182 nd_J10_leftOf rfl (by decide) [0, 1] rfl [ob (xg x) q 14 [.null, va_rf vs, .null, va_rf rt1_18, .int (jI sz), .int (jI mc), .null, .null, .null]] rfl 0 0 ⟨by omega, by omega⟩ [] rfl (Nat.le_of_ble_eq_true rfl) dJ10_fixAfterDeletion_322 rfl (fun _ _ h => h.elim) (fun v Ws h => ?_)
                    obtain ⟨rfl, rfl⟩ := h
                    show SW x [nd (xg x) Ks ka va L1_15 R1_16 P1_17 (va_up (va_up (va_up (va_up c3 j 1) sb 0) j (c3 p)) p 1), ob (xg x) q 14 [.null, va_rf vs, .null, va_rf rt1_18, .int (jI sz), .int (jI mc), .null, .null, .null]] _ _ _ _ [va_rf ((some j).bind L1_15)]
                    refine SW.cast (st' := [va_rf (L1_15 j)]) ?_ rfl rfl rfl
                    refine sw_iconst (n := 326) F (1) (by decide) dJ10_fixAfterDeletion_325 rfl ?_
                    refine sw_callS (n := 329) F (ct_J10_setColor_o (g := xg x) (l := xl x) Ks ka va L1_15 R1_16 P1_17 (va_up (va_up (va_up (va_up c3 j 1) sb 0) j (c3 p)) p 1) (L1_15 j) 1 (fun x9 e9 => (hT1_22.l hjK e9).1) (by first | omega | assumption)) q3189 q3190 q114 q3191 nd_J10_setColor rfl (by decide) [0, 1] rfl [ob (xg x) q 14 [.null, va_rf vs, .null, va_rf rt1_18, .int (jI sz), .int (jI mc), .null, .null, .null]] rfl 0 0 ⟨by omega, by omega⟩ [] rfl (Nat.le_of_ble_eq_true rfl) dJ10_fixAfterDeletion_326 rfl (fun _ _ h => h.elim) (fun v Ws h => ?_)
                    obtain ⟨rfl, rfl⟩ := h
                    show SW x [nd (xg x) Ks ka va L1_15 R1_16 P1_17 (cuO (va_up (va_up (va_up (va_up c3 j 1) sb 0) j (c3 p)) p 1) (L1_15 j) 1), ob (xg x) q 14 [.null, va_rf vs, .null, va_rf rt1_18, .int (jI sz), .int (jI mc), .null, .null, .null]] _ _ _ _ []
                    refine sw_aload_n (n := 330) F 1 (some q) rfl rfl rfl dJ10_fixAfterDeletion_329 rfl ?_
                    refine sw_aload_n (n := 331) F 2 (some x2) rfl rfl rfl dJ10_fixAfterDeletion_330 rfl ?_
                    refine sw_callS (n := 334) F (ct_J10_parentOf (g := xg x) (l := xl x) Ks ka va L1_15 R1_16 P1_17 (cuO (va_up (va_up (va_up (va_up c3 j 1) sb 0) j (c3 p)) p 1) (L1_15 j) 1) (some x2) (fun x9 e9 => Option.some.inj e9 ▸ hx2)) q3177 q3178 q114 q3179 nd_J10_parentOf rfl (by decide) [0, 1] rfl [ob (xg x) q 14 [.null, va_rf vs, .null, va_rf rt1_18, .int (jI sz), .int (jI mc), .null, .null, .null]] rfl 0 0 ⟨by omega, by omega⟩ [.ref q] rfl (Nat.le_of_ble_eq_true rfl) dJ10_fixAfterDeletion_331 rfl (fun _ _ h => h.elim) (fun v Ws h => ?_)
                    obtain ⟨rfl, rfl⟩ := h
                    show SW x [nd (xg x) Ks ka va L1_15 R1_16 P1_17 (cuO (va_up (va_up (va_up (va_up c3 j 1) sb 0) j (c3 p)) p 1) (L1_15 j) 1), ob (xg x) q 14 [.null, va_rf vs, .null, va_rf rt1_18, .int (jI sz), .int (jI mc), .null, .null, .null]] _ _ _ _ [va_rf ((some x2).bind P1_17), .ref q]
                    refine SW.cast (st' := [.ref p, .ref q]) ?_ rfl rfl (congrArg (fun o9 => va_rf o9 :: _) hp4)
                    refine sw_callV (n := 337) F (ct_J10_rotateRight (g := xg x) (l := xl x) Ks ka va L1_15 R1_16 P1_17 (cuO (va_up (va_up (va_up (va_up c3 j 1) sb 0) j (c3 p)) p 1) (L1_15 j) 1) q vs rt1_18 sz mc rk lo1_19 hi1_20 p j hT1_22 hpK hj4) (rcv_ob F 1 rfl rfl) q3196 q3198 qs53 q114 q3199 nd_J10_rotateRight rfl (by decide) [1, 0] rfl [] rfl 0 0 ⟨by omega, by omega⟩ [] rfl (Nat.le_of_ble_eq_true rfl) dJ10_fixAfterDeletion_334 rfl (fun _ _ h => h.elim) (fun v Ws h => ?_)
                    obtain ⟨L1_26, R1_27, P1_28, rt1_29, lo1_30, hi1_31, rfl, hR_32, hT1_33, hlo_34, hhi_35, rfl⟩ := h
                    show SW x [ob (xg x) q 14 [.null, va_rf vs, .null, va_rf rt1_29, .int (jI sz), .int (jI mc), .null, .null, .null], nd (xg x) Ks ka va L1_26 R1_27 P1_28 (cuO (va_up (va_up (va_up (va_up c3 j 1) sb 0) j (c3 p)) p 1) (L1_15 j) 1)] _ _ _ _ []
                    obtain ⟨r0, hr0, hr0K⟩ := hT1_33.rt1 hx2
                    have hs5 : s ∈ Ks → L1_26 s = none ∧ R1_27 s = none := fun h9 => hT1_22.lfR hpK hj4 hR_32 (hs4 h9).1 (hs4 h9).2 (fun e9 => by subst e9; have g1 := hl2 h9; have g2 := hT3.r hpK hl3; have g3 := hT3.l hpK ho3; have g4 := hT3.rng h9; have g5 := hT3.r hsbK hj; omega)
                    refine sw_aload_n (n := 338) F 1 (some q) rfl rfl rfl dJ10_fixAfterDeletion_337 rfl ?_
                    refine sw_get (n := 341) F 0 rfl (k := 3) ⟨(RJ10, TJ10, 9), rfl, by decide, q288, in_J10, Or.inl rfl⟩ rfl dJ10_fixAfterDeletion_338 rfl ?_
                    refine SW.cast (st' := [.ref r0]) ?_ rfl rfl (congrArg (fun o9 => va_rf o9 :: _) hr0)
                    refine sw_astore_n (n := 342) F (some r0) (L2 := [(1, .ref r0), (2, .ref j), (0, .ref q)]) rfl rfl (by decide) rfl dJ10_fixAfterDeletion_341 rfl ?_
                    have hlN : s ∈ Ks → (lo1_30 r0 < rk s ∧ rk s < hi1_31 r0) ∧ L1_26 s = none ∧ R1_27 s = none := fun h9 => ⟨by have g1 := hT1_33.root hr0; have g4 := hT1_33.rng h9; omega, hs5 h9⟩
                    have hwd : wd lo1_30 hi1_31 r0 < wd lo2 hi2 x2 := by have g1 := hT1_33.root hr0; have g2 := hT3.wid hx2 hp3; have g4 := hT3.rng hpK; unfold wd; omega
                    refine sw_goto F (n := 0) dJ10_fixAfterDeletion_342 (by decide) ?_
                    refine sw_loc [2, 0] (L2 := [(0, .ref q), (1, .ref r0)]) rfl ?_
                    exact ih0 r0 L1_26 R1_27 P1_28 (cuO (va_up (va_up (va_up (va_up c3 j 1) sb 0) j (c3 p)) p 1) (L1_15 j) 1) rt1_29 lo1_30 hi1_31 hT1_33 hr0K (by (repeat' first | assumption | exact Or.inl rfl | exact Or.inr rfl | apply clO_b | refine cb_up ?_ ?_ | refine cb_cu ?_ ?_)) (by first | exact hlN | assumption) (by omega)
                ·
                  refine sw_aload_n (n := 242) F 2 (some sb) rfl rfl rfl dJ10_fixAfterDeletion_241 rfl ?_
                  refine sw_callS (n := 245) F (ct_J10_leftOf (g := xg x) (l := xl x) Ks ka va L3 R3 P3 c3 (some sb) (fun x9 e9 => Option.some.inj e9 ▸ hsbK)) q3180 q3181 q114 q3182 nd_J10_leftOf rfl (by decide) [0, 1] rfl [ob (xg x) q 14 [.null, va_rf vs, .null, va_rf rt3, .int (jI sz), .int (jI mc), .null, .null, .null]] rfl 0 0 ⟨by omega, by omega⟩ [] rfl (Nat.le_of_ble_eq_true rfl) dJ10_fixAfterDeletion_242 rfl (fun _ _ h => h.elim) (fun v Ws h => ?_)
                  obtain ⟨rfl, rfl⟩ := h
                  show SW x [nd (xg x) Ks ka va L3 R3 P3 c3, ob (xg x) q 14 [.null, va_rf vs, .null, va_rf rt3, .int (jI sz), .int (jI mc), .null, .null, .null]] _ _ _ _ [va_rf ((some sb).bind L3)]
                  refine SW.cast (st' := [va_rf (L3 sb)]) ?_ rfl rfl rfl
                  refine sw_callS (n := 248) F (ct_J10_colorOf (g := xg x) (l := xl x) Ks ka va L3 R3 P3 c3 (L3 sb) (fun x9 e9 => (hT3.l hsbK e9).1) (by (repeat' first | assumption | exact Or.inl rfl | exact Or.inr rfl | apply clO_b | refine cb_up ?_ ?_ | refine cb_cu ?_ ?_))) q3186 q3187 q114 q3188 nd_J10_colorOf rfl (by decide) [0, 1] rfl [ob (xg x) q 14 [.null, va_rf vs, .null, va_rf rt3, .int (jI sz), .int (jI mc), .null, .null, .null]] rfl 0 0 ⟨by omega, by omega⟩ [] rfl (Nat.le_of_ble_eq_true rfl) dJ10_fixAfterDeletion_245 rfl (fun _ _ h => h.elim) (fun v Ws h => ?_)
                  obtain ⟨rfl, rfl⟩ := h
                  show SW x [nd (xg x) Ks ka va L3 R3 P3 c3, ob (xg x) q 14 [.null, va_rf vs, .null, va_rf rt3, .int (jI sz), .int (jI mc), .null, .null, .null]] _ _ _ _ [.int (jI (clO c3 (L3 sb)))]
                  have hyb_36 : clO c3 (L3 sb) = 0 ∨ clO c3 (L3 sb) = 1 := clO_b (by (repeat' first | assumption | exact Or.inl rfl | exact Or.inr rfl | apply clO_b | refine cb_up ?_ ?_ | refine cb_cu ?_ ?_)) _
                  refine sw_iconst (n := 249) F (1) (by decide) dJ10_fixAfterDeletion_248 rfl ?_
                  refine sw_icmp_ne (n := 252) F (by omega) (by decide) (tgt := 265) dJ10_fixAfterDeletion_249 (by decide) rfl (fun c_249 => ?_) (fun c_249 => ?_)
                  ·
                    refine sw_aload_n (n := 266) F 2 (some sb) rfl rfl rfl dJ10_fixAfterDeletion_265 rfl ?_
                    refine sw_callS (n := 269) F (ct_J10_leftOf (g := xg x) (l := xl x) Ks ka va L3 R3 P3 c3 (some sb) (fun x9 e9 => Option.some.inj e9 ▸ hsbK)) q3180 q3181 q114 q3182 nd_J10_leftOf rfl (by decide) [0, 1] rfl [ob (xg x) q 14 [.null, va_rf vs, .null, va_rf rt3, .int (jI sz), .int (jI mc), .null, .null, .null]] rfl 0 0 ⟨by omega, by omega⟩ [] rfl (Nat.le_of_ble_eq_true rfl) dJ10_fixAfterDeletion_266 rfl (fun _ _ h => h.elim) (fun v Ws h => ?_)
                    obtain ⟨rfl, rfl⟩ := h
                    show SW x [nd (xg x) Ks ka va L3 R3 P3 c3, ob (xg x) q 14 [.null, va_rf vs, .null, va_rf rt3, .int (jI sz), .int (jI mc), .null, .null, .null]] _ _ _ _ [va_rf ((some sb).bind L3)]
                    refine SW.cast (st' := [va_rf (L3 sb)]) ?_ rfl rfl rfl
                    refine sw_callS (n := 272) F (ct_J10_colorOf (g := xg x) (l := xl x) Ks ka va L3 R3 P3 c3 (L3 sb) (fun x9 e9 => (hT3.l hsbK e9).1) (by (repeat' first | assumption | exact Or.inl rfl | exact Or.inr rfl | apply clO_b | refine cb_up ?_ ?_ | refine cb_cu ?_ ?_))) q3186 q3187 q114 q3188 nd_J10_colorOf rfl (by decide) [0, 1] rfl [ob (xg x) q 14 [.null, va_rf vs, .null, va_rf rt3, .int (jI sz), .int (jI mc), .null, .null, .null]] rfl 0 0 ⟨by omega, by omega⟩ [] rfl (Nat.le_of_ble_eq_true rfl) dJ10_fixAfterDeletion_269 rfl (fun _ _ h => h.elim) (fun v Ws h => ?_)
                    obtain ⟨rfl, rfl⟩ := h
                    show SW x [nd (xg x) Ks ka va L3 R3 P3 c3, ob (xg x) q 14 [.null, va_rf vs, .null, va_rf rt3, .int (jI sz), .int (jI mc), .null, .null, .null]] _ _ _ _ [.int (jI (clO c3 (L3 sb)))]
                    have hyb_37 : clO c3 (L3 sb) = 0 ∨ clO c3 (L3 sb) = 1 := clO_b (by (repeat' first | assumption | exact Or.inl rfl | exact Or.inr rfl | apply clO_b | refine cb_up ?_ ?_ | refine cb_cu ?_ ?_)) _
                    refine sw_iconst (n := 273) F (1) (by decide) dJ10_fixAfterDeletion_272 rfl ?_
                    refine sw_icmp_ne (n := 276) F (by omega) (by decide) (tgt := 302) dJ10_fixAfterDeletion_273 (by decide) rfl (fun c_273 => ?_) (fun c_273 => ?_)
                    ·
                      refine sw_aload_n (n := 303) F 2 (some sb) rfl rfl rfl dJ10_fixAfterDeletion_302 rfl ?_
                      refine sw_aload_n (n := 304) F 1 (some x2) rfl rfl rfl dJ10_fixAfterDeletion_303 rfl ?_
                      refine sw_callS (n := 307) F (ct_J10_parentOf (g := xg x) (l := xl x) Ks ka va L3 R3 P3 c3 (some x2) (fun x9 e9 => Option.some.inj e9 ▸ hx2)) q3177 q3178 q114 q3179 nd_J10_parentOf rfl (by decide) [0, 1] rfl [ob (xg x) q 14 [.null, va_rf vs, .null, va_rf rt3, .int (jI sz), .int (jI mc), .null, .null, .null]] rfl 0 0 ⟨by omega, by omega⟩ [.ref sb] rfl (Nat.le_of_ble_eq_true rfl) dJ10_fixAfterDeletion_304 rfl (fun _ _ h => h.elim) (fun v Ws h => ?_)
                      obtain ⟨rfl, rfl⟩ := h
                      show SW x [nd (xg x) Ks ka va L3 R3 P3 c3, ob (xg x) q 14 [.null, va_rf vs, .null, va_rf rt3, .int (jI sz), .int (jI mc), .null, .null, .null]] _ _ _ _ [va_rf ((some x2).bind P3), .ref sb]
                      refine SW.cast (st' := [.ref p, .ref sb]) ?_ rfl rfl (congrArg (fun o9 => va_rf o9 :: _) hp3)
                      refine sw_callS (n := 310) F (ct_J10_colorOf (g := xg x) (l := xl x) Ks ka va L3 R3 P3 c3 (some p) (fun x9 e9 => Option.some.inj e9 ▸ hpK) (by (repeat' first | assumption | exact Or.inl rfl | exact Or.inr rfl | apply clO_b | refine cb_up ?_ ?_ | refine cb_cu ?_ ?_))) q3186 q3187 q114 q3188 nd_J10_colorOf rfl (by decide) [0, 1] rfl [ob (xg x) q 14 [.null, va_rf vs, .null, va_rf rt3, .int (jI sz), .int (jI mc), .null, .null, .null]] rfl 0 0 ⟨by omega, by omega⟩ [.ref sb] rfl (Nat.le_of_ble_eq_true rfl) dJ10_fixAfterDeletion_307 rfl (fun _ _ h => h.elim) (fun v Ws h => ?_)
                      obtain ⟨rfl, rfl⟩ := h
                      show SW x [nd (xg x) Ks ka va L3 R3 P3 c3, ob (xg x) q 14 [.null, va_rf vs, .null, va_rf rt3, .int (jI sz), .int (jI mc), .null, .null, .null]] _ _ _ _ [.int (jI (clO c3 (some p))), .ref sb]
                      refine SW.cast (st' := [.int (jI (c3 p)), .ref sb]) ?_ rfl rfl rfl
                      have hyb_38 : c3 p = 0 ∨ c3 p = 1 := (show ∀ t, c3 t = 0 ∨ c3 t = 1 by (repeat' first | assumption | exact Or.inl rfl | exact Or.inr rfl | apply clO_b | refine cb_up ?_ ?_ | refine cb_cu ?_ ?_)) _
                      refine sw_callS (n := 313) F (ct_J10_setColor (g := xg x) (l := xl x) Ks ka va L3 R3 P3 c3 sb (c3 p) hsbK hyb_38) q3189 q3190 q114 q3191 nd_J10_setColor rfl (by decide) [0, 1] rfl [ob (xg x) q 14 [.null, va_rf vs, .null, va_rf rt3, .int (jI sz), .int (jI mc), .null, .null, .null]] rfl 0 0 ⟨by omega, by omega⟩ [] rfl (Nat.le_of_ble_eq_true rfl) dJ10_fixAfterDeletion_310 rfl (fun _ _ h => h.elim) (fun v Ws h => ?_)
                      obtain ⟨rfl, rfl⟩ := h
                      show SW x [nd (xg x) Ks ka va L3 R3 P3 (va_up c3 sb (c3 p)), ob (xg x) q 14 [.null, va_rf vs, .null, va_rf rt3, .int (jI sz), .int (jI mc), .null, .null, .null]] _ _ _ _ []
                      refine sw_aload_n (n := 314) F 1 (some x2) rfl rfl rfl dJ10_fixAfterDeletion_313 rfl ?_
                      refine sw_callS (n := 317) F (ct_J10_parentOf (g := xg x) (l := xl x) Ks ka va L3 R3 P3 (va_up c3 sb (c3 p)) (some x2) (fun x9 e9 => Option.some.inj e9 ▸ hx2)) q3177 q3178 q114 q3179 nd_J10_parentOf rfl (by decide) [0, 1] rfl [ob (xg x) q 14 [.null, va_rf vs, .null, va_rf rt3, .int (jI sz), .int (jI mc), .null, .null, .null]] rfl 0 0 ⟨by omega, by omega⟩ [] rfl (Nat.le_of_ble_eq_true rfl) dJ10_fixAfterDeletion_314 rfl (fun _ _ h => h.elim) (fun v Ws h => ?_)
                      obtain ⟨rfl, rfl⟩ := h
                      show SW x [nd (xg x) Ks ka va L3 R3 P3 (va_up c3 sb (c3 p)), ob (xg x) q 14 [.null, va_rf vs, .null, va_rf rt3, .int (jI sz), .int (jI mc), .null, .null, .null]] _ _ _ _ [va_rf ((some x2).bind P3)]
                      refine SW.cast (st' := [.ref p]) ?_ rfl rfl (congrArg (fun o9 => va_rf o9 :: _) hp3)
                      refine sw_iconst (n := 318) F (1) (by decide) dJ10_fixAfterDeletion_317 rfl ?_
                      refine sw_callS (n := 321) F (ct_J10_setColor (g := xg x) (l := xl x) Ks ka va L3 R3 P3 (va_up c3 sb (c3 p)) p 1 hpK (by first | omega | assumption)) q3189 q3190 q114 q3191 nd_J10_setColor rfl (by decide) [0, 1] rfl [ob (xg x) q 14 [.null, va_rf vs, .null, va_rf rt3, .int (jI sz), .int (jI mc), .null, .null, .null]] rfl 0 0 ⟨by omega, by omega⟩ [] rfl (Nat.le_of_ble_eq_true rfl) dJ10_fixAfterDeletion_318 rfl (fun _ _ h => h.elim) (fun v Ws h => ?_)
                      obtain ⟨rfl, rfl⟩ := h
                      show SW x [nd (xg x) Ks ka va L3 R3 P3 (va_up (va_up c3 sb (c3 p)) p 1), ob (xg x) q 14 [.null, va_rf vs, .null, va_rf rt3, .int (jI sz), .int (jI mc), .null, .null, .null]] _ _ _ _ []
                      refine sw_aload_n (n := 322) F 2 (some sb) rfl rfl rfl dJ10_fixAfterDeletion_321 rfl ?_
                      refine sw_callS (n := 325) F (ct_J10_leftOf (g := xg x) (l := xl x) Ks ka va L3 R3 P3 (va_up (va_up c3 sb (c3 p)) p 1) (some sb) (fun x9 e9 => Option.some.inj e9 ▸ hsbK)) q3180 q3181 q114 q3182 nd_J10_leftOf rfl (by decide) [0, 1] rfl [ob (xg x) q 14 [.null, va_rf vs, .null, va_rf rt3, .int (jI sz), .int (jI mc), .null, .null, .null]] rfl 0 0 ⟨by omega, by omega⟩ [] rfl (Nat.le_of_ble_eq_true rfl) dJ10_fixAfterDeletion_322 rfl (fun _ _ h => h.elim) (fun v Ws h => ?_)
                      obtain ⟨rfl, rfl⟩ := h
                      show SW x [nd (xg x) Ks ka va L3 R3 P3 (va_up (va_up c3 sb (c3 p)) p 1), ob (xg x) q 14 [.null, va_rf vs, .null, va_rf rt3, .int (jI sz), .int (jI mc), .null, .null, .null]] _ _ _ _ [va_rf ((some sb).bind L3)]
                      refine SW.cast (st' := [va_rf (L3 sb)]) ?_ rfl rfl rfl
                      refine sw_iconst (n := 326) F (1) (by decide) dJ10_fixAfterDeletion_325 rfl ?_
                      refine sw_callS (n := 329) F (ct_J10_setColor_o (g := xg x) (l := xl x) Ks ka va L3 R3 P3 (va_up (va_up c3 sb (c3 p)) p 1) (L3 sb) 1 (fun x9 e9 => (hT3.l hsbK e9).1) (by first | omega | assumption)) q3189 q3190 q114 q3191 nd_J10_setColor rfl (by decide) [0, 1] rfl [ob (xg x) q 14 [.null, va_rf vs, .null, va_rf rt3, .int (jI sz), .int (jI mc), .null, .null, .null]] rfl 0 0 ⟨by omega, by omega⟩ [] rfl (Nat.le_of_ble_eq_true rfl) dJ10_fixAfterDeletion_326 rfl (fun _ _ h => h.elim) (fun v Ws h => ?_)
                      obtain ⟨rfl, rfl⟩ := h
                      show SW x [nd (xg x) Ks ka va L3 R3 P3 (cuO (va_up (va_up c3 sb (c3 p)) p 1) (L3 sb) 1), ob (xg x) q 14 [.null, va_rf vs, .null, va_rf rt3, .int (jI sz), .int (jI mc), .null, .null, .null]] _ _ _ _ []
                      refine sw_aload_n (n := 330) F 0 (some q) rfl rfl rfl dJ10_fixAfterDeletion_329 rfl ?_
                      refine sw_aload_n (n := 331) F 1 (some x2) rfl rfl rfl dJ10_fixAfterDeletion_330 rfl ?_
                      refine sw_callS (n := 334) F (ct_J10_parentOf (g := xg x) (l := xl x) Ks ka va L3 R3 P3 (cuO (va_up (va_up c3 sb (c3 p)) p 1) (L3 sb) 1) (some x2) (fun x9 e9 => Option.some.inj e9 ▸ hx2)) q3177 q3178 q114 q3179 nd_J10_parentOf rfl (by decide) [0, 1] rfl [ob (xg x) q 14 [.null, va_rf vs, .null, va_rf rt3, .int (jI sz), .int (jI mc), .null, .null, .null]] rfl 0 0 ⟨by omega, by omega⟩ [.ref q] rfl (Nat.le_of_ble_eq_true rfl) dJ10_fixAfterDeletion_331 rfl (fun _ _ h => h.elim) (fun v Ws h => ?_)
                      obtain ⟨rfl, rfl⟩ := h
                      show SW x [nd (xg x) Ks ka va L3 R3 P3 (cuO (va_up (va_up c3 sb (c3 p)) p 1) (L3 sb) 1), ob (xg x) q 14 [.null, va_rf vs, .null, va_rf rt3, .int (jI sz), .int (jI mc), .null, .null, .null]] _ _ _ _ [va_rf ((some x2).bind P3), .ref q]
                      refine SW.cast (st' := [.ref p, .ref q]) ?_ rfl rfl (congrArg (fun o9 => va_rf o9 :: _) hp3)
                      refine sw_callV (n := 337) F (ct_J10_rotateRight (g := xg x) (l := xl x) Ks ka va L3 R3 P3 (cuO (va_up (va_up c3 sb (c3 p)) p 1) (L3 sb) 1) q vs rt3 sz mc rk lo3 hi3 p sb hT3 hpK ho3) (rcv_ob F 1 rfl rfl) q3196 q3198 qs53 q114 q3199 nd_J10_rotateRight rfl (by decide) [1, 0] rfl [] rfl 0 0 ⟨by omega, by omega⟩ [] rfl (Nat.le_of_ble_eq_true rfl) dJ10_fixAfterDeletion_334 rfl (fun _ _ h => h.elim) (fun v Ws h => ?_)
                      obtain ⟨L1_39, R1_40, P1_41, rt1_42, lo1_43, hi1_44, rfl, hR_45, hT1_46, hlo_47, hhi_48, rfl⟩ := h
                      show SW x [ob (xg x) q 14 [.null, va_rf vs, .null, va_rf rt1_42, .int (jI sz), .int (jI mc), .null, .null, .null], nd (xg x) Ks ka va L1_39 R1_40 P1_41 (cuO (va_up (va_up c3 sb (c3 p)) p 1) (L3 sb) 1)] _ _ _ _ []
                      obtain ⟨r0, hr0, hr0K⟩ := hT1_46.rt1 hx2
                      have hs5 : s ∈ Ks → L1_39 s = none ∧ R1_40 s = none := fun h9 => hT3.lfR hpK ho3 hR_45 (hs3 h9).1 (hs3 h9).2 (fun e9 => by subst e9; have g1 := hl2 h9; have g2 := hT3.r hpK hl3; have g3 := hT3.l hpK ho3; have g4 := hT3.rng h9; omega)
                      refine sw_aload_n (n := 338) F 0 (some q) rfl rfl rfl dJ10_fixAfterDeletion_337 rfl ?_
                      refine sw_get (n := 341) F 0 rfl (k := 3) ⟨(RJ10, TJ10, 9), rfl, by decide, q288, in_J10, Or.inl rfl⟩ rfl dJ10_fixAfterDeletion_338 rfl ?_
                      refine SW.cast (st' := [.ref r0]) ?_ rfl rfl (congrArg (fun o9 => va_rf o9 :: _) hr0)
                      refine sw_astore_n (n := 342) F (some r0) (L2 := [(1, .ref r0), (0, .ref q), (2, .ref sb)]) rfl rfl (by decide) rfl dJ10_fixAfterDeletion_341 rfl ?_
                      have hlN : s ∈ Ks → (lo1_43 r0 < rk s ∧ rk s < hi1_44 r0) ∧ L1_39 s = none ∧ R1_40 s = none := fun h9 => ⟨by have g1 := hT1_46.root hr0; have g4 := hT1_46.rng h9; omega, hs5 h9⟩
                      have hwd : wd lo1_43 hi1_44 r0 < wd lo2 hi2 x2 := by have g1 := hT1_46.root hr0; have g2 := hT3.wid hx2 hp3; have g4 := hT3.rng hpK; unfold wd; omega
                      refine sw_goto F (n := 0) dJ10_fixAfterDeletion_342 (by decide) ?_
                      refine sw_loc [1, 0] (L2 := [(0, .ref q), (1, .ref r0)]) rfl ?_
                      exact ih0 r0 L1_39 R1_40 P1_41 (cuO (va_up (va_up c3 sb (c3 p)) p 1) (L3 sb) 1) rt1_42 lo1_43 hi1_44 hT1_46 hr0K (by (repeat' first | assumption | exact Or.inl rfl | exact Or.inr rfl | apply clO_b | refine cb_up ?_ ?_ | refine cb_cu ?_ ?_)) (by first | exact hlN | assumption) (by omega)
                    ·
                      exact absurd c_273 c_249
                  ·
                    refine sw_aload_n (n := 253) F 2 (some sb) rfl rfl rfl dJ10_fixAfterDeletion_252 rfl ?_
                    refine sw_iconst (n := 254) F (0) (by decide) dJ10_fixAfterDeletion_253 rfl ?_
                    refine sw_callS (n := 257) F (ct_J10_setColor (g := xg x) (l := xl x) Ks ka va L3 R3 P3 c3 sb 0 hsbK (by first | omega | assumption)) q3189 q3190 q114 q3191 nd_J10_setColor rfl (by decide) [0, 1] rfl [ob (xg x) q 14 [.null, va_rf vs, .null, va_rf rt3, .int (jI sz), .int (jI mc), .null, .null, .null]] rfl 0 0 ⟨by omega, by omega⟩ [] rfl (Nat.le_of_ble_eq_true rfl) dJ10_fixAfterDeletion_254 rfl (fun _ _ h => h.elim) (fun v Ws h => ?_)
                    obtain ⟨rfl, rfl⟩ := h
                    show SW x [nd (xg x) Ks ka va L3 R3 P3 (va_up c3 sb 0), ob (xg x) q 14 [.null, va_rf vs, .null, va_rf rt3, .int (jI sz), .int (jI mc), .null, .null, .null]] _ _ _ _ []
                    refine sw_aload_n (n := 258) F 1 (some x2) rfl rfl rfl dJ10_fixAfterDeletion_257 rfl ?_
                    refine sw_callS (n := 261) F (ct_J10_parentOf (g := xg x) (l := xl x) Ks ka va L3 R3 P3 (va_up c3 sb 0) (some x2) (fun x9 e9 => Option.some.inj e9 ▸ hx2)) q3177 q3178 q114 q3179 nd_J10_parentOf rfl (by decide) [0, 1] rfl [ob (xg x) q 14 [.null, va_rf vs, .null, va_rf rt3, .int (jI sz), .int (jI mc), .null, .null, .null]] rfl 0 0 ⟨by omega, by omega⟩ [] rfl (Nat.le_of_ble_eq_true rfl) dJ10_fixAfterDeletion_258 rfl (fun _ _ h => h.elim) (fun v Ws h => ?_)
                    obtain ⟨rfl, rfl⟩ := h
                    show SW x [nd (xg x) Ks ka va L3 R3 P3 (va_up c3 sb 0), ob (xg x) q 14 [.null, va_rf vs, .null, va_rf rt3, .int (jI sz), .int (jI mc), .null, .null, .null]] _ _ _ _ [va_rf ((some x2).bind P3)]
                    refine SW.cast (st' := [.ref p]) ?_ rfl rfl (congrArg (fun o9 => va_rf o9 :: _) hp3)
                    refine sw_astore_n (n := 262) F (some p) (L2 := [(1, .ref p), (0, .ref q), (2, .ref sb)]) rfl rfl (by decide) rfl dJ10_fixAfterDeletion_261 rfl ?_
                    refine sw_goto F (n := 342) dJ10_fixAfterDeletion_262 (by decide) ?_
                    have hlN : s ∈ Ks → (lo3 p < rk s ∧ rk s < hi3 p) ∧ L3 s = none ∧ R3 s = none := fun h9 => ⟨by have g1 := hl2 h9; have g2 := hT3.r hpK hl3; have g4 := hT3.rng hpK; omega, hs3 h9⟩
                    have hwd := hT3.wdl hx2 hp3
                    have hwe : wd lo3 hi3 x2 = wd lo2 hi2 x2 := by unfold wd; rw [hlo3, hhi3]
                    refine sw_goto F (n := 0) dJ10_fixAfterDeletion_342 (by decide) ?_
                    refine sw_perm [1, 0] rfl [ob (xg x) q 14 [.null, va_rf vs, .null, va_rf rt3, .int (jI sz), .int (jI mc), .null, .null, .null], nd (xg x) Ks ka va L3 R3 P3 (va_up c3 sb 0)] rfl ?_
                    refine sw_loc [1, 0] (L2 := [(0, .ref q), (1, .ref p)]) rfl ?_
                    exact ih0 p L3 R3 P3 (va_up c3 sb 0) rt3 lo3 hi3 hT3 hpK (by (repeat' first | assumption | exact Or.inl rfl | exact Or.inr rfl | apply clO_b | refine cb_up ?_ ?_ | refine cb_cu ?_ ?_)) (by first | exact hlN | assumption) (by omega)
            refine sw_aload_n (n := 195) F 0 (L2 p) rfl rfl rfl dJ10_fixAfterDeletion_194 rfl ?_
            refine sw_callS (n := 198) F (ct_J10_colorOf (g := xg x) (l := xl x) Ks ka va L2 R2 P2 c2 (L2 p) (fun x9 e9 => (hT2.l hpK e9).1) (by (repeat' first | assumption | exact Or.inl rfl | exact Or.inr rfl | apply clO_b | refine cb_up ?_ ?_ | refine cb_cu ?_ ?_))) q3186 q3187 q114 q3188 nd_J10_colorOf rfl (by decide) [0, 1] rfl [ob (xg x) q 14 [.null, va_rf vs, .null, va_rf rt2, .int (jI sz), .int (jI mc), .null, .null, .null]] rfl 0 0 ⟨by omega, by omega⟩ [] rfl (Nat.le_of_ble_eq_true rfl) dJ10_fixAfterDeletion_195 rfl (fun _ _ h => h.elim) (fun v Ws h => ?_)
            obtain ⟨rfl, rfl⟩ := h
            show SW x [nd (xg x) Ks ka va L2 R2 P2 c2, ob (xg x) q 14 [.null, va_rf vs, .null, va_rf rt2, .int (jI sz), .int (jI mc), .null, .null, .null]] _ _ _ _ [.int (jI (clO c2 (L2 p)))]
            have hyb_49 : clO c2 (L2 p) = 0 ∨ clO c2 (L2 p) = 1 := clO_b (by (repeat' first | assumption | exact Or.inl rfl | exact Or.inr rfl | apply clO_b | refine cb_up ?_ ?_ | refine cb_cu ?_ ?_)) _
            refine sw_if_ne (n := 201) F (by omega) (tgt := 230) dJ10_fixAfterDeletion_198 (by decide) rfl (fun c_198 => ?_) (fun c_198 => ?_)
            ·
              refine sw_loc [1, 2, 0] (L2 := [(0, .ref q), (1, .ref x2), (2, va_rf (L2 p))]) rfl ?_
              exact K230 L2 R2 P2 c2 rt2 lo2 hi2 (L2 p) hT2 (by (repeat' first | assumption | exact Or.inl rfl | exact Or.inr rfl | apply clO_b | refine cb_up ?_ ?_ | refine cb_cu ?_ ?_)) (by first | exact hp3 | exact hp) (by first | exact hl3 | exact hl) (by first | rfl | assumption) (by first | exact hlo3 | rfl) (by first | exact hhi3 | rfl) (by first | exact hs3 | exact fun h9 => (hl2 h9).2)
            ·
              obtain ⟨sb, hsb⟩ := clO_s (cl := c2) (o := L2 p) (by omega)
              have hsbK : sb ∈ Ks := (hT2.l hpK hsb).1
              refine SW.cast (L' := [(2, .ref sb), (0, .ref q), (1, .ref x2)]) (st' := []) ?_ rfl (by simp only [hsb]; rfl) (by first | rfl | (simp only [hsb]; rfl))
              refine sw_aload_n (n := 202) F 0 (some sb) rfl rfl rfl dJ10_fixAfterDeletion_201 rfl ?_
              refine sw_iconst (n := 203) F (1) (by decide) dJ10_fixAfterDeletion_202 rfl ?_
              refine sw_callS (n := 206) F (ct_J10_setColor (g := xg x) (l := xl x) Ks ka va L2 R2 P2 c2 sb 1 hsbK (by first | omega | assumption)) q3189 q3190 q114 q3191 nd_J10_setColor rfl (by decide) [0, 1] rfl [ob (xg x) q 14 [.null, va_rf vs, .null, va_rf rt2, .int (jI sz), .int (jI mc), .null, .null, .null]] rfl 0 0 ⟨by omega, by omega⟩ [] rfl (Nat.le_of_ble_eq_true rfl) dJ10_fixAfterDeletion_203 rfl (fun _ _ h => h.elim) (fun v Ws h => ?_)
              obtain ⟨rfl, rfl⟩ := h
              show SW x [nd (xg x) Ks ka va L2 R2 P2 (va_up c2 sb 1), ob (xg x) q 14 [.null, va_rf vs, .null, va_rf rt2, .int (jI sz), .int (jI mc), .null, .null, .null]] _ _ _ _ []
              refine sw_aload_n (n := 207) F 2 (some x2) rfl rfl rfl dJ10_fixAfterDeletion_206 rfl ?_
              refine sw_callS (n := 210) F (ct_J10_parentOf (g := xg x) (l := xl x) Ks ka va L2 R2 P2 (va_up c2 sb 1) (some x2) (fun x9 e9 => Option.some.inj e9 ▸ hx2)) q3177 q3178 q114 q3179 nd_J10_parentOf rfl (by decide) [0, 1] rfl [ob (xg x) q 14 [.null, va_rf vs, .null, va_rf rt2, .int (jI sz), .int (jI mc), .null, .null, .null]] rfl 0 0 ⟨by omega, by omega⟩ [] rfl (Nat.le_of_ble_eq_true rfl) dJ10_fixAfterDeletion_207 rfl (fun _ _ h => h.elim) (fun v Ws h => ?_)
              obtain ⟨rfl, rfl⟩ := h
              show SW x [nd (xg x) Ks ka va L2 R2 P2 (va_up c2 sb 1), ob (xg x) q 14 [.null, va_rf vs, .null, va_rf rt2, .int (jI sz), .int (jI mc), .null, .null, .null]] _ _ _ _ [va_rf ((some x2).bind P2)]
              refine SW.cast (st' := [.ref p]) ?_ rfl rfl (congrArg (fun o9 => va_rf o9 :: _) hp)
              refine sw_iconst (n := 211) F (0) (by decide) dJ10_fixAfterDeletion_210 rfl ?_
              refine sw_callS (n := 214) F (ct_J10_setColor (g := xg x) (l := xl x) Ks ka va L2 R2 P2 (va_up c2 sb 1) p 0 hpK (by first | omega | assumption)) q3189 q3190 q114 q3191 nd_J10_setColor rfl (by decide) [0, 1] rfl [ob (xg x) q 14 [.null, va_rf vs, .null, va_rf rt2, .int (jI sz), .int (jI mc), .null, .null, .null]] rfl 0 0 ⟨by omega, by omega⟩ [] rfl (Nat.le_of_ble_eq_true rfl) dJ10_fixAfterDeletion_211 rfl (fun _ _ h => h.elim) (fun v Ws h => ?_)
              obtain ⟨rfl, rfl⟩ := h
              show SW x [nd (xg x) Ks ka va L2 R2 P2 (va_up (va_up c2 sb 1) p 0), ob (xg x) q 14 [.null, va_rf vs, .null, va_rf rt2, .int (jI sz), .int (jI mc), .null, .null, .null]] _ _ _ _ []
              refine sw_aload_n (n := 215) F 1 (some q) rfl rfl rfl dJ10_fixAfterDeletion_214 rfl ?_
              refine sw_aload_n (n := 216) F 2 (some x2) rfl rfl rfl dJ10_fixAfterDeletion_215 rfl ?_
              refine sw_callS (n := 219) F (ct_J10_parentOf (g := xg x) (l := xl x) Ks ka va L2 R2 P2 (va_up (va_up c2 sb 1) p 0) (some x2) (fun x9 e9 => Option.some.inj e9 ▸ hx2)) q3177 q3178 q114 q3179 nd_J10_parentOf rfl (by decide) [0, 1] rfl [ob (xg x) q 14 [.null, va_rf vs, .null, va_rf rt2, .int (jI sz), .int (jI mc), .null, .null, .null]] rfl 0 0 ⟨by omega, by omega⟩ [.ref q] rfl (Nat.le_of_ble_eq_true rfl) dJ10_fixAfterDeletion_216 rfl (fun _ _ h => h.elim) (fun v Ws h => ?_)
              obtain ⟨rfl, rfl⟩ := h
              show SW x [nd (xg x) Ks ka va L2 R2 P2 (va_up (va_up c2 sb 1) p 0), ob (xg x) q 14 [.null, va_rf vs, .null, va_rf rt2, .int (jI sz), .int (jI mc), .null, .null, .null]] _ _ _ _ [va_rf ((some x2).bind P2), .ref q]
              refine SW.cast (st' := [.ref p, .ref q]) ?_ rfl rfl (congrArg (fun o9 => va_rf o9 :: _) hp)
              refine sw_callV (n := 222) F (ct_J10_rotateRight (g := xg x) (l := xl x) Ks ka va L2 R2 P2 (va_up (va_up c2 sb 1) p 0) q vs rt2 sz mc rk lo2 hi2 p sb hT2 hpK hsb) (rcv_ob F 1 rfl rfl) q3196 q3198 qs53 q114 q3199 nd_J10_rotateRight rfl (by decide) [1, 0] rfl [] rfl 0 0 ⟨by omega, by omega⟩ [] rfl (Nat.le_of_ble_eq_true rfl) dJ10_fixAfterDeletion_219 rfl (fun _ _ h => h.elim) (fun v Ws h => ?_)
              obtain ⟨L1_50, R1_51, P1_52, rt1_53, lo1_54, hi1_55, rfl, hR_56, hT1_57, hlo_58, hhi_59, rfl⟩ := h
              show SW x [ob (xg x) q 14 [.null, va_rf vs, .null, va_rf rt1_53, .int (jI sz), .int (jI mc), .null, .null, .null], nd (xg x) Ks ka va L1_50 R1_51 P1_52 (va_up (va_up c2 sb 1) p 0)] _ _ _ _ []
              obtain ⟨hp3, hl3, e3, e4⟩ := hT2.fdR hx2 hp hl hsb hR_56
              have hlo3 : lo1_54 x2 = lo2 x2 := (hlo_58 x2).trans (if_neg e3)
              have hhi3 : hi1_55 x2 = hi2 x2 := (hhi_59 x2).trans (if_neg e4)
              have hs3 : s ∈ Ks → L1_50 s = none ∧ R1_51 s = none := fun h9 => hT2.lfR hpK hsb hR_56 (hl2 h9).2.1 (hl2 h9).2.2 (fun e9 => by subst e9; have g1 := hl2 h9; have g2 := hT2.r hpK hl; have g3 := hT2.l hpK hsb; have g4 := hT2.rng h9; omega)
              refine sw_aload_n (n := 223) F 2 (some x2) rfl rfl rfl dJ10_fixAfterDeletion_222 rfl ?_
              refine sw_callS (n := 226) F (ct_J10_parentOf (g := xg x) (l := xl x) Ks ka va L1_50 R1_51 P1_52 (va_up (va_up c2 sb 1) p 0) (some x2) (fun x9 e9 => Option.some.inj e9 ▸ hx2)) q3177 q3178 q114 q3179 nd_J10_parentOf rfl (by decide) [1, 0] rfl [ob (xg x) q 14 [.null, va_rf vs, .null, va_rf rt1_53, .int (jI sz), .int (jI mc), .null, .null, .null]] rfl 0 0 ⟨by omega, by omega⟩ [] rfl (Nat.le_of_ble_eq_true rfl) dJ10_fixAfterDeletion_223 rfl (fun _ _ h => h.elim) (fun v Ws h => ?_)
              obtain ⟨rfl, rfl⟩ := h
              show SW x [nd (xg x) Ks ka va L1_50 R1_51 P1_52 (va_up (va_up c2 sb 1) p 0), ob (xg x) q 14 [.null, va_rf vs, .null, va_rf rt1_53, .int (jI sz), .int (jI mc), .null, .null, .null]] _ _ _ _ [va_rf ((some x2).bind P1_52)]
              refine SW.cast (st' := [.ref p]) ?_ rfl rfl (congrArg (fun o9 => va_rf o9 :: _) hp3)
              refine sw_callS (n := 229) F (ct_J10_leftOf (g := xg x) (l := xl x) Ks ka va L1_50 R1_51 P1_52 (va_up (va_up c2 sb 1) p 0) (some p) (fun x9 e9 => Option.some.inj e9 ▸ hpK)) q3180 q3181 q114 q3182 nd_J10_leftOf rfl (by decide) [0, 1] rfl [ob (xg x) q 14 [.null, va_rf vs, .null, va_rf rt1_53, .int (jI sz), .int (jI mc), .null, .null, .null]] rfl 0 0 ⟨by omega, by omega⟩ [] rfl (Nat.le_of_ble_eq_true rfl) dJ10_fixAfterDeletion_226 rfl (fun _ _ h => h.elim) (fun v Ws h => ?_)
              obtain ⟨rfl, rfl⟩ := h
              show SW x [nd (xg x) Ks ka va L1_50 R1_51 P1_52 (va_up (va_up c2 sb 1) p 0), ob (xg x) q 14 [.null, va_rf vs, .null, va_rf rt1_53, .int (jI sz), .int (jI mc), .null, .null, .null]] _ _ _ _ [va_rf ((some p).bind L1_50)]
              refine SW.cast (st' := [va_rf (L1_50 p)]) ?_ rfl rfl rfl
              refine sw_astore_n (n := 230) F (L1_50 p) (L2 := [(2, va_rf (L1_50 p)), (0, .ref q), (1, .ref x2)]) (by first | rfl | simp [va_rf_cat]) rfl (by decide) rfl dJ10_fixAfterDeletion_229 rfl ?_
              refine sw_loc [1, 2, 0] (L2 := [(0, .ref q), (1, .ref x2), (2, va_rf (L1_50 p))]) rfl ?_
              exact K230 L1_50 R1_51 P1_52 (va_up (va_up c2 sb 1) p 0) rt1_53 lo1_54 hi1_55 (L1_50 p) hT1_57 (by (repeat' first | assumption | exact Or.inl rfl | exact Or.inr rfl | apply clO_b | refine cb_up ?_ ?_ | refine cb_cu ?_ ?_)) (by first | exact hp3 | exact hp) (by first | exact hl3 | exact hl) (by first | rfl | assumption) (by first | exact hlo3 | rfl) (by first | exact hhi3 | rfl) (by first | exact hs3 | exact fun h9 => (hl2 h9).2)
          ·
            have hl : L2 p = some x2 := c_24.symm
            refine sw_aload_n (n := 28) F 1 (some x2) rfl rfl rfl dJ10_fixAfterDeletion_27 rfl ?_
            refine sw_callS (n := 31) F (ct_J10_parentOf (g := xg x) (l := xl x) Ks ka va L2 R2 P2 c2 (some x2) (fun x9 e9 => Option.some.inj e9 ▸ hx2)) q3177 q3178 q114 q3179 nd_J10_parentOf rfl (by decide) [0, 1] rfl [ob (xg x) q 14 [.null, va_rf vs, .null, va_rf rt2, .int (jI sz), .int (jI mc), .null, .null, .null]] rfl 0 0 ⟨by omega, by omega⟩ [] rfl (Nat.le_of_ble_eq_true rfl) dJ10_fixAfterDeletion_28 rfl (fun _ _ h => h.elim) (fun v Ws h => ?_)
            obtain ⟨rfl, rfl⟩ := h
            show SW x [nd (xg x) Ks ka va L2 R2 P2 c2, ob (xg x) q 14 [.null, va_rf vs, .null, va_rf rt2, .int (jI sz), .int (jI mc), .null, .null, .null]] _ _ _ _ [va_rf ((some x2).bind P2)]
            refine SW.cast (st' := [.ref p]) ?_ rfl rfl (congrArg (fun o9 => va_rf o9 :: _) hp)
            refine sw_callS (n := 34) F (ct_J10_rightOf (g := xg x) (l := xl x) Ks ka va L2 R2 P2 c2 (some p) (fun x9 e9 => Option.some.inj e9 ▸ hpK)) q3183 q3184 q114 q3185 nd_J10_rightOf rfl (by decide) [0, 1] rfl [ob (xg x) q 14 [.null, va_rf vs, .null, va_rf rt2, .int (jI sz), .int (jI mc), .null, .null, .null]] rfl 0 0 ⟨by omega, by omega⟩ [] rfl (Nat.le_of_ble_eq_true rfl) dJ10_fixAfterDeletion_31 rfl (fun _ _ h => h.elim) (fun v Ws h => ?_)
            obtain ⟨rfl, rfl⟩ := h
            show SW x [nd (xg x) Ks ka va L2 R2 P2 c2, ob (xg x) q 14 [.null, va_rf vs, .null, va_rf rt2, .int (jI sz), .int (jI mc), .null, .null, .null]] _ _ _ _ [va_rf ((some p).bind R2)]
            refine SW.cast (st' := [va_rf (R2 p)]) ?_ rfl rfl rfl
            refine sw_astore_n (n := 35) F (R2 p) (L2 := [(2, va_rf (R2 p)), (0, .ref q), (1, .ref x2)]) (by first | rfl | simp [va_rf_cat]) rfl (by decide) rfl dJ10_fixAfterDeletion_34 rfl ?_
            have K71 : ∀ (L3 : OP) (R3 : OP) (P3 : OP) (c3 : Nat → Int) (rt3 : Option Nat) (lo3 : Nat → Int) (hi3 : Nat → Int) (o3 : Option Nat), (TrI Ks L3 R3 P3 rk lo3 hi3 rt3) → (∀ t, c3 t = 0 ∨ c3 t = 1) → (P3 x2 = some p) → (L3 p = some x2) → (R3 p = o3) → (lo3 x2 = lo2 x2) → (hi3 x2 = hi2 x2) → (s ∈ Ks → L3 s = none ∧ R3 s = none) → SW x [nd (xg x) Ks ka va L3 R3 P3 c3, ob (xg x) q 14 [.null, va_rf vs, .null, va_rf rt3, .int (jI sz), .int (jI mc), .null, .null, .null]] 0 0 71 [(0, .ref q), (1, .ref x2), (2, va_rf o3)] [] := by
              intro L3 R3 P3 c3 rt3 lo3 hi3 o3 hT3 hc3 hp3 hl3 ho3 hlo3 hhi3 hs3
              rcases o3 with _ | sb
              ·
                refine sw_aload_n (n := 72) F 2 none rfl rfl rfl dJ10_fixAfterDeletion_71 rfl ?_
                refine sw_callS (n := 75) F (ct_J10_leftOf (g := xg x) (l := xl x) Ks ka va L3 R3 P3 c3 none (fun x9 e9 => by cases e9)) q3180 q3181 q114 q3182 nd_J10_leftOf rfl (by decide) [0, 1] rfl [ob (xg x) q 14 [.null, va_rf vs, .null, va_rf rt3, .int (jI sz), .int (jI mc), .null, .null, .null]] rfl 0 0 ⟨by omega, by omega⟩ [] rfl (Nat.le_of_ble_eq_true rfl) dJ10_fixAfterDeletion_72 rfl (fun _ _ h => h.elim) (fun v Ws h => ?_)
                obtain ⟨rfl, rfl⟩ := h
                show SW x [nd (xg x) Ks ka va L3 R3 P3 c3, ob (xg x) q 14 [.null, va_rf vs, .null, va_rf rt3, .int (jI sz), .int (jI mc), .null, .null, .null]] _ _ _ _ [va_rf (none.bind L3)]
                refine SW.cast (st' := [.null]) ?_ rfl rfl rfl
                refine sw_callS (n := 78) F (ct_J10_colorOf (g := xg x) (l := xl x) Ks ka va L3 R3 P3 c3 none (fun x9 e9 => by cases e9) (by (repeat' first | assumption | exact Or.inl rfl | exact Or.inr rfl | apply clO_b | refine cb_up ?_ ?_ | refine cb_cu ?_ ?_))) q3186 q3187 q114 q3188 nd_J10_colorOf rfl (by decide) [0, 1] rfl [ob (xg x) q 14 [.null, va_rf vs, .null, va_rf rt3, .int (jI sz), .int (jI mc), .null, .null, .null]] rfl 0 0 ⟨by omega, by omega⟩ [] rfl (Nat.le_of_ble_eq_true rfl) dJ10_fixAfterDeletion_75 rfl (fun _ _ h => h.elim) (fun v Ws h => ?_)
                obtain ⟨rfl, rfl⟩ := h
                show SW x [nd (xg x) Ks ka va L3 R3 P3 c3, ob (xg x) q 14 [.null, va_rf vs, .null, va_rf rt3, .int (jI sz), .int (jI mc), .null, .null, .null]] _ _ _ _ [.int (jI (clO c3 none))]
                refine SW.cast (st' := [.int (jI 1)]) ?_ rfl rfl rfl
                refine sw_iconst (n := 79) F (1) (by decide) dJ10_fixAfterDeletion_78 rfl ?_
                refine sw_icmp_ne (n := 82) F (by decide) (by decide) (tgt := 106) dJ10_fixAfterDeletion_79 (by decide) rfl (fun c_79 => ?_) (fun c_79 => ?_)
                · exfalso; exact absurd c_79 (by decide)
                ·
                  refine sw_aload_n (n := 83) F 2 none rfl rfl rfl dJ10_fixAfterDeletion_82 rfl ?_
                  refine sw_callS (n := 86) F (ct_J10_rightOf (g := xg x) (l := xl x) Ks ka va L3 R3 P3 c3 none (fun x9 e9 => by cases e9)) q3183 q3184 q114 q3185 nd_J10_rightOf rfl (by decide) [0, 1] rfl [ob (xg x) q 14 [.null, va_rf vs, .null, va_rf rt3, .int (jI sz), .int (jI mc), .null, .null, .null]] rfl 0 0 ⟨by omega, by omega⟩ [] rfl (Nat.le_of_ble_eq_true rfl) dJ10_fixAfterDeletion_83 rfl (fun _ _ h => h.elim) (fun v Ws h => ?_)
                  obtain ⟨rfl, rfl⟩ := h
                  show SW x [nd (xg x) Ks ka va L3 R3 P3 c3, ob (xg x) q 14 [.null, va_rf vs, .null, va_rf rt3, .int (jI sz), .int (jI mc), .null, .null, .null]] _ _ _ _ [va_rf (none.bind R3)]
                  refine SW.cast (st' := [.null]) ?_ rfl rfl rfl
                  refine sw_callS (n := 89) F (ct_J10_colorOf (g := xg x) (l := xl x) Ks ka va L3 R3 P3 c3 none (fun x9 e9 => by cases e9) (by (repeat' first | assumption | exact Or.inl rfl | exact Or.inr rfl | apply clO_b | refine cb_up ?_ ?_ | refine cb_cu ?_ ?_))) q3186 q3187 q114 q3188 nd_J10_colorOf rfl (by decide) [0, 1] rfl [ob (xg x) q 14 [.null, va_rf vs, .null, va_rf rt3, .int (jI sz), .int (jI mc), .null, .null, .null]] rfl 0 0 ⟨by omega, by omega⟩ [] rfl (Nat.le_of_ble_eq_true rfl) dJ10_fixAfterDeletion_86 rfl (fun _ _ h => h.elim) (fun v Ws h => ?_)
                  obtain ⟨rfl, rfl⟩ := h
                  show SW x [nd (xg x) Ks ka va L3 R3 P3 c3, ob (xg x) q 14 [.null, va_rf vs, .null, va_rf rt3, .int (jI sz), .int (jI mc), .null, .null, .null]] _ _ _ _ [.int (jI (clO c3 none))]
                  refine SW.cast (st' := [.int (jI 1)]) ?_ rfl rfl rfl
                  refine sw_iconst (n := 90) F (1) (by decide) dJ10_fixAfterDeletion_89 rfl ?_
                  refine sw_icmp_ne (n := 93) F (by decide) (by decide) (tgt := 106) dJ10_fixAfterDeletion_90 (by decide) rfl (fun c_90 => ?_) (fun c_90 => ?_)
                  · exfalso; exact absurd c_90 (by decide)
                  ·
                    refine sw_aload_n (n := 94) F 2 none rfl rfl rfl dJ10_fixAfterDeletion_93 rfl ?_
                    refine sw_iconst (n := 95) F (0) (by decide) dJ10_fixAfterDeletion_94 rfl ?_
                    refine sw_callS (n := 98) F (ct_J10_setColor_o (g := xg x) (l := xl x) Ks ka va L3 R3 P3 c3 none 0 (fun x9 e9 => by cases e9) (by first | omega | assumption)) q3189 q3190 q114 q3191 nd_J10_setColor rfl (by decide) [0, 1] rfl [ob (xg x) q 14 [.null, va_rf vs, .null, va_rf rt3, .int (jI sz), .int (jI mc), .null, .null, .null]] rfl 0 0 ⟨by omega, by omega⟩ [] rfl (Nat.le_of_ble_eq_true rfl) dJ10_fixAfterDeletion_95 rfl (fun _ _ h => h.elim) (fun v Ws h => ?_)
                    obtain ⟨rfl, rfl⟩ := h
                    show SW x [nd (xg x) Ks ka va L3 R3 P3 (cuO c3 none 0), ob (xg x) q 14 [.null, va_rf vs, .null, va_rf rt3, .int (jI sz), .int (jI mc), .null, .null, .null]] _ _ _ _ []
                    refine sw_aload_n (n := 99) F 1 (some x2) rfl rfl rfl dJ10_fixAfterDeletion_98 rfl ?_
                    refine sw_callS (n := 102) F (ct_J10_parentOf (g := xg x) (l := xl x) Ks ka va L3 R3 P3 (cuO c3 none 0) (some x2) (fun x9 e9 => Option.some.inj e9 ▸ hx2)) q3177 q3178 q114 q3179 nd_J10_parentOf rfl (by decide) [0, 1] rfl [ob (xg x) q 14 [.null, va_rf vs, .null, va_rf rt3, .int (jI sz), .int (jI mc), .null, .null, .null]] rfl 0 0 ⟨by omega, by omega⟩ [] rfl (Nat.le_of_ble_eq_true rfl) dJ10_fixAfterDeletion_99 rfl (fun _ _ h => h.elim) (fun v Ws h => ?_)
                    obtain ⟨rfl, rfl⟩ := h
                    show SW x [nd (xg x) Ks ka va L3 R3 P3 (cuO c3 none 0), ob (xg x) q 14 [.null, va_rf vs, .null, va_rf rt3, .int (jI sz), .int (jI mc), .null, .null, .null]] _ _ _ _ [va_rf ((some x2).bind P3)]
                    refine SW.cast (st' := [.ref p]) ?_ rfl rfl (congrArg (fun o9 => va_rf o9 :: _) hp3)
                    refine sw_astore_n (n := 103) F (some p) (L2 := [(1, .ref p), (0, .ref q), (2, .null)]) rfl rfl (by decide) rfl dJ10_fixAfterDeletion_102 rfl ?_
                    refine sw_goto F (n := 183) dJ10_fixAfterDeletion_103 (by decide) ?_
                    have hlN : s ∈ Ks → (lo3 p < rk s ∧ rk s < hi3 p) ∧ L3 s = none ∧ R3 s = none := fun h9 => ⟨by have g1 := hl2 h9; have g2 := hT3.l hpK hl3; have g4 := hT3.rng hpK; omega, hs3 h9⟩
                    have hwd := hT3.wdl hx2 hp3
                    have hwe : wd lo3 hi3 x2 = wd lo2 hi2 x2 := by unfold wd; rw [hlo3, hhi3]
                    refine sw_goto F (n := 0) dJ10_fixAfterDeletion_183 (by decide) ?_
                    refine sw_perm [1, 0] rfl [ob (xg x) q 14 [.null, va_rf vs, .null, va_rf rt3, .int (jI sz), .int (jI mc), .null, .null, .null], nd (xg x) Ks ka va L3 R3 P3 (cuO c3 none 0)] rfl ?_
                    refine sw_loc [1, 0] (L2 := [(0, .ref q), (1, .ref p)]) rfl ?_
                    exact ih0 p L3 R3 P3 (cuO c3 none 0) rt3 lo3 hi3 hT3 hpK (by (repeat' first | assumption | exact Or.inl rfl | exact Or.inr rfl | apply clO_b | refine cb_up ?_ ?_ | refine cb_cu ?_ ?_)) (by first | exact hlN | assumption) (by omega)
              ·
                have hsbK : sb ∈ Ks := (hT3.r hpK ho3).1
                have hpsb : p ≠ sb := hT3.neR hpK ho3
                refine sw_aload_n (n := 72) F 2 (some sb) rfl rfl rfl dJ10_fixAfterDeletion_71 rfl ?_
                refine sw_callS (n := 75) F (ct_J10_leftOf (g := xg x) (l := xl x) Ks ka va L3 R3 P3 c3 (some sb) (fun x9 e9 => Option.some.inj e9 ▸ hsbK)) q3180 q3181 q114 q3182 nd_J10_leftOf rfl (by decide) [0, 1] rfl [ob (xg x) q 14 [.null, va_rf vs, .null, va_rf rt3, .int (jI sz), .int (jI mc), .null, .null, .null]] rfl 0 0 ⟨by omega, by omega⟩ [] rfl (Nat.le_of_ble_eq_true rfl) dJ10_fixAfterDeletion_72 rfl (fun _ _ h => h.elim) (fun v Ws h => ?_)
                obtain ⟨rfl, rfl⟩ := h
                show SW x [nd (xg x) Ks ka va L3 R3 P3 c3, ob (xg x) q 14 [.null, va_rf vs, .null, va_rf rt3, .int (jI sz), .int (jI mc), .null, .null, .null]] _ _ _ _ [va_rf ((some sb).bind L3)]
                refine SW.cast (st' := [va_rf (L3 sb)]) ?_ rfl rfl rfl
                refine sw_callS (n := 78) F (ct_J10_colorOf (g := xg x) (l := xl x) Ks ka va L3 R3 P3 c3 (L3 sb) (fun x9 e9 => (hT3.l hsbK e9).1) (by (repeat' first | assumption | exact Or.inl rfl | exact Or.inr rfl | apply clO_b | refine cb_up ?_ ?_ | refine cb_cu ?_ ?_))) q3186 q3187 q114 q3188 nd_J10_colorOf rfl (by decide) [0, 1] rfl [ob (xg x) q 14 [.null, va_rf vs, .null, va_rf rt3, .int (jI sz), .int (jI mc), .null, .null, .null]] rfl 0 0 ⟨by omega, by omega⟩ [] rfl (Nat.le_of_ble_eq_true rfl) dJ10_fixAfterDeletion_75 rfl (fun _ _ h => h.elim) (fun v Ws h => ?_)
                obtain ⟨rfl, rfl⟩ := h
                show SW x [nd (xg x) Ks ka va L3 R3 P3 c3, ob (xg x) q 14 [.null, va_rf vs, .null, va_rf rt3, .int (jI sz), .int (jI mc), .null, .null, .null]] _ _ _ _ [.int (jI (clO c3 (L3 sb)))]
                have hyb_60 : clO c3 (L3 sb) = 0 ∨ clO c3 (L3 sb) = 1 := clO_b (by (repeat' first | assumption | exact Or.inl rfl | exact Or.inr rfl | apply clO_b | refine cb_up ?_ ?_ | refine cb_cu ?_ ?_)) _
                refine sw_iconst (n := 79) F (1) (by decide) dJ10_fixAfterDeletion_78 rfl ?_
                refine sw_icmp_ne (n := 82) F (by omega) (by decide) (tgt := 106) dJ10_fixAfterDeletion_79 (by decide) rfl (fun c_79 => ?_) (fun c_79 => ?_)
                ·
                  refine sw_aload_n (n := 107) F 2 (some sb) rfl rfl rfl dJ10_fixAfterDeletion_106 rfl ?_
                  refine sw_callS (n := 110) F (ct_J10_rightOf (g := xg x) (l := xl x) Ks ka va L3 R3 P3 c3 (some sb) (fun x9 e9 => Option.some.inj e9 ▸ hsbK)) q3183 q3184 q114 q3185 nd_J10_rightOf rfl (by decide) [0, 1] rfl [ob (xg x) q 14 [.null, va_rf vs, .null, va_rf rt3, .int (jI sz), .int (jI mc), .null, .null, .null]] rfl 0 0 ⟨by omega, by omega⟩ [] rfl (Nat.le_of_ble_eq_true rfl) dJ10_fixAfterDeletion_107 rfl (fun _ _ h => h.elim) (fun v Ws h => ?_)
                  obtain ⟨rfl, rfl⟩ := h
                  show SW x [nd (xg x) Ks ka va L3 R3 P3 c3, ob (xg x) q 14 [.null, va_rf vs, .null, va_rf rt3, .int (jI sz), .int (jI mc), .null, .null, .null]] _ _ _ _ [va_rf ((some sb).bind R3)]
                  refine SW.cast (st' := [va_rf (R3 sb)]) ?_ rfl rfl rfl
                  refine sw_callS (n := 113) F (ct_J10_colorOf (g := xg x) (l := xl x) Ks ka va L3 R3 P3 c3 (R3 sb) (fun x9 e9 => (hT3.r hsbK e9).1) (by (repeat' first | assumption | exact Or.inl rfl | exact Or.inr rfl | apply clO_b | refine cb_up ?_ ?_ | refine cb_cu ?_ ?_))) q3186 q3187 q114 q3188 nd_J10_colorOf rfl (by decide) [0, 1] rfl [ob (xg x) q 14 [.null, va_rf vs, .null, va_rf rt3, .int (jI sz), .int (jI mc), .null, .null, .null]] rfl 0 0 ⟨by omega, by omega⟩ [] rfl (Nat.le_of_ble_eq_true rfl) dJ10_fixAfterDeletion_110 rfl (fun _ _ h => h.elim) (fun v Ws h => ?_)
                  obtain ⟨rfl, rfl⟩ := h
                  show SW x [nd (xg x) Ks ka va L3 R3 P3 c3, ob (xg x) q 14 [.null, va_rf vs, .null, va_rf rt3, .int (jI sz), .int (jI mc), .null, .null, .null]] _ _ _ _ [.int (jI (clO c3 (R3 sb)))]
                  have hyb_61 : clO c3 (R3 sb) = 0 ∨ clO c3 (R3 sb) = 1 := clO_b (by (repeat' first | assumption | exact Or.inl rfl | exact Or.inr rfl | apply clO_b | refine cb_up ?_ ?_ | refine cb_cu ?_ ?_)) _
                  refine sw_iconst (n := 114) F (1) (by decide) dJ10_fixAfterDeletion_113 rfl ?_
                  refine sw_icmp_ne (n := 117) F (by omega) (by decide) (tgt := 143) dJ10_fixAfterDeletion_114 (by decide) rfl (fun c_114 => ?_) (fun c_114 => ?_)
                  ·
                    refine sw_aload_n (n := 144) F 2 (some sb) rfl rfl rfl dJ10_fixAfterDeletion_143 rfl ?_
                    refine sw_aload_n (n := 145) F 1 (some x2) rfl rfl rfl dJ10_fixAfterDeletion_144 rfl ?_
                    refine sw_callS (n := 148) F (ct_J10_parentOf (g := xg x) (l := xl x) Ks ka va L3 R3 P3 c3 (some x2) (fun x9 e9 => Option.some.inj e9 ▸ hx2)) q3177 q3178 q114 q3179 nd_J10_parentOf rfl (by decide) [0, 1] rfl [ob (xg x) q 14 [.null, va_rf vs, .null, va_rf rt3, .int (jI sz), .int (jI mc), .null, .null, .null]] rfl 0 0 ⟨by omega, by omega⟩ [.ref sb] rfl (Nat.le_of_ble_eq_true rfl) dJ10_fixAfterDeletion_145 rfl (fun _ _ h => h.elim) (fun v Ws h => ?_)
                    obtain ⟨rfl, rfl⟩ := h
                    show SW x [nd (xg x) Ks ka va L3 R3 P3 c3, ob (xg x) q 14 [.null, va_rf vs, .null, va_rf rt3, .int (jI sz), .int (jI mc), .null, .null, .null]] _ _ _ _ [va_rf ((some x2).bind P3), .ref sb]
                    refine SW.cast (st' := [.ref p, .ref sb]) ?_ rfl rfl (congrArg (fun o9 => va_rf o9 :: _) hp3)
                    refine sw_callS (n := 151) F (ct_J10_colorOf (g := xg x) (l := xl x) Ks ka va L3 R3 P3 c3 (some p) (fun x9 e9 => Option.some.inj e9 ▸ hpK) (by (repeat' first | assumption | exact Or.inl rfl | exact Or.inr rfl | apply clO_b | refine cb_up ?_ ?_ | refine cb_cu ?_ ?_))) q3186 q3187 q114 q3188 nd_J10_colorOf rfl (by decide) [0, 1] rfl [ob (xg x) q 14 [.null, va_rf vs, .null, va_rf rt3, .int (jI sz), .int (jI mc), .null, .null, .null]] rfl 0 0 ⟨by omega, by omega⟩ [.ref sb] rfl (Nat.le_of_ble_eq_true rfl) dJ10_fixAfterDeletion_148 rfl (fun _ _ h => h.elim) (fun v Ws h => ?_)
                    obtain ⟨rfl, rfl⟩ := h
                    show SW x [nd (xg x) Ks ka va L3 R3 P3 c3, ob (xg x) q 14 [.null, va_rf vs, .null, va_rf rt3, .int (jI sz), .int (jI mc), .null, .null, .null]] _ _ _ _ [.int (jI (clO c3 (some p))), .ref sb]
                    refine SW.cast (st' := [.int (jI (c3 p)), .ref sb]) ?_ rfl rfl rfl
                    have hyb_62 : c3 p = 0 ∨ c3 p = 1 := (show ∀ t, c3 t = 0 ∨ c3 t = 1 by (repeat' first | assumption | exact Or.inl rfl | exact Or.inr rfl | apply clO_b | refine cb_up ?_ ?_ | refine cb_cu ?_ ?_)) _
                    refine sw_callS (n := 154) F (ct_J10_setColor (g := xg x) (l := xl x) Ks ka va L3 R3 P3 c3 sb (c3 p) hsbK hyb_62) q3189 q3190 q114 q3191 nd_J10_setColor rfl (by decide) [0, 1] rfl [ob (xg x) q 14 [.null, va_rf vs, .null, va_rf rt3, .int (jI sz), .int (jI mc), .null, .null, .null]] rfl 0 0 ⟨by omega, by omega⟩ [] rfl (Nat.le_of_ble_eq_true rfl) dJ10_fixAfterDeletion_151 rfl (fun _ _ h => h.elim) (fun v Ws h => ?_)
                    obtain ⟨rfl, rfl⟩ := h
                    show SW x [nd (xg x) Ks ka va L3 R3 P3 (va_up c3 sb (c3 p)), ob (xg x) q 14 [.null, va_rf vs, .null, va_rf rt3, .int (jI sz), .int (jI mc), .null, .null, .null]] _ _ _ _ []
                    refine sw_aload_n (n := 155) F 1 (some x2) rfl rfl rfl dJ10_fixAfterDeletion_154 rfl ?_
                    refine sw_callS (n := 158) F (ct_J10_parentOf (g := xg x) (l := xl x) Ks ka va L3 R3 P3 (va_up c3 sb (c3 p)) (some x2) (fun x9 e9 => Option.some.inj e9 ▸ hx2)) q3177 q3178 q114 q3179 nd_J10_parentOf rfl (by decide) [0, 1] rfl [ob (xg x) q 14 [.null, va_rf vs, .null, va_rf rt3, .int (jI sz), .int (jI mc), .null, .null, .null]] rfl 0 0 ⟨by omega, by omega⟩ [] rfl (Nat.le_of_ble_eq_true rfl) dJ10_fixAfterDeletion_155 rfl (fun _ _ h => h.elim) (fun v Ws h => ?_)
                    obtain ⟨rfl, rfl⟩ := h
                    show SW x [nd (xg x) Ks ka va L3 R3 P3 (va_up c3 sb (c3 p)), ob (xg x) q 14 [.null, va_rf vs, .null, va_rf rt3, .int (jI sz), .int (jI mc), .null, .null, .null]] _ _ _ _ [va_rf ((some x2).bind P3)]
                    refine SW.cast (st' := [.ref p]) ?_ rfl rfl (congrArg (fun o9 => va_rf o9 :: _) hp3)
                    refine sw_iconst (n := 159) F (1) (by decide) dJ10_fixAfterDeletion_158 rfl ?_
                    refine sw_callS (n := 162) F (ct_J10_setColor (g := xg x) (l := xl x) Ks ka va L3 R3 P3 (va_up c3 sb (c3 p)) p 1 hpK (by first | omega | assumption)) q3189 q3190 q114 q3191 nd_J10_setColor rfl (by decide) [0, 1] rfl [ob (xg x) q 14 [.null, va_rf vs, .null, va_rf rt3, .int (jI sz), .int (jI mc), .null, .null, .null]] rfl 0 0 ⟨by omega, by omega⟩ [] rfl (Nat.le_of_ble_eq_true rfl) dJ10_fixAfterDeletion_159 rfl (fun _ _ h => h.elim) (fun v Ws h => ?_)
                    obtain ⟨rfl, rfl⟩ := h
                    show SW x [nd (xg x) Ks ka va L3 R3 P3 (va_up (va_up c3 sb (c3 p)) p 1), ob (xg x) q 14 [.null, va_rf vs, .null, va_rf rt3, .int (jI sz), .int (jI mc), .null, .null, .null]] _ _ _ _ []
                    refine sw_aload_n (n := 163) F 2 (some sb) rfl rfl rfl dJ10_fixAfterDeletion_162 rfl ?_
                    refine sw_callS (n := 166) F (ct_J10_rightOf (g := xg x) (l := xl x) Ks ka va L3 R3 P3 (va_up (va_up c3 sb (c3 p)) p 1) (some sb) (fun x9 e9 => Option.some.inj e9 ▸ hsbK)) q3183 q3184 q114 q3185 nd_J10_rightOf rfl (by decide) [0, 1] rfl [ob (xg x) q 14 [.null, va_rf vs, .null, va_rf rt3, .int (jI sz), .int (jI mc), .null, .null, .null]] rfl 0 0 ⟨by omega, by omega⟩ [] rfl (Nat.le_of_ble_eq_true rfl) dJ10_fixAfterDeletion_163 rfl (fun _ _ h => h.elim) (fun v Ws h => ?_)
                    obtain ⟨rfl, rfl⟩ := h
                    show SW x [nd (xg x) Ks ka va L3 R3 P3 (va_up (va_up c3 sb (c3 p)) p 1), ob (xg x) q 14 [.null, va_rf vs, .null, va_rf rt3, .int (jI sz), .int (jI mc), .null, .null, .null]] _ _ _ _ [va_rf ((some sb).bind R3)]
                    refine SW.cast (st' := [va_rf (R3 sb)]) ?_ rfl rfl rfl
                    refine sw_iconst (n := 167) F (1) (by decide) dJ10_fixAfterDeletion_166 rfl ?_
                    refine sw_callS (n := 170) F (ct_J10_setColor_o (g := xg x) (l := xl x) Ks ka va L3 R3 P3 (va_up (va_up c3 sb (c3 p)) p 1) (R3 sb) 1 (fun x9 e9 => (hT3.r hsbK e9).1) (by first | omega | assumption)) q3189 q3190 q114 q3191 nd_J10_setColor rfl (by decide) [0, 1] rfl [ob (xg x) q 14 [.null, va_rf vs, .null, va_rf rt3, .int (jI sz), .int (jI mc), .null, .null, .null]] rfl 0 0 ⟨by omega, by omega⟩ [] rfl (Nat.le_of_ble_eq_true rfl) dJ10_fixAfterDeletion_167 rfl (fun _ _ h => h.elim) (fun v Ws h => ?_)
                    obtain ⟨rfl, rfl⟩ := h
                    show SW x [nd (xg x) Ks ka va L3 R3 P3 (cuO (va_up (va_up c3 sb (c3 p)) p 1) (R3 sb) 1), ob (xg x) q 14 [.null, va_rf vs, .null, va_rf rt3, .int (jI sz), .int (jI mc), .null, .null, .null]] _ _ _ _ []
                    refine sw_aload_n (n := 171) F 0 (some q) rfl rfl rfl dJ10_fixAfterDeletion_170 rfl ?_
                    refine sw_aload_n (n := 172) F 1 (some x2) rfl rfl rfl dJ10_fixAfterDeletion_171 rfl ?_
                    refine sw_callS (n := 175) F (ct_J10_parentOf (g := xg x) (l := xl x) Ks ka va L3 R3 P3 (cuO (va_up (va_up c3 sb (c3 p)) p 1) (R3 sb) 1) (some x2) (fun x9 e9 => Option.some.inj e9 ▸ hx2)) q3177 q3178 q114 q3179 nd_J10_parentOf rfl (by decide) [0, 1] rfl [ob (xg x) q 14 [.null, va_rf vs, .null, va_rf rt3, .int (jI sz), .int (jI mc), .null, .null, .null]] rfl 0 0 ⟨by omega, by omega⟩ [.ref q] rfl (Nat.le_of_ble_eq_true rfl) dJ10_fixAfterDeletion_172 rfl (fun _ _ h => h.elim) (fun v Ws h => ?_)
                    obtain ⟨rfl, rfl⟩ := h
                    show SW x [nd (xg x) Ks ka va L3 R3 P3 (cuO (va_up (va_up c3 sb (c3 p)) p 1) (R3 sb) 1), ob (xg x) q 14 [.null, va_rf vs, .null, va_rf rt3, .int (jI sz), .int (jI mc), .null, .null, .null]] _ _ _ _ [va_rf ((some x2).bind P3), .ref q]
                    refine SW.cast (st' := [.ref p, .ref q]) ?_ rfl rfl (congrArg (fun o9 => va_rf o9 :: _) hp3)
                    refine sw_callV (n := 178) F (ct_J10_rotateLeft (g := xg x) (l := xl x) Ks ka va L3 R3 P3 (cuO (va_up (va_up c3 sb (c3 p)) p 1) (R3 sb) 1) q vs rt3 sz mc rk lo3 hi3 p sb hT3 hpK ho3) (rcv_ob F 1 rfl rfl) q3192 q3194 qs52 q114 q3195 nd_J10_rotateLeft rfl (by decide) [1, 0] rfl [] rfl 0 0 ⟨by omega, by omega⟩ [] rfl (Nat.le_of_ble_eq_true rfl) dJ10_fixAfterDeletion_175 rfl (fun _ _ h => h.elim) (fun v Ws h => ?_)
                    obtain ⟨L1_63, R1_64, P1_65, rt1_66, lo1_67, hi1_68, rfl, hR_69, hT1_70, hlo_71, hhi_72, rfl⟩ := h
                    show SW x [ob (xg x) q 14 [.null, va_rf vs, .null, va_rf rt1_66, .int (jI sz), .int (jI mc), .null, .null, .null], nd (xg x) Ks ka va L1_63 R1_64 P1_65 (cuO (va_up (va_up c3 sb (c3 p)) p 1) (R3 sb) 1)] _ _ _ _ []
                    obtain ⟨r0, hr0, hr0K⟩ := hT1_70.rt1 hx2
                    have hs5 : s ∈ Ks → L1_63 s = none ∧ R1_64 s = none := fun h9 => hT3.lfL hpK ho3 hR_69 (hs3 h9).1 (hs3 h9).2 (fun e9 => by subst e9; have g1 := hl2 h9; have g2 := hT3.l hpK hl3; have g3 := hT3.r hpK ho3; have g4 := hT3.rng h9; omega)
                    refine sw_aload_n (n := 179) F 0 (some q) rfl rfl rfl dJ10_fixAfterDeletion_178 rfl ?_
                    refine sw_get (n := 182) F 0 rfl (k := 3) ⟨(RJ10, TJ10, 9), rfl, by decide, q288, in_J10, Or.inl rfl⟩ rfl dJ10_fixAfterDeletion_179 rfl ?_
                    refine SW.cast (st' := [.ref r0]) ?_ rfl rfl (congrArg (fun o9 => va_rf o9 :: _) hr0)
                    refine sw_astore_n (n := 183) F (some r0) (L2 := [(1, .ref r0), (0, .ref q), (2, .ref sb)]) rfl rfl (by decide) rfl dJ10_fixAfterDeletion_182 rfl ?_
                    have hlN : s ∈ Ks → (lo1_67 r0 < rk s ∧ rk s < hi1_68 r0) ∧ L1_63 s = none ∧ R1_64 s = none := fun h9 => ⟨by have g1 := hT1_70.root hr0; have g4 := hT1_70.rng h9; omega, hs5 h9⟩
                    have hwd : wd lo1_67 hi1_68 r0 < wd lo2 hi2 x2 := by have g1 := hT1_70.root hr0; have g2 := hT3.wid hx2 hp3; have g4 := hT3.rng hpK; unfold wd; omega
                    refine sw_goto F (n := 0) dJ10_fixAfterDeletion_183 (by decide) ?_
                    refine sw_loc [1, 0] (L2 := [(0, .ref q), (1, .ref r0)]) rfl ?_
                    exact ih0 r0 L1_63 R1_64 P1_65 (cuO (va_up (va_up c3 sb (c3 p)) p 1) (R3 sb) 1) rt1_66 lo1_67 hi1_68 hT1_70 hr0K (by (repeat' first | assumption | exact Or.inl rfl | exact Or.inr rfl | apply clO_b | refine cb_up ?_ ?_ | refine cb_cu ?_ ?_)) (by first | exact hlN | assumption) (by omega)
                  ·
                    obtain ⟨j, hj⟩ := clO_s c_79
                    have hjK : j ∈ Ks := (hT3.l hsbK hj).1
                    have hsbj : sb ≠ j := hT3.neL hsbK hj
                    have hpj : p ≠ j := fun e9 => hT3.neG hjK (hT3.l hsbK hj).2.1 (hT3.r hpK ho3).2.1 e9.symm
                    refine sw_aload_n (n := 118) F 2 (some sb) rfl rfl rfl dJ10_fixAfterDeletion_117 rfl ?_
                    refine sw_callS (n := 121) F (ct_J10_leftOf (g := xg x) (l := xl x) Ks ka va L3 R3 P3 c3 (some sb) (fun x9 e9 => Option.some.inj e9 ▸ hsbK)) q3180 q3181 q114 q3182 nd_J10_leftOf rfl (by decide) [0, 1] rfl [ob (xg x) q 14 [.null, va_rf vs, .null, va_rf rt3, .int (jI sz), .int (jI mc), .null, .null, .null]] rfl 0 0 ⟨by omega, by omega⟩ [] rfl (Nat.le_of_ble_eq_true rfl) dJ10_fixAfterDeletion_118 rfl (fun _ _ h => h.elim) (fun v Ws h => ?_)
                    obtain ⟨rfl, rfl⟩ := h
                    show SW x [nd (xg x) Ks ka va L3 R3 P3 c3, ob (xg x) q 14 [.null, va_rf vs, .null, va_rf rt3, .int (jI sz), .int (jI mc), .null, .null, .null]] _ _ _ _ [va_rf ((some sb).bind L3)]
                    refine SW.cast (st' := [.ref j]) ?_ rfl rfl (congrArg (fun o9 => va_rf o9 :: _) hj)
                    refine sw_iconst (n := 122) F (1) (by decide) dJ10_fixAfterDeletion_121 rfl ?_
                    refine sw_callS (n := 125) F (ct_J10_setColor (g := xg x) (l := xl x) Ks ka va L3 R3 P3 c3 j 1 hjK (by first | omega | assumption)) q3189 q3190 q114 q3191 nd_J10_setColor rfl (by decide) [0, 1] rfl [ob (xg x) q 14 [.null, va_rf vs, .null, va_rf rt3, .int (jI sz), .int (jI mc), .null, .null, .null]] rfl 0 0 ⟨by omega, by omega⟩ [] rfl (Nat.le_of_ble_eq_true rfl) dJ10_fixAfterDeletion_122 rfl (fun _ _ h => h.elim) (fun v Ws h => ?_)
                    obtain ⟨rfl, rfl⟩ := h
                    show SW x [nd (xg x) Ks ka va L3 R3 P3 (va_up c3 j 1), ob (xg x) q 14 [.null, va_rf vs, .null, va_rf rt3, .int (jI sz), .int (jI mc), .null, .null, .null]] _ _ _ _ []
                    refine sw_aload_n (n := 126) F 2 (some sb) rfl rfl rfl dJ10_fixAfterDeletion_125 rfl ?_
                    refine sw_iconst (n := 127) F (0) (by decide) dJ10_fixAfterDeletion_126 rfl ?_
                    refine sw_callS (n := 130) F (ct_J10_setColor (g := xg x) (l := xl x) Ks ka va L3 R3 P3 (va_up c3 j 1) sb 0 hsbK (by first | omega | assumption)) q3189 q3190 q114 q3191 nd_J10_setColor rfl (by decide) [0, 1] rfl [ob (xg x) q 14 [.null, va_rf vs, .null, va_rf rt3, .int (jI sz), .int (jI mc), .null, .null, .null]] rfl 0 0 ⟨by omega, by omega⟩ [] rfl (Nat.le_of_ble_eq_true rfl) dJ10_fixAfterDeletion_127 rfl (fun _ _ h => h.elim) (fun v Ws h => ?_)
                    obtain ⟨rfl, rfl⟩ := h
                    show SW x [nd (xg x) Ks ka va L3 R3 P3 (va_up (va_up c3 j 1) sb 0), ob (xg x) q 14 [.null, va_rf vs, .null, va_rf rt3, .int (jI sz), .int (jI mc), .null, .null, .null]] _ _ _ _ []
                    refine sw_aload_n (n := 131) F 0 (some q) rfl rfl rfl dJ10_fixAfterDeletion_130 rfl ?_
                    refine sw_aload_n (n := 132) F 2 (some sb) rfl rfl rfl dJ10_fixAfterDeletion_131 rfl ?_
                    refine sw_callV (n := 135) F (ct_J10_rotateRight (g := xg x) (l := xl x) Ks ka va L3 R3 P3 (va_up (va_up c3 j 1) sb 0) q vs rt3 sz mc rk lo3 hi3 sb j hT3 hsbK hj) (rcv_ob F 1 rfl rfl) q3196 q3198 qs53 q114 q3199 nd_J10_rotateRight rfl (by decide) [1, 0] rfl [] rfl 0 0 ⟨by omega, by omega⟩ [] rfl (Nat.le_of_ble_eq_true rfl) dJ10_fixAfterDeletion_132 rfl (fun _ _ h => h.elim) (fun v Ws h => ?_)
                    obtain ⟨L1_73, R1_74, P1_75, rt1_76, lo1_77, hi1_78, rfl, hR_79, hT1_80, hlo_81, hhi_82, rfl⟩ := h
                    show SW x [ob (xg x) q 14 [.null, va_rf vs, .null, va_rf rt1_76, .int (jI sz), .int (jI mc), .null, .null, .null], nd (xg x) Ks ka va L1_73 R1_74 P1_75 (va_up (va_up c3 j 1) sb 0)] _ _ _ _ []
                    obtain ⟨hp4, hl4, hj4, e4, e5⟩ := hT3.feL hx2 hp3 hl3 ho3 hj hR_79
                    have hs4 : s ∈ Ks → L1_73 s = none ∧ R1_74 s = none := fun h9 => hT3.lfR hsbK hj hR_79 (hs3 h9).1 (hs3 h9).2 (fun e9 => by subst e9; have g1 := hl2 h9; have g2 := hT3.l hpK hl3; have g3 := hT3.r hpK ho3; have g5 := hT3.l hsbK hj; have g4 := hT3.rng h9; omega)
                    refine sw_aload_n (n := 136) F 1 (some x2) rfl rfl rfl dJ10_fixAfterDeletion_135 rfl ?_
                    refine sw_callS (n := 139) F (ct_J10_parentOf (g := xg x) (l := xl x) Ks ka va L1_73 R1_74 P1_75 (va_up (va_up c3 j 1) sb 0) (some x2) (fun x9 e9 => Option.some.inj e9 ▸ hx2)) q3177 q3178 q114 q3179 nd_J10_parentOf rfl (by decide) [1, 0] rfl [ob (xg x) q 14 [.null, va_rf vs, .null, va_rf rt1_76, .int (jI sz), .int (jI mc), .null, .null, .null]] rfl 0 0 ⟨by omega, by omega⟩ [] rfl (Nat.le_of_ble_eq_true rfl) dJ10_fixAfterDeletion_136 rfl (fun _ _ h => h.elim) (fun v Ws h => ?_)
                    obtain ⟨rfl, rfl⟩ := h
                    show SW x [nd (xg x) Ks ka va L1_73 R1_74 P1_75 (va_up (va_up c3 j 1) sb 0), ob (xg x) q 14 [.null, va_rf vs, .null, va_rf rt1_76, .int (jI sz), .int (jI mc), .null, .null, .null]] _ _ _ _ [va_rf ((some x2).bind P1_75)]
                    refine SW.cast (st' := [.ref p]) ?_ rfl rfl (congrArg (fun o9 => va_rf o9 :: _) hp4)
                    refine sw_callS (n := 142) F (ct_J10_rightOf (g := xg x) (l := xl x) Ks ka va L1_73 R1_74 P1_75 (va_up (va_up c3 j 1) sb 0) (some p) (fun x9 e9 => Option.some.inj e9 ▸ hpK)) q3183 q3184 q114 q3185 nd_J10_rightOf rfl (by decide) [0, 1] rfl [ob (xg x) q 14 [.null, va_rf vs, .null, va_rf rt1_76, .int (jI sz), .int (jI mc), .null, .null, .null]] rfl 0 0 ⟨by omega, by omega⟩ [] rfl (Nat.le_of_ble_eq_true rfl) dJ10_fixAfterDeletion_139 rfl (fun _ _ h => h.elim) (fun v Ws h => ?_)
                    obtain ⟨rfl, rfl⟩ := h
                    show SW x [nd (xg x) Ks ka va L1_73 R1_74 P1_75 (va_up (va_up c3 j 1) sb 0), ob (xg x) q 14 [.null, va_rf vs, .null, va_rf rt1_76, .int (jI sz), .int (jI mc), .null, .null, .null]] _ _ _ _ [va_rf ((some p).bind R1_74)]
                    refine SW.cast (st' := [.ref j]) ?_ rfl rfl (congrArg (fun o9 => va_rf o9 :: _) hj4)
                    refine sw_astore_n (n := 143) F (some j) (L2 := [(2, .ref j), (0, .ref q), (1, .ref x2)]) rfl rfl (by decide) rfl dJ10_fixAfterDeletion_142 rfl ?_
                    refine sw_aload_n (n := 144) F 0 (some j) rfl rfl rfl dJ10_fixAfterDeletion_143 rfl ?_
                    refine sw_aload_n (n := 145) F 2 (some x2) rfl rfl rfl dJ10_fixAfterDeletion_144 rfl ?_
                    refine sw_callS (n := 148) F (ct_J10_parentOf (g := xg x) (l := xl x) Ks ka va L1_73 R1_74 P1_75 (va_up (va_up c3 j 1) sb 0) (some x2) (fun x9 e9 => Option.some.inj e9 ▸ hx2)) q3177 q3178 q114 q3179 nd_J10_parentOf rfl (by decide) [0, 1] rfl [ob (xg x) q 14 [.null, va_rf vs, .null, va_rf rt1_76, .int (jI sz), .int (jI mc), .null, .null, .null]] rfl 0 0 ⟨by omega, by omega⟩ [.ref j] rfl (Nat.le_of_ble_eq_true rfl) dJ10_fixAfterDeletion_145 rfl (fun _ _ h => h.elim) (fun v Ws h => ?_)
                    obtain ⟨rfl, rfl⟩ := h
                    show SW x [nd (xg x) Ks ka va L1_73 R1_74 P1_75 (va_up (va_up c3 j 1) sb 0), ob (xg x) q 14 [.null, va_rf vs, .null, va_rf rt1_76, .int (jI sz), .int (jI mc), .null, .null, .null]] _ _ _ _ [va_rf ((some x2).bind P1_75), .ref j]
                    refine SW.cast (st' := [.ref p, .ref j]) ?_ rfl rfl (congrArg (fun o9 => va_rf o9 :: _) hp4)
                    refine sw_callS (n := 151) F (ct_J10_colorOf (g := xg x) (l := xl x) Ks ka va L1_73 R1_74 P1_75 (va_up (va_up c3 j 1) sb 0) (some p) (fun x9 e9 => Option.some.inj e9 ▸ hpK) (by (repeat' first | assumption | exact Or.inl rfl | exact Or.inr rfl | apply clO_b | refine cb_up ?_ ?_ | refine cb_cu ?_ ?_))) q3186 q3187 q114 q3188 nd_J10_colorOf rfl (by decide) [0, 1] rfl [ob (xg x) q 14 [.null, va_rf vs, .null, va_rf rt1_76, .int (jI sz), .int (jI mc), .null, .null, .null]] rfl 0 0 ⟨by omega, by omega⟩ [.ref j] rfl (Nat.le_of_ble_eq_true rfl) dJ10_fixAfterDeletion_148 rfl (fun _ _ h => h.elim) (fun v Ws h => ?_)
                    obtain ⟨rfl, rfl⟩ := h
                    show SW x [nd (xg x) Ks ka va L1_73 R1_74 P1_75 (va_up (va_up c3 j 1) sb 0), ob (xg x) q 14 [.null, va_rf vs, .null, va_rf rt1_76, .int (jI sz), .int (jI mc), .null, .null, .null]] _ _ _ _ [.int (jI (clO (va_up (va_up c3 j 1) sb 0) (some p))), .ref j]
                    refine SW.cast (st' := [.int (jI (c3 p)), .ref j]) ?_ rfl rfl (congrArg (fun o9 => Value.int (jI o9) :: _) (Eq.trans (va_up_ne _ _ hpsb) (va_up_ne _ _ hpj)))
                    have hyb_83 : c3 p = 0 ∨ c3 p = 1 := (show ∀ t, c3 t = 0 ∨ c3 t = 1 by (repeat' first | assumption | exact Or.inl rfl | exact Or.inr rfl | apply clO_b | refine cb_up ?_ ?_ | refine cb_cu ?_ ?_)) _
                    refine sw_callS (n := 154) F (ct_J10_setColor (g := xg x) (l := xl x) Ks ka va L1_73 R1_74 P1_75 (va_up (va_up c3 j 1) sb 0) j (c3 p) hjK hyb_83) q3189 q3190 q114 q3191 nd_J10_setColor rfl (by decide) [0, 1] rfl [ob (xg x) q 14 [.null, va_rf vs, .null, va_rf rt1_76, .int (jI sz), .int (jI mc), .null, .null, .null]] rfl 0 0 ⟨by omega, by omega⟩ [] rfl (Nat.le_of_ble_eq_true rfl) dJ10_fixAfterDeletion_151 rfl (fun _ _ h => h.elim) (fun v Ws h => ?_)
                    obtain ⟨rfl, rfl⟩ := h
                    show SW x [nd (xg x) Ks ka va L1_73 R1_74 P1_75 (va_up (va_up (va_up c3 j 1) sb 0) j (c3 p)), ob (xg x) q 14 [.null, va_rf vs, .null, va_rf rt1_76, .int (jI sz), .int (jI mc), .null, .null, .null]] _ _ _ _ []
                    refine sw_aload_n (n := 155) F 2 (some x2) rfl rfl rfl dJ10_fixAfterDeletion_154 rfl ?_
                    refine sw_callS (n := 158) F (ct_J10_parentOf (g := xg x) (l := xl x) Ks ka va L1_73 R1_74 P1_75 (va_up (va_up (va_up c3 j 1) sb 0) j (c3 p)) (some x2) (fun x9 e9 => Option.some.inj e9 ▸ hx2)) q3177 q3178 q114 q3179 nd_J10_parentOf rfl (by decide) [0, 1] rfl [ob (xg x) q 14 [.null, va_rf vs, .null, va_rf rt1_76, .int (jI sz), .int (jI mc), .null, .null, .null]] rfl 0 0 ⟨by omega, by omega⟩ [] rfl (Nat.le_of_ble_eq_true rfl) dJ10_fixAfterDeletion_155 rfl (fun _ _ h => h.elim) (fun v Ws h => ?_)
                    obtain ⟨rfl, rfl⟩ := h
                    show SW x [nd (xg x) Ks ka va L1_73 R1_74 P1_75 (va_up (va_up (va_up c3 j 1) sb 0) j (c3 p)), ob (xg x) q 14 [.null, va_rf vs, .null, va_rf rt1_76, .int (jI sz), .int (jI mc), .null, .null, .null]] _ _ _ _ [va_rf ((some x2).bind P1_75)]
                    refine SW.cast (st' := [.ref p]) ?_ rfl rfl (congrArg (fun o9 => va_rf o9 :: _) hp4)
                    refine sw_iconst (n := 159) F (1) (by decide) dJ10_fixAfterDeletion_158 rfl ?_
                    refine sw_callS (n := 162) F (ct_J10_setColor (g := xg x) (l := xl x) Ks ka va L1_73 R1_74 P1_75 (va_up (va_up (va_up c3 j 1) sb 0) j (c3 p)) p 1 hpK (by first | omega | assumption)) q3189 q3190 q114 q3191 nd_J10_setColor rfl (by decide) [0, 1] rfl [ob (xg x) q 14 [.null, va_rf vs, .null, va_rf rt1_76, .int (jI sz), .int (jI mc), .null, .null, .null]] rfl 0 0 ⟨by omega, by omega⟩ [] rfl (Nat.le_of_ble_eq_true rfl) dJ10_fixAfterDeletion_159 rfl (fun _ _ h => h.elim) (fun v Ws h => ?_)
                    obtain ⟨rfl, rfl⟩ := h
                    show SW x [nd (xg x) Ks ka va L1_73 R1_74 P1_75 (va_up (va_up (va_up (va_up c3 j 1) sb 0) j (c3 p)) p 1), ob (xg x) q 14 [.null, va_rf vs, .null, va_rf rt1_76, .int (jI sz), .int (jI mc), .null, .null, .null]] _ _ _ _ []
                    refine sw_aload_n (n := 163) F 0 (some j) rfl rfl rfl dJ10_fixAfterDeletion_162 rfl ?_
                    refine sw_callS (n := 166) F (ct_J10_rightOf (g := xg x) (l := xl x) Ks ka va L1_73 R1_74 P1_75 (va_up (va_up (va_up (va_up c3 j 1) sb 0) j (c3 p)) p 1) (some j) (fun x9 e9 => Option.some.inj e9 ▸ hjK)) q3183 q3184 q114 q3185 nd_J10_rightOf rfl (by decide) [0, 1] rfl [ob (xg x) q 14 [.null, va_rf vs, .null, va_rf rt1_76, .int (jI sz), .int (jI mc), .null, .null, .null]] rfl 0 0 ⟨by omega, by omega⟩ [] rfl (Nat.le_of_ble_eq_true rfl) dJ10_fixAfterDeletion_163 rfl (fun _ _ h => h.elim) (fun v Ws h => ?_)
                    obtain ⟨rfl, rfl⟩ := h
                    show SW x [nd (xg x) Ks ka va L1_73 R1_74 P1_75 (va_up (va_up (va_up (va_up c3 j 1) sb 0) j (c3 p)) p 1), ob (xg x) q 14 [.null, va_rf vs, .null, va_rf rt1_76, .int (jI sz), .int (jI mc), .null, .null, .null]] _ _ _ _ [va_rf ((some j).bind R1_74)]
                    refine SW.cast (st' := [va_rf (R1_74 j)]) ?_ rfl rfl rfl
                    refine sw_iconst (n := 167) F (1) (by decide) dJ10_fixAfterDeletion_166 rfl ?_
                    refine sw_callS (n := 170) F (ct_J10_setColor_o (g := xg x) (l := xl x) Ks ka va L1_73 R1_74 P1_75 (va_up (va_up (va_up (va_up c3 j 1) sb 0) j (c3 p)) p 1) (R1_74 j) 1 (fun x9 e9 => (hT1_80.r hjK e9).1) (by first | omega | assumption)) q3189 q3190 q114 q3191 nd_J10_setColor rfl (by decide) [0, 1] rfl [ob (xg x) q 14 [.null, va_rf vs, .null, va_rf rt1_76, .int (jI sz), .int (jI mc), .null, .null, .null]] rfl 0 0 ⟨by omega, by omega⟩ [] rfl (Nat.le_of_ble_eq_true rfl) dJ10_fixAfterDeletion_167 rfl (fun _ _ h => h.elim) (fun v Ws h => ?_)
                    obtain ⟨rfl, rfl⟩ := h
                    show SW x [nd (xg x) Ks ka va L1_73 R1_74 P1_75 (cuO (va_up (va_up (va_up (va_up c3 j 1) sb 0) j (c3 p)) p 1) (R1_74 j) 1), ob (xg x) q 14 [.null, va_rf vs, .null, va_rf rt1_76, .int (jI sz), .int (jI mc), .null, .null, .null]] _ _ _ _ []
                    refine sw_aload_n (n := 171) F 1 (some q) rfl rfl rfl dJ10_fixAfterDeletion_170 rfl ?_
                    refine sw_aload_n (n := 172) F 2 (some x2) rfl rfl rfl dJ10_fixAfterDeletion_171 rfl ?_
                    refine sw_callS (n := 175) F (ct_J10_parentOf (g := xg x) (l := xl x) Ks ka va L1_73 R1_74 P1_75 (cuO (va_up (va_up (va_up (va_up c3 j 1) sb 0) j (c3 p)) p 1) (R1_74 j) 1) (some x2) (fun x9 e9 => Option.some.inj e9 ▸ hx2)) q3177 q3178 q114 q3179 nd_J10_parentOf rfl (by decide) [0, 1] rfl [ob (xg x) q 14 [.null, va_rf vs, .null, va_rf rt1_76, .int (jI sz), .int (jI mc), .null, .null, .null]] rfl 0 0 ⟨by omega, by omega⟩ [.ref q] rfl (Nat.le_of_ble_eq_true rfl) dJ10_fixAfterDeletion_172 rfl (fun _ _ h => h.elim) (fun v Ws h => ?_)
                    obtain ⟨rfl, rfl⟩ := h
                    show SW x [nd (xg x) Ks ka va L1_73 R1_74 P1_75 (cuO (va_up (va_up (va_up (va_up c3 j 1) sb 0) j (c3 p)) p 1) (R1_74 j) 1), ob (xg x) q 14 [.null, va_rf vs, .null, va_rf rt1_76, .int (jI sz), .int (jI mc), .null, .null, .null]] _ _ _ _ [va_rf ((some x2).bind P1_75), .ref q]
                    refine SW.cast (st' := [.ref p, .ref q]) ?_ rfl rfl (congrArg (fun o9 => va_rf o9 :: _) hp4)
                    refine sw_callV (n := 178) F (ct_J10_rotateLeft (g := xg x) (l := xl x) Ks ka va L1_73 R1_74 P1_75 (cuO (va_up (va_up (va_up (va_up c3 j 1) sb 0) j (c3 p)) p 1) (R1_74 j) 1) q vs rt1_76 sz mc rk lo1_77 hi1_78 p j hT1_80 hpK hj4) (rcv_ob F 1 rfl rfl) q3192 q3194 qs52 q114 q3195 nd_J10_rotateLeft rfl (by decide) [1, 0] rfl [] rfl 0 0 ⟨by omega, by omega⟩ [] rfl (Nat.le_of_ble_eq_true rfl) dJ10_fixAfterDeletion_175 rfl (fun _ _ h => h.elim) (fun v Ws h => ?_)
                    obtain ⟨L1_84, R1_85, P1_86, rt1_87, lo1_88, hi1_89, rfl, hR_90, hT1_91, hlo_92, hhi_93, rfl⟩ := h
                    show SW x [ob (xg x) q 14 [.null, va_rf vs, .null, va_rf rt1_87, .int (jI sz), .int (jI mc), .null, .null, .null], nd (xg x) Ks ka va L1_84 R1_85 P1_86 (cuO (va_up (va_up (va_up (va_up c3 j 1) sb 0) j (c3 p)) p 1) (R1_74 j) 1)] _ _ _ _ []
                    obtain ⟨r0, hr0, hr0K⟩ := hT1_91.rt1 hx2
                    have hs5 : s ∈ Ks → L1_84 s = none ∧ R1_85 s = none := fun h9 => hT1_80.lfL hpK hj4 hR_90 (hs4 h9).1 (hs4 h9).2 (fun e9 => by subst e9; have g1 := hl2 h9; have g2 := hT3.l hpK hl3; have g3 := hT3.r hpK ho3; have g4 := hT3.rng h9; have g5 := hT3.l hsbK hj; omega)
                    refine sw_aload_n (n := 179) F 1 (some q) rfl rfl rfl dJ10_fixAfterDeletion_178 rfl ?_
                    refine sw_get (n := 182) F 0 rfl (k := 3) ⟨(RJ10, TJ10, 9), rfl, by decide, q288, in_J10, Or.inl rfl⟩ rfl dJ10_fixAfterDeletion_179 rfl ?_
                    refine SW.cast (st' := [.ref r0]) ?_ rfl rfl (congrArg (fun o9 => va_rf o9 :: _) hr0)
                    refine sw_astore_n (n := 183) F (some r0) (L2 := [(1, .ref r0), (2, .ref j), (0, .ref q)]) rfl rfl (by decide) rfl dJ10_fixAfterDeletion_182 rfl ?_
                    have hlN : s ∈ Ks → (lo1_88 r0 < rk s ∧ rk s < hi1_89 r0) ∧ L1_84 s = none ∧ R1_85 s = none := fun h9 => ⟨by have g1 := hT1_91.root hr0; have g4 := hT1_91.rng h9; omega, hs5 h9⟩
                    have hwd : wd lo1_88 hi1_89 r0 < wd lo2 hi2 x2 := by have g1 := hT1_91.root hr0; have g2 := hT3.wid hx2 hp3; have g4 := hT3.rng hpK; unfold wd; omega
                    refine sw_goto F (n := 0) dJ10_fixAfterDeletion_183 (by decide) ?_
                    refine sw_loc [2, 0] (L2 := [(0, .ref q), (1, .ref r0)]) rfl ?_
                    exact ih0 r0 L1_84 R1_85 P1_86 (cuO (va_up (va_up (va_up (va_up c3 j 1) sb 0) j (c3 p)) p 1) (R1_74 j) 1) rt1_87 lo1_88 hi1_89 hT1_91 hr0K (by (repeat' first | assumption | exact Or.inl rfl | exact Or.inr rfl | apply clO_b | refine cb_up ?_ ?_ | refine cb_cu ?_ ?_)) (by first | exact hlN | assumption) (by omega)
                ·
                  refine sw_aload_n (n := 83) F 2 (some sb) rfl rfl rfl dJ10_fixAfterDeletion_82 rfl ?_
                  refine sw_callS (n := 86) F (ct_J10_rightOf (g := xg x) (l := xl x) Ks ka va L3 R3 P3 c3 (some sb) (fun x9 e9 => Option.some.inj e9 ▸ hsbK)) q3183 q3184 q114 q3185 nd_J10_rightOf rfl (by decide) [0, 1] rfl [ob (xg x) q 14 [.null, va_rf vs, .null, va_rf rt3, .int (jI sz), .int (jI mc), .null, .null, .null]] rfl 0 0 ⟨by omega, by omega⟩ [] rfl (Nat.le_of_ble_eq_true rfl) dJ10_fixAfterDeletion_83 rfl (fun _ _ h => h.elim) (fun v Ws h => ?_)
                  obtain ⟨rfl, rfl⟩ := h
                  show SW x [nd (xg x) Ks ka va L3 R3 P3 c3, ob (xg x) q 14 [.null, va_rf vs, .null, va_rf rt3, .int (jI sz), .int (jI mc), .null, .null, .null]] _ _ _ _ [va_rf ((some sb).bind R3)]
                  refine SW.cast (st' := [va_rf (R3 sb)]) ?_ rfl rfl rfl
                  refine sw_callS (n := 89) F (ct_J10_colorOf (g := xg x) (l := xl x) Ks ka va L3 R3 P3 c3 (R3 sb) (fun x9 e9 => (hT3.r hsbK e9).1) (by (repeat' first | assumption | exact Or.inl rfl | exact Or.inr rfl | apply clO_b | refine cb_up ?_ ?_ | refine cb_cu ?_ ?_))) q3186 q3187 q114 q3188 nd_J10_colorOf rfl (by decide) [0, 1] rfl [ob (xg x) q 14 [.null, va_rf vs, .null, va_rf rt3, .int (jI sz), .int (jI mc), .null, .null, .null]] rfl 0 0 ⟨by omega, by omega⟩ [] rfl (Nat.le_of_ble_eq_true rfl) dJ10_fixAfterDeletion_86 rfl (fun _ _ h => h.elim) (fun v Ws h => ?_)
                  obtain ⟨rfl, rfl⟩ := h
                  show SW x [nd (xg x) Ks ka va L3 R3 P3 c3, ob (xg x) q 14 [.null, va_rf vs, .null, va_rf rt3, .int (jI sz), .int (jI mc), .null, .null, .null]] _ _ _ _ [.int (jI (clO c3 (R3 sb)))]
                  have hyb_94 : clO c3 (R3 sb) = 0 ∨ clO c3 (R3 sb) = 1 := clO_b (by (repeat' first | assumption | exact Or.inl rfl | exact Or.inr rfl | apply clO_b | refine cb_up ?_ ?_ | refine cb_cu ?_ ?_)) _
                  refine sw_iconst (n := 90) F (1) (by decide) dJ10_fixAfterDeletion_89 rfl ?_
                  refine sw_icmp_ne (n := 93) F (by omega) (by decide) (tgt := 106) dJ10_fixAfterDeletion_90 (by decide) rfl (fun c_90 => ?_) (fun c_90 => ?_)
                  ·
                    refine sw_aload_n (n := 107) F 2 (some sb) rfl rfl rfl dJ10_fixAfterDeletion_106 rfl ?_
                    refine sw_callS (n := 110) F (ct_J10_rightOf (g := xg x) (l := xl x) Ks ka va L3 R3 P3 c3 (some sb) (fun x9 e9 => Option.some.inj e9 ▸ hsbK)) q3183 q3184 q114 q3185 nd_J10_rightOf rfl (by decide) [0, 1] rfl [ob (xg x) q 14 [.null, va_rf vs, .null, va_rf rt3, .int (jI sz), .int (jI mc), .null, .null, .null]] rfl 0 0 ⟨by omega, by omega⟩ [] rfl (Nat.le_of_ble_eq_true rfl) dJ10_fixAfterDeletion_107 rfl (fun _ _ h => h.elim) (fun v Ws h => ?_)
                    obtain ⟨rfl, rfl⟩ := h
                    show SW x [nd (xg x) Ks ka va L3 R3 P3 c3, ob (xg x) q 14 [.null, va_rf vs, .null, va_rf rt3, .int (jI sz), .int (jI mc), .null, .null, .null]] _ _ _ _ [va_rf ((some sb).bind R3)]
                    refine SW.cast (st' := [va_rf (R3 sb)]) ?_ rfl rfl rfl
                    refine sw_callS (n := 113) F (ct_J10_colorOf (g := xg x) (l := xl x) Ks ka va L3 R3 P3 c3 (R3 sb) (fun x9 e9 => (hT3.r hsbK e9).1) (by (repeat' first | assumption | exact Or.inl rfl | exact Or.inr rfl | apply clO_b | refine cb_up ?_ ?_ | refine cb_cu ?_ ?_))) q3186 q3187 q114 q3188 nd_J10_colorOf rfl (by decide) [0, 1] rfl [ob (xg x) q 14 [.null, va_rf vs, .null, va_rf rt3, .int (jI sz), .int (jI mc), .null, .null, .null]] rfl 0 0 ⟨by omega, by omega⟩ [] rfl (Nat.le_of_ble_eq_true rfl) dJ10_fixAfterDeletion_110 rfl (fun _ _ h => h.elim) (fun v Ws h => ?_)
                    obtain ⟨rfl, rfl⟩ := h
                    show SW x [nd (xg x) Ks ka va L3 R3 P3 c3, ob (xg x) q 14 [.null, va_rf vs, .null, va_rf rt3, .int (jI sz), .int (jI mc), .null, .null, .null]] _ _ _ _ [.int (jI (clO c3 (R3 sb)))]
                    have hyb_95 : clO c3 (R3 sb) = 0 ∨ clO c3 (R3 sb) = 1 := clO_b (by (repeat' first | assumption | exact Or.inl rfl | exact Or.inr rfl | apply clO_b | refine cb_up ?_ ?_ | refine cb_cu ?_ ?_)) _
                    refine sw_iconst (n := 114) F (1) (by decide) dJ10_fixAfterDeletion_113 rfl ?_
                    refine sw_icmp_ne (n := 117) F (by omega) (by decide) (tgt := 143) dJ10_fixAfterDeletion_114 (by decide) rfl (fun c_114 => ?_) (fun c_114 => ?_)
                    ·
                      refine sw_aload_n (n := 144) F 2 (some sb) rfl rfl rfl dJ10_fixAfterDeletion_143 rfl ?_
                      refine sw_aload_n (n := 145) F 1 (some x2) rfl rfl rfl dJ10_fixAfterDeletion_144 rfl ?_
                      refine sw_callS (n := 148) F (ct_J10_parentOf (g := xg x) (l := xl x) Ks ka va L3 R3 P3 c3 (some x2) (fun x9 e9 => Option.some.inj e9 ▸ hx2)) q3177 q3178 q114 q3179 nd_J10_parentOf rfl (by decide) [0, 1] rfl [ob (xg x) q 14 [.null, va_rf vs, .null, va_rf rt3, .int (jI sz), .int (jI mc), .null, .null, .null]] rfl 0 0 ⟨by omega, by omega⟩ [.ref sb] rfl (Nat.le_of_ble_eq_true rfl) dJ10_fixAfterDeletion_145 rfl (fun _ _ h => h.elim) (fun v Ws h => ?_)
                      obtain ⟨rfl, rfl⟩ := h
                      show SW x [nd (xg x) Ks ka va L3 R3 P3 c3, ob (xg x) q 14 [.null, va_rf vs, .null, va_rf rt3, .int (jI sz), .int (jI mc), .null, .null, .null]] _ _ _ _ [va_rf ((some x2).bind P3), .ref sb]
                      refine SW.cast (st' := [.ref p, .ref sb]) ?_ rfl rfl (congrArg (fun o9 => va_rf o9 :: _) hp3)
                      refine sw_callS (n := 151) F (ct_J10_colorOf (g := xg x) (l := xl x) Ks ka va L3 R3 P3 c3 (some p) (fun x9 e9 => Option.some.inj e9 ▸ hpK) (by (repeat' first | assumption | exact Or.inl rfl | exact Or.inr rfl | apply clO_b | refine cb_up ?_ ?_ | refine cb_cu ?_ ?_))) q3186 q3187 q114 q3188 nd_J10_colorOf rfl (by decide) [0, 1] rfl [ob (xg x) q 14 [.null, va_rf vs, .null, va_rf rt3, .int (jI sz), .int (jI mc), .null, .null, .null]] rfl 0 0 ⟨by omega, by omega⟩ [.ref sb] rfl (Nat.le_of_ble_eq_true rfl) dJ10_fixAfterDeletion_148 rfl (fun _ _ h => h.elim) (fun v Ws h => ?_)
                      obtain ⟨rfl, rfl⟩ := h
                      show SW x [nd (xg x) Ks ka va L3 R3 P3 c3, ob (xg x) q 14 [.null, va_rf vs, .null, va_rf rt3, .int (jI sz), .int (jI mc), .null, .null, .null]] _ _ _ _ [.int (jI (clO c3 (some p))), .ref sb]
                      refine SW.cast (st' := [.int (jI (c3 p)), .ref sb]) ?_ rfl rfl rfl
                      have hyb_96 : c3 p = 0 ∨ c3 p = 1 := (show ∀ t, c3 t = 0 ∨ c3 t = 1 by (repeat' first | assumption | exact Or.inl rfl | exact Or.inr rfl | apply clO_b | refine cb_up ?_ ?_ | refine cb_cu ?_ ?_)) _
                      refine sw_callS (n := 154) F (ct_J10_setColor (g := xg x) (l := xl x) Ks ka va L3 R3 P3 c3 sb (c3 p) hsbK hyb_96) q3189 q3190 q114 q3191 nd_J10_setColor rfl (by decide) [0, 1] rfl [ob (xg x) q 14 [.null, va_rf vs, .null, va_rf rt3, .int (jI sz), .int (jI mc), .null, .null, .null]] rfl 0 0 ⟨by omega, by omega⟩ [] rfl (Nat.le_of_ble_eq_true rfl) dJ10_fixAfterDeletion_151 rfl (fun _ _ h => h.elim) (fun v Ws h => ?_)
                      obtain ⟨rfl, rfl⟩ := h
                      show SW x [nd (xg x) Ks ka va L3 R3 P3 (va_up c3 sb (c3 p)), ob (xg x) q 14 [.null, va_rf vs, .null, va_rf rt3, .int (jI sz), .int (jI mc), .null, .null, .null]] _ _ _ _ []
                      refine sw_aload_n (n := 155) F 1 (some x2) rfl rfl rfl dJ10_fixAfterDeletion_154 rfl ?_
                      refine sw_callS (n := 158) F (ct_J10_parentOf (g := xg x) (l := xl x) Ks ka va L3 R3 P3 (va_up c3 sb (c3 p)) (some x2) (fun x9 e9 => Option.some.inj e9 ▸ hx2)) q3177 q3178 q114 q3179 nd_J10_parentOf rfl (by decide) [0, 1] rfl [ob (xg x) q 14 [.null, va_rf vs, .null, va_rf rt3, .int (jI sz), .int (jI mc), .null, .null, .null]] rfl 0 0 ⟨by omega, by omega⟩ [] rfl (Nat.le_of_ble_eq_true rfl) dJ10_fixAfterDeletion_155 rfl (fun _ _ h => h.elim) (fun v Ws h => ?_)
                      obtain ⟨rfl, rfl⟩ := h
                      show SW x [nd (xg x) Ks ka va L3 R3 P3 (va_up c3 sb (c3 p)), ob (xg x) q 14 [.null, va_rf vs, .null, va_rf rt3, .int (jI sz), .int (jI mc), .null, .null, .null]] _ _ _ _ [va_rf ((some x2).bind P3)]
                      refine SW.cast (st' := [.ref p]) ?_ rfl rfl (congrArg (fun o9 => va_rf o9 :: _) hp3)
                      refine sw_iconst (n := 159) F (1) (by decide) dJ10_fixAfterDeletion_158 rfl ?_
                      refine sw_callS (n := 162) F (ct_J10_setColor (g := xg x) (l := xl x) Ks ka va L3 R3 P3 (va_up c3 sb (c3 p)) p 1 hpK (by first | omega | assumption)) q3189 q3190 q114 q3191 nd_J10_setColor rfl (by decide) [0, 1] rfl [ob (xg x) q 14 [.null, va_rf vs, .null, va_rf rt3, .int (jI sz), .int (jI mc), .null, .null, .null]] rfl 0 0 ⟨by omega, by omega⟩ [] rfl (Nat.le_of_ble_eq_true rfl) dJ10_fixAfterDeletion_159 rfl (fun _ _ h => h.elim) (fun v Ws h => ?_)
                      obtain ⟨rfl, rfl⟩ := h
                      show SW x [nd (xg x) Ks ka va L3 R3 P3 (va_up (va_up c3 sb (c3 p)) p 1), ob (xg x) q 14 [.null, va_rf vs, .null, va_rf rt3, .int (jI sz), .int (jI mc), .null, .null, .null]] _ _ _ _ []
                      refine sw_aload_n (n := 163) F 2 (some sb) rfl rfl rfl dJ10_fixAfterDeletion_162 rfl ?_
                      refine sw_callS (n := 166) F (ct_J10_rightOf (g := xg x) (l := xl x) Ks ka va L3 R3 P3 (va_up (va_up c3 sb (c3 p)) p 1) (some sb) (fun x9 e9 => Option.some.inj e9 ▸ hsbK)) q3183 q3184 q114 q3185 nd_J10_rightOf rfl (by decide) [0, 1] rfl [ob (xg x) q 14 [.null, va_rf vs, .null, va_rf rt3, .int (jI sz), .int (jI mc), .null, .null, .null]] rfl 0 0 ⟨by omega, by omega⟩ [] rfl (Nat.le_of_ble_eq_true rfl) dJ10_fixAfterDeletion_163 rfl (fun _ _ h => h.elim) (fun v Ws h => ?_)
                      obtain ⟨rfl, rfl⟩ := h
                      show SW x [nd (xg x) Ks ka va L3 R3 P3 (va_up (va_up c3 sb (c3 p)) p 1), ob (xg x) q 14 [.null, va_rf vs, .null, va_rf rt3, .int (jI sz), .int (jI mc), .null, .null, .null]] _ _ _ _ [va_rf ((some sb).bind R3)]
                      refine SW.cast (st' := [va_rf (R3 sb)]) ?_ rfl rfl rfl
                      refine sw_iconst (n := 167) F (1) (by decide) dJ10_fixAfterDeletion_166 rfl ?_
                      refine sw_callS (n := 170) F (ct_J10_setColor_o (g := xg x) (l := xl x) Ks ka va L3 R3 P3 (va_up (va_up c3 sb (c3 p)) p 1) (R3 sb) 1 (fun x9 e9 => (hT3.r hsbK e9).1) (by first | omega | assumption)) q3189 q3190 q114 q3191 nd_J10_setColor rfl (by decide) [0, 1] rfl [ob (xg x) q 14 [.null, va_rf vs, .null, va_rf rt3, .int (jI sz), .int (jI mc), .null, .null, .null]] rfl 0 0 ⟨by omega, by omega⟩ [] rfl (Nat.le_of_ble_eq_true rfl) dJ10_fixAfterDeletion_167 rfl (fun _ _ h => h.elim) (fun v Ws h => ?_)
                      obtain ⟨rfl, rfl⟩ := h
                      show SW x [nd (xg x) Ks ka va L3 R3 P3 (cuO (va_up (va_up c3 sb (c3 p)) p 1) (R3 sb) 1), ob (xg x) q 14 [.null, va_rf vs, .null, va_rf rt3, .int (jI sz), .int (jI mc), .null, .null, .null]] _ _ _ _ []
                      refine sw_aload_n (n := 171) F 0 (some q) rfl rfl rfl dJ10_fixAfterDeletion_170 rfl ?_
                      refine sw_aload_n (n := 172) F 1 (some x2) rfl rfl rfl dJ10_fixAfterDeletion_171 rfl ?_
                      refine sw_callS (n := 175) F (ct_J10_parentOf (g := xg x) (l := xl x) Ks ka va L3 R3 P3 (cuO (va_up (va_up c3 sb (c3 p)) p 1) (R3 sb) 1) (some x2) (fun x9 e9 => Option.some.inj e9 ▸ hx2)) q3177 q3178 q114 q3179 nd_J10_parentOf rfl (by decide) [0, 1] rfl [ob (xg x) q 14 [.null, va_rf vs, .null, va_rf rt3, .int (jI sz), .int (jI mc), .null, .null, .null]] rfl 0 0 ⟨by omega, by omega⟩ [.ref q] rfl (Nat.le_of_ble_eq_true rfl) dJ10_fixAfterDeletion_172 rfl (fun _ _ h => h.elim) (fun v Ws h => ?_)
                      obtain ⟨rfl, rfl⟩ := h
                      show SW x [nd (xg x) Ks ka va L3 R3 P3 (cuO (va_up (va_up c3 sb (c3 p)) p 1) (R3 sb) 1), ob (xg x) q 14 [.null, va_rf vs, .null, va_rf rt3, .int (jI sz), .int (jI mc), .null, .null, .null]] _ _ _ _ [va_rf ((some x2).bind P3), .ref q]
                      refine SW.cast (st' := [.ref p, .ref q]) ?_ rfl rfl (congrArg (fun o9 => va_rf o9 :: _) hp3)
                      refine sw_callV (n := 178) F (ct_J10_rotateLeft (g := xg x) (l := xl x) Ks ka va L3 R3 P3 (cuO (va_up (va_up c3 sb (c3 p)) p 1) (R3 sb) 1) q vs rt3 sz mc rk lo3 hi3 p sb hT3 hpK ho3) (rcv_ob F 1 rfl rfl) q3192 q3194 qs52 q114 q3195 nd_J10_rotateLeft rfl (by decide) [1, 0] rfl [] rfl 0 0 ⟨by omega, by omega⟩ [] rfl (Nat.le_of_ble_eq_true rfl) dJ10_fixAfterDeletion_175 rfl (fun _ _ h => h.elim) (fun v Ws h => ?_)
                      obtain ⟨L1_97, R1_98, P1_99, rt1_100, lo1_101, hi1_102, rfl, hR_103, hT1_104, hlo_105, hhi_106, rfl⟩ := h
                      show SW x [ob (xg x) q 14 [.null, va_rf vs, .null, va_rf rt1_100, .int (jI sz), .int (jI mc), .null, .null, .null], nd (xg x) Ks ka va L1_97 R1_98 P1_99 (cuO (va_up (va_up c3 sb (c3 p)) p 1) (R3 sb) 1)] _ _ _ _ []
                      obtain ⟨r0, hr0, hr0K⟩ := hT1_104.rt1 hx2
                      have hs5 : s ∈ Ks → L1_97 s = none ∧ R1_98 s = none := fun h9 => hT3.lfL hpK ho3 hR_103 (hs3 h9).1 (hs3 h9).2 (fun e9 => by subst e9; have g1 := hl2 h9; have g2 := hT3.l hpK hl3; have g3 := hT3.r hpK ho3; have g4 := hT3.rng h9; omega)
                      refine sw_aload_n (n := 179) F 0 (some q) rfl rfl rfl dJ10_fixAfterDeletion_178 rfl ?_
                      refine sw_get (n := 182) F 0 rfl (k := 3) ⟨(RJ10, TJ10, 9), rfl, by decide, q288, in_J10, Or.inl rfl⟩ rfl dJ10_fixAfterDeletion_179 rfl ?_
                      refine SW.cast (st' := [.ref r0]) ?_ rfl rfl (congrArg (fun o9 => va_rf o9 :: _) hr0)
                      refine sw_astore_n (n := 183) F (some r0) (L2 := [(1, .ref r0), (0, .ref q), (2, .ref sb)]) rfl rfl (by decide) rfl dJ10_fixAfterDeletion_182 rfl ?_
                      have hlN : s ∈ Ks → (lo1_101 r0 < rk s ∧ rk s < hi1_102 r0) ∧ L1_97 s = none ∧ R1_98 s = none := fun h9 => ⟨by have g1 := hT1_104.root hr0; have g4 := hT1_104.rng h9; omega, hs5 h9⟩
                      have hwd : wd lo1_101 hi1_102 r0 < wd lo2 hi2 x2 := by have g1 := hT1_104.root hr0; have g2 := hT3.wid hx2 hp3; have g4 := hT3.rng hpK; unfold wd; omega
                      refine sw_goto F (n := 0) dJ10_fixAfterDeletion_183 (by decide) ?_
                      refine sw_loc [1, 0] (L2 := [(0, .ref q), (1, .ref r0)]) rfl ?_
                      exact ih0 r0 L1_97 R1_98 P1_99 (cuO (va_up (va_up c3 sb (c3 p)) p 1) (R3 sb) 1) rt1_100 lo1_101 hi1_102 hT1_104 hr0K (by (repeat' first | assumption | exact Or.inl rfl | exact Or.inr rfl | apply clO_b | refine cb_up ?_ ?_ | refine cb_cu ?_ ?_)) (by first | exact hlN | assumption) (by omega)
                    ·
                      exact absurd c_114 c_90
                  ·
                    refine sw_aload_n (n := 94) F 2 (some sb) rfl rfl rfl dJ10_fixAfterDeletion_93 rfl ?_
                    refine sw_iconst (n := 95) F (0) (by decide) dJ10_fixAfterDeletion_94 rfl ?_
                    refine sw_callS (n := 98) F (ct_J10_setColor (g := xg x) (l := xl x) Ks ka va L3 R3 P3 c3 sb 0 hsbK (by first | omega | assumption)) q3189 q3190 q114 q3191 nd_J10_setColor rfl (by decide) [0, 1] rfl [ob (xg x) q 14 [.null, va_rf vs, .null, va_rf rt3, .int (jI sz), .int (jI mc), .null, .null, .null]] rfl 0 0 ⟨by omega, by omega⟩ [] rfl (Nat.le_of_ble_eq_true rfl) dJ10_fixAfterDeletion_95 rfl (fun _ _ h => h.elim) (fun v Ws h => ?_)
                    obtain ⟨rfl, rfl⟩ := h
                    show SW x [nd (xg x) Ks ka va L3 R3 P3 (va_up c3 sb 0), ob (xg x) q 14 [.null, va_rf vs, .null, va_rf rt3, .int (jI sz), .int (jI mc), .null, .null, .null]] _ _ _ _ []
                    refine sw_aload_n (n := 99) F 1 (some x2) rfl rfl rfl dJ10_fixAfterDeletion_98 rfl ?_
                    refine sw_callS (n := 102) F (ct_J10_parentOf (g := xg x) (l := xl x) Ks ka va L3 R3 P3 (va_up c3 sb 0) (some x2) (fun x9 e9 => Option.some.inj e9 ▸ hx2)) q3177 q3178 q114 q3179 nd_J10_parentOf rfl (by decide) [0, 1] rfl [ob (xg x) q 14 [.null, va_rf vs, .null, va_rf rt3, .int (jI sz), .int (jI mc), .null, .null, .null]] rfl 0 0 ⟨by omega, by omega⟩ [] rfl (Nat.le_of_ble_eq_true rfl) dJ10_fixAfterDeletion_99 rfl (fun _ _ h => h.elim) (fun v Ws h => ?_)
                    obtain ⟨rfl, rfl⟩ := h
                    show SW x [nd (xg x) Ks ka va L3 R3 P3 (va_up c3 sb 0), ob (xg x) q 14 [.null, va_rf vs, .null, va_rf rt3, .int (jI sz), .int (jI mc), .null, .null, .null]] _ _ _ _ [va_rf ((some x2).bind P3)]
                    refine SW.cast (st' := [.ref p]) ?_ rfl rfl (congrArg (fun o9 => va_rf o9 :: _) hp3)
                    refine sw_astore_n (n := 103) F (some p) (L2 := [(1, .ref p), (0, .ref q), (2, .ref sb)]) rfl rfl (by decide) rfl dJ10_fixAfterDeletion_102 rfl ?_
                    refine sw_goto F (n := 183) dJ10_fixAfterDeletion_103 (by decide) ?_
                    have hlN : s ∈ Ks → (lo3 p < rk s ∧ rk s < hi3 p) ∧ L3 s = none ∧ R3 s = none := fun h9 => ⟨by have g1 := hl2 h9; have g2 := hT3.l hpK hl3; have g4 := hT3.rng hpK; omega, hs3 h9⟩
                    have hwd := hT3.wdl hx2 hp3
                    have hwe : wd lo3 hi3 x2 = wd lo2 hi2 x2 := by unfold wd; rw [hlo3, hhi3]
                    refine sw_goto F (n := 0) dJ10_fixAfterDeletion_183 (by decide) ?_
                    refine sw_perm [1, 0] rfl [ob (xg x) q 14 [.null, va_rf vs, .null, va_rf rt3, .int (jI sz), .int (jI mc), .null, .null, .null], nd (xg x) Ks ka va L3 R3 P3 (va_up c3 sb 0)] rfl ?_
                    refine sw_loc [1, 0] (L2 := [(0, .ref q), (1, .ref p)]) rfl ?_
                    exact ih0 p L3 R3 P3 (va_up c3 sb 0) rt3 lo3 hi3 hT3 hpK (by (repeat' first | assumption | exact Or.inl rfl | exact Or.inr rfl | apply clO_b | refine cb_up ?_ ?_ | refine cb_cu ?_ ?_)) (by first | exact hlN | assumption) (by omega)
            refine sw_aload_n (n := 36) F 0 (R2 p) rfl rfl rfl dJ10_fixAfterDeletion_35 rfl ?_
            refine sw_callS (n := 39) F (ct_J10_colorOf (g := xg x) (l := xl x) Ks ka va L2 R2 P2 c2 (R2 p) (fun x9 e9 => (hT2.r hpK e9).1) (by (repeat' first | assumption | exact Or.inl rfl | exact Or.inr rfl | apply clO_b | refine cb_up ?_ ?_ | refine cb_cu ?_ ?_))) q3186 q3187 q114 q3188 nd_J10_colorOf rfl (by decide) [0, 1] rfl [ob (xg x) q 14 [.null, va_rf vs, .null, va_rf rt2, .int (jI sz), .int (jI mc), .null, .null, .null]] rfl 0 0 ⟨by omega, by omega⟩ [] rfl (Nat.le_of_ble_eq_true rfl) dJ10_fixAfterDeletion_36 rfl (fun _ _ h => h.elim) (fun v Ws h => ?_)
            obtain ⟨rfl, rfl⟩ := h
            show SW x [nd (xg x) Ks ka va L2 R2 P2 c2, ob (xg x) q 14 [.null, va_rf vs, .null, va_rf rt2, .int (jI sz), .int (jI mc), .null, .null, .null]] _ _ _ _ [.int (jI (clO c2 (R2 p)))]
            have hyb_107 : clO c2 (R2 p) = 0 ∨ clO c2 (R2 p) = 1 := clO_b (by (repeat' first | assumption | exact Or.inl rfl | exact Or.inr rfl | apply clO_b | refine cb_up ?_ ?_ | refine cb_cu ?_ ?_)) _
            refine sw_if_ne (n := 42) F (by omega) (tgt := 71) dJ10_fixAfterDeletion_39 (by decide) rfl (fun c_39 => ?_) (fun c_39 => ?_)
            ·
              refine sw_loc [1, 2, 0] (L2 := [(0, .ref q), (1, .ref x2), (2, va_rf (R2 p))]) rfl ?_
              exact K71 L2 R2 P2 c2 rt2 lo2 hi2 (R2 p) hT2 (by (repeat' first | assumption | exact Or.inl rfl | exact Or.inr rfl | apply clO_b | refine cb_up ?_ ?_ | refine cb_cu ?_ ?_)) (by first | exact hp3 | exact hp) (by first | exact hl3 | exact hl) (by first | rfl | assumption) (by first | exact hlo3 | rfl) (by first | exact hhi3 | rfl) (by first | exact hs3 | exact fun h9 => (hl2 h9).2)
            ·
              obtain ⟨sb, hsb⟩ := clO_s (cl := c2) (o := R2 p) (by omega)
              have hsbK : sb ∈ Ks := (hT2.r hpK hsb).1
              refine SW.cast (L' := [(2, .ref sb), (0, .ref q), (1, .ref x2)]) (st' := []) ?_ rfl (by simp only [hsb]; rfl) (by first | rfl | (simp only [hsb]; rfl))
              refine sw_aload_n (n := 43) F 0 (some sb) rfl rfl rfl dJ10_fixAfterDeletion_42 rfl ?_
              refine sw_iconst (n := 44) F (1) (by decide) dJ10_fixAfterDeletion_43 rfl ?_
              refine sw_callS (n := 47) F (ct_J10_setColor (g := xg x) (l := xl x) Ks ka va L2 R2 P2 c2 sb 1 hsbK (by first | omega | assumption)) q3189 q3190 q114 q3191 nd_J10_setColor rfl (by decide) [0, 1] rfl [ob (xg x) q 14 [.null, va_rf vs, .null, va_rf rt2, .int (jI sz), .int (jI mc), .null, .null, .null]] rfl 0 0 ⟨by omega, by omega⟩ [] rfl (Nat.le_of_ble_eq_true rfl) dJ10_fixAfterDeletion_44 rfl (fun _ _ h => h.elim) (fun v Ws h => ?_)
              obtain ⟨rfl, rfl⟩ := h
              show SW x [nd (xg x) Ks ka va L2 R2 P2 (va_up c2 sb 1), ob (xg x) q 14 [.null, va_rf vs, .null, va_rf rt2, .int (jI sz), .int (jI mc), .null, .null, .null]] _ _ _ _ []
              refine sw_aload_n (n := 48) F 2 (some x2) rfl rfl rfl dJ10_fixAfterDeletion_47 rfl ?_
              refine sw_callS (n := 51) F (ct_J10_parentOf (g := xg x) (l := xl x) Ks ka va L2 R2 P2 (va_up c2 sb 1) (some x2) (fun x9 e9 => Option.some.inj e9 ▸ hx2)) q3177 q3178 q114 q3179 nd_J10_parentOf rfl (by decide) [0, 1] rfl [ob (xg x) q 14 [.null, va_rf vs, .null, va_rf rt2, .int (jI sz), .int (jI mc), .null, .null, .null]] rfl 0 0 ⟨by omega, by omega⟩ [] rfl (Nat.le_of_ble_eq_true rfl) dJ10_fixAfterDeletion_48 rfl (fun _ _ h => h.elim) (fun v Ws h => ?_)
              obtain ⟨rfl, rfl⟩ := h
              show SW x [nd (xg x) Ks ka va L2 R2 P2 (va_up c2 sb 1), ob (xg x) q 14 [.null, va_rf vs, .null, va_rf rt2, .int (jI sz), .int (jI mc), .null, .null, .null]] _ _ _ _ [va_rf ((some x2).bind P2)]
              refine SW.cast (st' := [.ref p]) ?_ rfl rfl (congrArg (fun o9 => va_rf o9 :: _) hp)
              refine sw_iconst (n := 52) F (0) (by decide) dJ10_fixAfterDeletion_51 rfl ?_
              refine sw_callS (n := 55) F (ct_J10_setColor (g := xg x) (l := xl x) Ks ka va L2 R2 P2 (va_up c2 sb 1) p 0 hpK (by first | omega | assumption)) q3189 q3190 q114 q3191 nd_J10_setColor rfl (by decide) [0, 1] rfl [ob (xg x) q 14 [.null, va_rf vs, .null, va_rf rt2, .int (jI sz), .int (jI mc), .null, .null, .null]] rfl 0 0 ⟨by omega, by omega⟩ [] rfl (Nat.le_of_ble_eq_true rfl) dJ10_fixAfterDeletion_52 rfl (fun _ _ h => h.elim) (fun v Ws h => ?_)
              obtain ⟨rfl, rfl⟩ := h
              show SW x [nd (xg x) Ks ka va L2 R2 P2 (va_up (va_up c2 sb 1) p 0), ob (xg x) q 14 [.null, va_rf vs, .null, va_rf rt2, .int (jI sz), .int (jI mc), .null, .null, .null]] _ _ _ _ []
              refine sw_aload_n (n := 56) F 1 (some q) rfl rfl rfl dJ10_fixAfterDeletion_55 rfl ?_
              refine sw_aload_n (n := 57) F 2 (some x2) rfl rfl rfl dJ10_fixAfterDeletion_56 rfl ?_
              refine sw_callS (n := 60) F (ct_J10_parentOf (g := xg x) (l := xl x) Ks ka va L2 R2 P2 (va_up (va_up c2 sb 1) p 0) (some x2) (fun x9 e9 => Option.some.inj e9 ▸ hx2)) q3177 q3178 q114 q3179 nd_J10_parentOf rfl (by decide) [0, 1] rfl [ob (xg x) q 14 [.null, va_rf vs, .null, va_rf rt2, .int (jI sz), .int (jI mc), .null, .null, .null]] rfl 0 0 ⟨by omega, by omega⟩ [.ref q] rfl (Nat.le_of_ble_eq_true rfl) dJ10_fixAfterDeletion_57 rfl (fun _ _ h => h.elim) (fun v Ws h => ?_)
              obtain ⟨rfl, rfl⟩ := h
              show SW x [nd (xg x) Ks ka va L2 R2 P2 (va_up (va_up c2 sb 1) p 0), ob (xg x) q 14 [.null, va_rf vs, .null, va_rf rt2, .int (jI sz), .int (jI mc), .null, .null, .null]] _ _ _ _ [va_rf ((some x2).bind P2), .ref q]
              refine SW.cast (st' := [.ref p, .ref q]) ?_ rfl rfl (congrArg (fun o9 => va_rf o9 :: _) hp)
              refine sw_callV (n := 63) F (ct_J10_rotateLeft (g := xg x) (l := xl x) Ks ka va L2 R2 P2 (va_up (va_up c2 sb 1) p 0) q vs rt2 sz mc rk lo2 hi2 p sb hT2 hpK hsb) (rcv_ob F 1 rfl rfl) q3192 q3194 qs52 q114 q3195 nd_J10_rotateLeft rfl (by decide) [1, 0] rfl [] rfl 0 0 ⟨by omega, by omega⟩ [] rfl (Nat.le_of_ble_eq_true rfl) dJ10_fixAfterDeletion_60 rfl (fun _ _ h => h.elim) (fun v Ws h => ?_)
              obtain ⟨L1_108, R1_109, P1_110, rt1_111, lo1_112, hi1_113, rfl, hR_114, hT1_115, hlo_116, hhi_117, rfl⟩ := h
              show SW x [ob (xg x) q 14 [.null, va_rf vs, .null, va_rf rt1_111, .int (jI sz), .int (jI mc), .null, .null, .null], nd (xg x) Ks ka va L1_108 R1_109 P1_110 (va_up (va_up c2 sb 1) p 0)] _ _ _ _ []
              obtain ⟨hp3, hl3, e3, e4⟩ := hT2.fdL hx2 hp hl hsb hR_114
              have hlo3 : lo1_112 x2 = lo2 x2 := (hlo_116 x2).trans (if_neg e4)
              have hhi3 : hi1_113 x2 = hi2 x2 := (hhi_117 x2).trans (if_neg e3)
              have hs3 : s ∈ Ks → L1_108 s = none ∧ R1_109 s = none := fun h9 => hT2.lfL hpK hsb hR_114 (hl2 h9).2.1 (hl2 h9).2.2 (fun e9 => by subst e9; have g1 := hl2 h9; have g2 := hT2.l hpK hl; have g3 := hT2.r hpK hsb; have g4 := hT2.rng h9; omega)
              refine sw_aload_n (n := 64) F 2 (some x2) rfl rfl rfl dJ10_fixAfterDeletion_63 rfl ?_
              refine sw_callS (n := 67) F (ct_J10_parentOf (g := xg x) (l := xl x) Ks ka va L1_108 R1_109 P1_110 (va_up (va_up c2 sb 1) p 0) (some x2) (fun x9 e9 => Option.some.inj e9 ▸ hx2)) q3177 q3178 q114 q3179 nd_J10_parentOf rfl (by decide) [1, 0] rfl [ob (xg x) q 14 [.null, va_rf vs, .null, va_rf rt1_111, .int (jI sz), .int (jI mc), .null, .null, .null]] rfl 0 0 ⟨by omega, by omega⟩ [] rfl (Nat.le_of_ble_eq_true rfl) dJ10_fixAfterDeletion_64 rfl (fun _ _ h => h.elim) (fun v Ws h => ?_)
              obtain ⟨rfl, rfl⟩ := h
              show SW x [nd (xg x) Ks ka va L1_108 R1_109 P1_110 (va_up (va_up c2 sb 1) p 0), ob (xg x) q 14 [.null, va_rf vs, .null, va_rf rt1_111, .int (jI sz), .int (jI mc), .null, .null, .null]] _ _ _ _ [va_rf ((some x2).bind P1_110)]
              refine SW.cast (st' := [.ref p]) ?_ rfl rfl (congrArg (fun o9 => va_rf o9 :: _) hp3)
              refine sw_callS (n := 70) F (ct_J10_rightOf (g := xg x) (l := xl x) Ks ka va L1_108 R1_109 P1_110 (va_up (va_up c2 sb 1) p 0) (some p) (fun x9 e9 => Option.some.inj e9 ▸ hpK)) q3183 q3184 q114 q3185 nd_J10_rightOf rfl (by decide) [0, 1] rfl [ob (xg x) q 14 [.null, va_rf vs, .null, va_rf rt1_111, .int (jI sz), .int (jI mc), .null, .null, .null]] rfl 0 0 ⟨by omega, by omega⟩ [] rfl (Nat.le_of_ble_eq_true rfl) dJ10_fixAfterDeletion_67 rfl (fun _ _ h => h.elim) (fun v Ws h => ?_)
              obtain ⟨rfl, rfl⟩ := h
              show SW x [nd (xg x) Ks ka va L1_108 R1_109 P1_110 (va_up (va_up c2 sb 1) p 0), ob (xg x) q 14 [.null, va_rf vs, .null, va_rf rt1_111, .int (jI sz), .int (jI mc), .null, .null, .null]] _ _ _ _ [va_rf ((some p).bind R1_109)]
              refine SW.cast (st' := [va_rf (R1_109 p)]) ?_ rfl rfl rfl
              refine sw_astore_n (n := 71) F (R1_109 p) (L2 := [(2, va_rf (R1_109 p)), (0, .ref q), (1, .ref x2)]) (by first | rfl | simp [va_rf_cat]) rfl (by decide) rfl dJ10_fixAfterDeletion_70 rfl ?_
              refine sw_loc [1, 2, 0] (L2 := [(0, .ref q), (1, .ref x2), (2, va_rf (R1_109 p))]) rfl ?_
              exact K71 L1_108 R1_109 P1_110 (va_up (va_up c2 sb 1) p 0) rt1_111 lo1_112 hi1_113 (R1_109 p) hT1_115 (by (repeat' first | assumption | exact Or.inl rfl | exact Or.inr rfl | apply clO_b | refine cb_up ?_ ?_ | refine cb_cu ?_ ?_)) (by first | exact hp3 | exact hp) (by first | exact hl3 | exact hl) (by first | rfl | assumption) (by first | exact hlo3 | rfl) (by first | exact hhi3 | rfl) (by first | exact hs3 | exact fun h9 => (hl2 h9).2)
  exact K0 _ nx L R P cl rt lo hi hT hx (by (repeat' first | assumption | exact Or.inl rfl | exact Or.inr rfl | apply clO_b | refine cb_up ?_ ?_ | refine cb_cu ?_ ?_)) (by first | exact hlN | assumption) (Nat.lt_succ_self _)
