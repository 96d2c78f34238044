theorem nd_X4_isMode : yX4_isMode.cls ≠ "java/lang/invoke/MethodHandle" ∧ yX4_isMode.cls ≠ "java/lang/invoke/VarHandle" ∧ (parseMethodDescriptor yX4_isMode.desc).map (fun d => d.parameters.length) = some 1 := by decide +kernel
set_option maxRecDepth 100000 in
set_option maxHeartbeats 1000000 in
theorem ct_X4_isMode {g : GG} {l : Launch} (m : Int) (hm : 0 ≤ m ∧ m ≤ 65535) : Ct g l yX4_isMode (ws_ yX4_isMode cX4_isMode 1 (Option.some Jvm.ClassFile.FieldType.boolean)) 1 12 0 0 [.int (jI m)] [] (fun v9 Ws9 => v9 = some (.int (jI (mdI m))) ∧ Ws9 = []) (nox) := by
  refine Ct.of (cc := cX4_isMode) (nL := 1) (ret := (Option.some Jvm.ClassFile.FieldType.boolean)) (by decide) rfl (Nat.le_of_ble_eq_true rfl) ?_
  intro x hg hl hPo hPx hmc hms F
  subst hg; subst hl
  refine SW.cast (L' := [(0, .int (jI m))]) ?_ rfl rfl rfl
  refine sw_iload_n (n := 1) F 0 rfl rfl dX4_isMode_0 rfl ?_
  by_cases c_1_99 : m = 99
  ·
    refine sw_tableIn F (99) (91) (tgt := 92) (by omega) c_1_99 dX4_isMode_1 (by decide) (by decide) (by decide) (by decide) ?_
    refine sw_iconst (n := 93) F (1) (by decide) dX4_isMode_92 rfl ?_
    exact sw_iret F _ rfl (by first | rfl | exact jI_nz (by omega) | exact jI_nc (by omega)) dX4_isMode_93 (by rw [hPo]; exact ⟨(by rw [mdI_1 (by omega)]), rfl⟩)
  ·
    by_cases c_1_100 : m = 100
    ·
      refine sw_tableIn F (100) (91) (tgt := 92) (by omega) c_1_100 dX4_isMode_1 (by decide) (by decide) (by decide) (by decide) ?_
      refine sw_iconst (n := 93) F (1) (by decide) dX4_isMode_92 rfl ?_
      exact sw_iret F _ rfl (by first | rfl | exact jI_nz (by omega) | exact jI_nc (by omega)) dX4_isMode_93 (by rw [hPo]; exact ⟨(by rw [mdI_1 (by omega)]), rfl⟩)
    ·
      by_cases c_1_101 : m = 101
      ·
        refine sw_tableIn F (101) (91) (tgt := 92) (by omega) c_1_101 dX4_isMode_1 (by decide) (by decide) (by decide) (by decide) ?_
        refine sw_iconst (n := 93) F (1) (by decide) dX4_isMode_92 rfl ?_
        exact sw_iret F _ rfl (by first | rfl | exact jI_nz (by omega) | exact jI_nc (by omega)) dX4_isMode_93 (by rw [hPo]; exact ⟨(by rw [mdI_1 (by omega)]), rfl⟩)
      ·
        by_cases c_1_102 : m = 102
        ·
          refine sw_tableIn F (102) (91) (tgt := 92) (by omega) c_1_102 dX4_isMode_1 (by decide) (by decide) (by decide) (by decide) ?_
          refine sw_iconst (n := 93) F (1) (by decide) dX4_isMode_92 rfl ?_
          exact sw_iret F _ rfl (by first | rfl | exact jI_nz (by omega) | exact jI_nc (by omega)) dX4_isMode_93 (by rw [hPo]; exact ⟨(by rw [mdI_1 (by omega)]), rfl⟩)
        ·
          by_cases c_1_104 : m = 104
          ·
            refine sw_tableIn F (104) (91) (tgt := 92) (by omega) c_1_104 dX4_isMode_1 (by decide) (by decide) (by decide) (by decide) ?_
            refine sw_iconst (n := 93) F (1) (by decide) dX4_isMode_92 rfl ?_
            exact sw_iret F _ rfl (by first | rfl | exact jI_nz (by omega) | exact jI_nc (by omega)) dX4_isMode_93 (by rw [hPo]; exact ⟨(by rw [mdI_1 (by omega)]), rfl⟩)
          ·
            by_cases c_1_108 : m = 108
            ·
              refine sw_tableIn F (108) (91) (tgt := 92) (by omega) c_1_108 dX4_isMode_1 (by decide) (by decide) (by decide) (by decide) ?_
              refine sw_iconst (n := 93) F (1) (by decide) dX4_isMode_92 rfl ?_
              exact sw_iret F _ rfl (by first | rfl | exact jI_nz (by omega) | exact jI_nc (by omega)) dX4_isMode_93 (by rw [hPo]; exact ⟨(by rw [mdI_1 (by omega)]), rfl⟩)
            ·
              by_cases c_1_110 : m = 110
              ·
                refine sw_tableIn F (110) (91) (tgt := 92) (by omega) c_1_110 dX4_isMode_1 (by decide) (by decide) (by decide) (by decide) ?_
                refine sw_iconst (n := 93) F (1) (by decide) dX4_isMode_92 rfl ?_
                exact sw_iret F _ rfl (by first | rfl | exact jI_nz (by omega) | exact jI_nc (by omega)) dX4_isMode_93 (by rw [hPo]; exact ⟨(by rw [mdI_1 (by omega)]), rfl⟩)
              ·
                by_cases c_1_117 : m = 117
                ·
                  refine sw_tableIn F (117) (91) (tgt := 92) (by omega) c_1_117 dX4_isMode_1 (by decide) (by decide) (by decide) (by decide) ?_
                  refine sw_iconst (n := 93) F (1) (by decide) dX4_isMode_92 rfl ?_
                  exact sw_iret F _ rfl (by first | rfl | exact jI_nz (by omega) | exact jI_nc (by omega)) dX4_isMode_93 (by rw [hPo]; exact ⟨(by rw [mdI_1 (by omega)]), rfl⟩)
                ·
                  by_cases c_1_103 : m = 103
                  ·
                    refine sw_tableIn F (103) (93) (tgt := 94) (by omega) c_1_103 dX4_isMode_1 (by decide) (by decide) (by decide) (by decide) ?_
                    refine sw_iconst (n := 95) F (0) (by decide) dX4_isMode_94 rfl ?_
                    exact sw_iret F _ rfl (by first | rfl | exact jI_nz (by omega) | exact jI_nc (by omega)) dX4_isMode_95 (by rw [hPo]; exact ⟨(by rw [mdI_0 (by omega)]), rfl⟩)
                  ·
                    by_cases c_1_105 : m = 105
                    ·
                      refine sw_tableIn F (105) (93) (tgt := 94) (by omega) c_1_105 dX4_isMode_1 (by decide) (by decide) (by decide) (by decide) ?_
                      refine sw_iconst (n := 95) F (0) (by decide) dX4_isMode_94 rfl ?_
                      exact sw_iret F _ rfl (by first | rfl | exact jI_nz (by omega) | exact jI_nc (by omega)) dX4_isMode_95 (by rw [hPo]; exact ⟨(by rw [mdI_0 (by omega)]), rfl⟩)
                    ·
                      by_cases c_1_106 : m = 106
                      ·
                        refine sw_tableIn F (106) (93) (tgt := 94) (by omega) c_1_106 dX4_isMode_1 (by decide) (by decide) (by decide) (by decide) ?_
                        refine sw_iconst (n := 95) F (0) (by decide) dX4_isMode_94 rfl ?_
                        exact sw_iret F _ rfl (by first | rfl | exact jI_nz (by omega) | exact jI_nc (by omega)) dX4_isMode_95 (by rw [hPo]; exact ⟨(by rw [mdI_0 (by omega)]), rfl⟩)
                      ·
                        by_cases c_1_107 : m = 107
                        ·
                          refine sw_tableIn F (107) (93) (tgt := 94) (by omega) c_1_107 dX4_isMode_1 (by decide) (by decide) (by decide) (by decide) ?_
                          refine sw_iconst (n := 95) F (0) (by decide) dX4_isMode_94 rfl ?_
                          exact sw_iret F _ rfl (by first | rfl | exact jI_nz (by omega) | exact jI_nc (by omega)) dX4_isMode_95 (by rw [hPo]; exact ⟨(by rw [mdI_0 (by omega)]), rfl⟩)
                        ·
                          by_cases c_1_109 : m = 109
                          ·
                            refine sw_tableIn F (109) (93) (tgt := 94) (by omega) c_1_109 dX4_isMode_1 (by decide) (by decide) (by decide) (by decide) ?_
                            refine sw_iconst (n := 95) F (0) (by decide) dX4_isMode_94 rfl ?_
                            exact sw_iret F _ rfl (by first | rfl | exact jI_nz (by omega) | exact jI_nc (by omega)) dX4_isMode_95 (by rw [hPo]; exact ⟨(by rw [mdI_0 (by omega)]), rfl⟩)
                          ·
                            by_cases c_1_111 : m = 111
                            ·
                              refine sw_tableIn F (111) (93) (tgt := 94) (by omega) c_1_111 dX4_isMode_1 (by decide) (by decide) (by decide) (by decide) ?_
                              refine sw_iconst (n := 95) F (0) (by decide) dX4_isMode_94 rfl ?_
                              exact sw_iret F _ rfl (by first | rfl | exact jI_nz (by omega) | exact jI_nc (by omega)) dX4_isMode_95 (by rw [hPo]; exact ⟨(by rw [mdI_0 (by omega)]), rfl⟩)
                            ·
                              by_cases c_1_112 : m = 112
                              ·
                                refine sw_tableIn F (112) (93) (tgt := 94) (by omega) c_1_112 dX4_isMode_1 (by decide) (by decide) (by decide) (by decide) ?_
                                refine sw_iconst (n := 95) F (0) (by decide) dX4_isMode_94 rfl ?_
                                exact sw_iret F _ rfl (by first | rfl | exact jI_nz (by omega) | exact jI_nc (by omega)) dX4_isMode_95 (by rw [hPo]; exact ⟨(by rw [mdI_0 (by omega)]), rfl⟩)
                              ·
                                by_cases c_1_113 : m = 113
                                ·
                                  refine sw_tableIn F (113) (93) (tgt := 94) (by omega) c_1_113 dX4_isMode_1 (by decide) (by decide) (by decide) (by decide) ?_
                                  refine sw_iconst (n := 95) F (0) (by decide) dX4_isMode_94 rfl ?_
                                  exact sw_iret F _ rfl (by first | rfl | exact jI_nz (by omega) | exact jI_nc (by omega)) dX4_isMode_95 (by rw [hPo]; exact ⟨(by rw [mdI_0 (by omega)]), rfl⟩)
                                ·
                                  by_cases c_1_114 : m = 114
                                  ·
                                    refine sw_tableIn F (114) (93) (tgt := 94) (by omega) c_1_114 dX4_isMode_1 (by decide) (by decide) (by decide) (by decide) ?_
                                    refine sw_iconst (n := 95) F (0) (by decide) dX4_isMode_94 rfl ?_
                                    exact sw_iret F _ rfl (by first | rfl | exact jI_nz (by omega) | exact jI_nc (by omega)) dX4_isMode_95 (by rw [hPo]; exact ⟨(by rw [mdI_0 (by omega)]), rfl⟩)
                                  ·
                                    by_cases c_1_115 : m = 115
                                    ·
                                      refine sw_tableIn F (115) (93) (tgt := 94) (by omega) c_1_115 dX4_isMode_1 (by decide) (by decide) (by decide) (by decide) ?_
                                      refine sw_iconst (n := 95) F (0) (by decide) dX4_isMode_94 rfl ?_
                                      exact sw_iret F _ rfl (by first | rfl | exact jI_nz (by omega) | exact jI_nc (by omega)) dX4_isMode_95 (by rw [hPo]; exact ⟨(by rw [mdI_0 (by omega)]), rfl⟩)
                                    ·
                                      by_cases c_1_116 : m = 116
                                      ·
                                        refine sw_tableIn F (116) (93) (tgt := 94) (by omega) c_1_116 dX4_isMode_1 (by decide) (by decide) (by decide) (by decide) ?_
                                        refine sw_iconst (n := 95) F (0) (by decide) dX4_isMode_94 rfl ?_
                                        exact sw_iret F _ rfl (by first | rfl | exact jI_nz (by omega) | exact jI_nc (by omega)) dX4_isMode_95 (by rw [hPo]; exact ⟨(by rw [mdI_0 (by omega)]), rfl⟩)
                                      ·
                                        refine sw_tableOut F (tgt := 94) (by omega) dX4_isMode_1 (by omega) (by decide) ?_
                                        refine sw_iconst (n := 95) F (0) (by decide) dX4_isMode_94 rfl ?_
                                        exact sw_iret F _ rfl (by first | rfl | exact jI_nz (by omega) | exact jI_nc (by omega)) dX4_isMode_95 (by rw [hPo]; exact ⟨(by rw [mdI_0 (by omega)]), rfl⟩)
theorem nd_X4_greater : yX4_greater.cls ≠ "java/lang/invoke/MethodHandle" ∧ yX4_greater.cls ≠ "java/lang/invoke/VarHandle" ∧ (parseMethodDescriptor yX4_greater.desc).map (fun d => d.parameters.length) = some 2 := by decide +kernel
set_option maxRecDepth 100000 in
set_option maxHeartbeats 1000000 in
theorem ct_X4_greater {g : GG} {l : Launch} (p : Int) (q : Int) (hp : -2147483648 ≤ p ∧ p ≤ 2147483647) (hq : -2147483648 ≤ q ∧ q ≤ 2147483647) : Ct g l yX4_greater (ws_ yX4_greater cX4_greater 2 (Option.some Jvm.ClassFile.FieldType.int)) 1 12 0 0 [.int (jI p), .int (jI q)] [] (fun v9 Ws9 => v9 = some (.int (jI (grI p q))) ∧ ((q < p ∧ grI p q = p) ∨ (p ≤ q ∧ grI p q = q)) ∧ Ws9 = []) (nox) := by
  refine Ct.of (cc := cX4_greater) (nL := 2) (ret := (Option.some Jvm.ClassFile.FieldType.int)) (by decide) rfl (Nat.le_of_ble_eq_true rfl) ?_
  intro x hg hl hPo hPx hmc hms F
  subst hg; subst hl
  refine SW.cast (L' := [(0, .int (jI p)), (1, .int (jI q))]) ?_ rfl rfl rfl
  have hg := grI_cases p q
  refine sw_iload_n (n := 1) F 0 rfl rfl dX4_greater_0 rfl ?_
  refine sw_iload_n (n := 2) F 1 rfl rfl dX4_greater_1 rfl ?_
  refine sw_icmp_le (n := 5) F (by omega) (by omega) (tgt := 9) dX4_greater_2 (by decide) rfl (fun c_2 => ?_) (fun c_2 => ?_)
  ·
    refine sw_iload_n (n := 10) F 1 rfl rfl dX4_greater_9 rfl ?_
    exact sw_iret F _ rfl (by first | rfl | exact jI_nz (by omega) | exact jI_nc (by omega)) dX4_greater_10 (by rw [hPo]; exact ⟨(by first | (congr 3; omega) | (congr 2; omega) | rfl), (by first | assumption | omega), rfl⟩)
  ·
    refine sw_iload_n (n := 6) F 0 rfl rfl dX4_greater_5 rfl ?_
    refine sw_goto F (n := 10) dX4_greater_6 (by decide) ?_
    exact sw_iret F _ rfl (by first | rfl | exact jI_nz (by omega) | exact jI_nc (by omega)) dX4_greater_10 (by rw [hPo]; exact ⟨(by first | (congr 3; omega) | (congr 2; omega) | rfl), (by first | assumption | omega), rfl⟩)
theorem nd_X4_in : yX4_in.cls ≠ "java/lang/invoke/MethodHandle" ∧ yX4_in.cls ≠ "java/lang/invoke/VarHandle" ∧ (parseMethodDescriptor yX4_in.desc).map (fun d => d.parameters.length) = some 3 := by decide +kernel
set_option maxRecDepth 100000 in
set_option maxHeartbeats 1000000 in
theorem ct_X4_in {g : GG} {l : Launch} (v : Int) (lo : Int) (hi : Int) (hv : -9223372036854775808 ≤ v ∧ v ≤ 9223372036854775807) (hlo : -9223372036854775808 ≤ lo ∧ lo ≤ 9223372036854775807) (hhi : -9223372036854775808 ≤ hi ∧ hi ≤ 9223372036854775807) : Ct g l yX4_in (ws_ yX4_in cX4_in 6 (Option.some Jvm.ClassFile.FieldType.boolean)) 1 12 0 0 [.long (jL v), .long (jL lo), .long (jL hi)] [] (fun v9 Ws9 => v9 = some (.int (jI (inI v lo hi))) ∧ ((inI v lo hi = 1 ∧ lo ≤ v ∧ v ≤ hi) ∨ (inI v lo hi = 0 ∧ (v < lo ∨ hi < v))) ∧ Ws9 = []) (nox) := by
  refine Ct.of (cc := cX4_in) (nL := 6) (ret := (Option.some Jvm.ClassFile.FieldType.boolean)) (by decide) rfl (Nat.le_of_ble_eq_true rfl) ?_
  intro x hg hl hPo hPx hmc hms F
  subst hg; subst hl
  refine SW.cast (L' := [(0, .long (jL v)), (2, .long (jL lo)), (4, .long (jL hi))]) ?_ rfl rfl rfl
  have hg := inI_cases v lo hi
  refine sw_lload_n (n := 1) F 0 rfl rfl dX4_in_0 rfl ?_
  refine sw_lload_n (n := 2) F 1 rfl rfl dX4_in_1 rfl ?_
  refine sw_lcmp (n := 3) F (by omega) (by omega) dX4_in_2 rfl ?_
  refine sw_if_lt (n := 6) F (by omega) (tgt := 17) dX4_in_3 (by decide) rfl (fun c_3 => ?_) (fun c_3 => ?_)
  ·
    have c_3 : v < lo := by revert c_3; (repeat' split) <;> omega
    refine sw_iconst (n := 18) F (0) (by decide) dX4_in_17 rfl ?_
    exact sw_iret F _ rfl (by first | rfl | exact jI_nz (by omega) | exact jI_nc (by omega)) dX4_in_18 (by rw [hPo]; exact ⟨(by first | (congr 3; omega) | (congr 2; omega) | rfl), (by exact inI_cases _ _ _), rfl⟩)
  ·
    have c_3 : v ≥ lo := by revert c_3; (repeat' split) <;> omega
    refine sw_lload_n (n := 7) F 0 rfl rfl dX4_in_6 rfl ?_
    refine sw_lload (n := 9) F 2 rfl dX4_in_7 rfl ?_
    refine sw_lcmp (n := 10) F (by omega) (by omega) dX4_in_9 rfl ?_
    refine sw_if_gt (n := 13) F (by omega) (tgt := 17) dX4_in_10 (by decide) rfl (fun c_10 => ?_) (fun c_10 => ?_)
    ·
      have c_10 : v > hi := by revert c_10; (repeat' split) <;> omega
      refine sw_iconst (n := 18) F (0) (by decide) dX4_in_17 rfl ?_
      exact sw_iret F _ rfl (by first | rfl | exact jI_nz (by omega) | exact jI_nc (by omega)) dX4_in_18 (by rw [hPo]; exact ⟨(by first | (congr 3; omega) | (congr 2; omega) | rfl), (by exact inI_cases _ _ _), rfl⟩)
    ·
      have c_10 : v ≤ hi := by revert c_10; (repeat' split) <;> omega
      refine sw_iconst (n := 14) F (1) (by decide) dX4_in_13 rfl ?_
      refine sw_goto F (n := 18) dX4_in_14 (by decide) ?_
      exact sw_iret F _ rfl (by first | rfl | exact jI_nz (by omega) | exact jI_nc (by omega)) dX4_in_18 (by rw [hPo]; exact ⟨(by first | (congr 3; omega) | (congr 2; omega) | rfl), (by exact inI_cases _ _ _), rfl⟩)
theorem nd_X4_isShelf : yX4_isShelf.cls ≠ "java/lang/invoke/MethodHandle" ∧ yX4_isShelf.cls ≠ "java/lang/invoke/VarHandle" ∧ (parseMethodDescriptor yX4_isShelf.desc).map (fun d => d.parameters.length) = some 1 := by decide +kernel
set_option maxRecDepth 100000 in
set_option maxHeartbeats 1000000 in
theorem ct_X4_isShelf {g : GG} {l : Launch} (k : Int) (hk : -2147483648 ≤ k ∧ k ≤ 2147483647) : Ct g l yX4_isShelf (ws_ yX4_isShelf cX4_isShelf 1 (Option.some Jvm.ClassFile.FieldType.boolean)) 2 37 0 0 [.int (jI k)] [] (fun v9 Ws9 => v9 = some (.int (jI (inI k 0 11))) ∧ ((inI k 0 11 = 1 ∧ 0 ≤ k ∧ k ≤ 11) ∨ (inI k 0 11 = 0 ∧ (k < 0 ∨ 11 < k))) ∧ Ws9 = []) (nox) := by
  refine Ct.of (cc := cX4_isShelf) (nL := 1) (ret := (Option.some Jvm.ClassFile.FieldType.boolean)) (by decide) rfl (Nat.le_of_ble_eq_true rfl) ?_
  intro x hg hl hPo hPx hmc hms F
  subst hg; subst hl
  refine SW.cast (L' := [(0, .int (jI k))]) ?_ rfl rfl rfl
  refine sw_iload_n (n := 1) F 0 rfl rfl dX4_isShelf_0 rfl ?_
  refine sw_i2l (n := 2) F (by omega) dX4_isShelf_1 rfl ?_
  refine sw_lconst (n := 3) F 0 (by decide) dX4_isShelf_2 rfl ?_
  refine sw_ldc2 (n := 6) F (11) q3962 (by decide) dX4_isShelf_3 rfl ?_
  refine sw_callS (n := 9) F (ct_X4_in (g := xg x) (l := xl x) k 0 11 (by first | assumption | omega) (by first | assumption | omega) (by first | assumption | omega)) q3963 q3964 q120 q3965 nd_X4_in rfl (by decide) [] rfl [] rfl 0 0 ⟨by omega, by omega⟩ [] rfl (Nat.le_of_ble_eq_true rfl) dX4_isShelf_6 rfl (fun _ _ h => h.elim) (fun v Ws h => ?_)
  obtain ⟨rfl, hs_1, rfl⟩ := h
  show SW x [] _ _ _ _ [.int (jI (inI k 0 11))]
  exact sw_iret F _ rfl (by first | rfl | exact jI_nz (by omega) | exact jI_nc (by omega)) dX4_isShelf_9 (by rw [hPo]; exact ⟨rfl, (by exact inI_cases _ _ _), rfl⟩)
theorem nd_X4_isScale : yX4_isScale.cls ≠ "java/lang/invoke/MethodHandle" ∧ yX4_isScale.cls ≠ "java/lang/invoke/VarHandle" ∧ (parseMethodDescriptor yX4_isScale.desc).map (fun d => d.parameters.length) = some 1 := by decide +kernel
set_option maxRecDepth 100000 in
set_option maxHeartbeats 1000000 in
theorem ct_X4_isScale {g : GG} {l : Launch} (k : Int) (hk : -2147483648 ≤ k ∧ k ≤ 2147483647) : Ct g l yX4_isScale (ws_ yX4_isScale cX4_isScale 1 (Option.some Jvm.ClassFile.FieldType.boolean)) 2 37 0 0 [.int (jI k)] [] (fun v9 Ws9 => v9 = some (.int (jI (inI k (-18) 36))) ∧ ((inI k (-18) 36 = 1 ∧ -18 ≤ k ∧ k ≤ 36) ∨ (inI k (-18) 36 = 0 ∧ (k < -18 ∨ 36 < k))) ∧ Ws9 = []) (nox) := by
  refine Ct.of (cc := cX4_isScale) (nL := 1) (ret := (Option.some Jvm.ClassFile.FieldType.boolean)) (by decide) rfl (Nat.le_of_ble_eq_true rfl) ?_
  intro x hg hl hPo hPx hmc hms F
  subst hg; subst hl
  refine SW.cast (L' := [(0, .int (jI k))]) ?_ rfl rfl rfl
  refine sw_iload_n (n := 1) F 0 rfl rfl dX4_isScale_0 rfl ?_
  refine sw_i2l (n := 2) F (by omega) dX4_isScale_1 rfl ?_
  refine sw_ldc2 (n := 5) F (-18) q3969 (by decide) dX4_isScale_2 rfl ?_
  refine sw_ldc2 (n := 8) F (36) q3970 (by decide) dX4_isScale_5 rfl ?_
  refine sw_callS (n := 11) F (ct_X4_in (g := xg x) (l := xl x) k (-18) 36 (by first | assumption | omega) (by first | assumption | omega) (by first | assumption | omega)) q3963 q3964 q120 q3965 nd_X4_in rfl (by decide) [] rfl [] rfl 0 0 ⟨by omega, by omega⟩ [] rfl (Nat.le_of_ble_eq_true rfl) dX4_isScale_8 rfl (fun _ _ h => h.elim) (fun v Ws h => ?_)
  obtain ⟨rfl, hs_1, rfl⟩ := h
  show SW x [] _ _ _ _ [.int (jI (inI k (-18) 36))]
  exact sw_iret F _ rfl (by first | rfl | exact jI_nz (by omega) | exact jI_nc (by omega)) dX4_isScale_11 (by rw [hPo]; exact ⟨rfl, (by exact inI_cases _ _ _), rfl⟩)
theorem nd_X4_digitsOf : yX4_digitsOf.cls ≠ "java/lang/invoke/MethodHandle" ∧ yX4_digitsOf.cls ≠ "java/lang/invoke/VarHandle" ∧ (parseMethodDescriptor yX4_digitsOf.desc).map (fun d => d.parameters.length) = some 1 := by decide +kernel
set_option maxRecDepth 100000 in
set_option maxHeartbeats 1000000 in
theorem ct_X4_digitsOf {g : GG} {l : Launch} (v : Int) (hv : -9223372036854775808 ≤ v ∧ v ≤ 9223372036854775807) : Ct g l yX4_digitsOf (ws_ yX4_digitsOf cX4_digitsOf 5 (Option.some Jvm.ClassFile.FieldType.int)) 1 12 0 0 [.long (jL v)] [] (fun v9 Ws9 => v9 = some (.int (jI (↑(dgc v.natAbs)))) ∧ Ws9 = []) (nox) := by
  refine Ct.of (cc := cX4_digitsOf) (nL := 5) (ret := (Option.some Jvm.ClassFile.FieldType.int)) (by decide) rfl (Nat.le_of_ble_eq_true rfl) ?_
  intro x hg hl hPo hPx hmc hms F
  subst hg; subst hl
  refine SW.cast (L' := [(0, .long (jL v))]) ?_ rfl rfl rfl
  refine sw_iconst (n := 1) F (1) (by decide) dX4_digitsOf_0 rfl ?_
  refine sw_istore_n (n := 2) F (L2 := [(2, .int (jI 1)), (0, .long (jL v))]) rfl (by decide) rfl dX4_digitsOf_1 rfl ?_
  refine sw_lload_n (n := 3) F 1 rfl rfl dX4_digitsOf_2 rfl ?_
  refine sw_ldc2 (n := 6) F (10) q3980 (by decide) dX4_digitsOf_3 rfl ?_
  refine sw_ldiv (n := 7) F (by omega) (by decide) (by decide) dX4_digitsOf_6 rfl ?_
  have hr : (v.tdiv 10).natAbs = v.natAbs / 10 := td_rng
  refine sw_lstore_n (n := 8) F (L2 := [(3, .long (jL (v.tdiv 10))), (2, .int (jI 1)), (0, .long (jL v))]) rfl (by decide) rfl dX4_digitsOf_7 rfl ?_
  have K8 : ∀ N8 : Nat, ∀ (k : Int) (t : Int), (-9223372036854775808 ≤ t ∧ t ≤ 9223372036854775807) → ((dgc v.natAbs : Int) = k + (if t = 0 then 0 else (dgc t.natAbs : Int))) → ((t.natAbs) < N8) → SW x [] 0 0 8 [(0, .long (jL v)), (2, .int (jI k)), (3, .long (jL t))] [] := by
    intro N8; induction N8 with
    | zero => intro k t ht hd hmu8; omega
    | succ N8 ih8 =>
      intro k t ht hd hmu8
      refine sw_lload_n (n := 9) F 2 rfl rfl dX4_digitsOf_8 rfl ?_
      refine sw_lconst (n := 10) F 0 (by decide) dX4_digitsOf_9 rfl ?_
      refine sw_lcmp (n := 11) F (by omega) (by decide) dX4_digitsOf_10 rfl ?_
      refine sw_if_eq (n := 14) F (by omega) (tgt := 26) dX4_digitsOf_11 (by decide) rfl (fun c_11 => ?_) (fun c_11 => ?_)
      ·
        have c_11 : t = 0 := by revert c_11; (repeat' split) <;> omega
        refine sw_iload_n (n := 27) F 1 rfl rfl dX4_digitsOf_26 rfl ?_
        exact sw_iret F _ rfl (by first | rfl | exact jI_nz (by omega) | exact jI_nc (by omega)) dX4_digitsOf_27 (by rw [hPo]; exact ⟨(by rw [dgc_e hd c_11]), rfl⟩)
      ·
        have c_11 : t ≠ 0 := by revert c_11; (repeat' split) <;> omega
        refine sw_iinc (n := 17) F 1 (L2 := [(2, .int (jI (k + 1))), (0, .long (jL v)), (3, .long (jL t))]) rfl rfl (by decide) dX4_digitsOf_14 rfl ?_
        refine sw_lload_n (n := 18) F 2 rfl rfl dX4_digitsOf_17 rfl ?_
        refine sw_ldc2 (n := 21) F (10) q3980 (by decide) dX4_digitsOf_18 rfl ?_
        refine sw_ldiv (n := 22) F (by omega) (by decide) (by decide) dX4_digitsOf_21 rfl ?_
        have hr2 : (t.tdiv 10).natAbs = t.natAbs / 10 := td_rng
        refine sw_lstore_n (n := 23) F (L2 := [(3, .long (jL (t.tdiv 10))), (2, .int (jI (k + 1))), (0, .long (jL v))]) rfl (by decide) rfl dX4_digitsOf_22 rfl ?_
        refine sw_goto F (n := 8) dX4_digitsOf_23 (by decide) ?_
        refine sw_loc [2, 1, 0] (L2 := [(0, .long (jL v)), (2, .int (jI (k + 1))), (3, .long (jL (t.tdiv 10)))]) rfl ?_
        exact ih8 (k + 1) (t.tdiv 10) (by first | assumption | omega) (by exact dgc_n hd c_11) (by have := td_lt c_11; omega)
  refine sw_loc [2, 1, 0] (L2 := [(0, .long (jL v)), (2, .int (jI 1)), (3, .long (jL (v.tdiv 10)))]) rfl ?_
  exact K8 _ 1 (v.tdiv 10) (by first | assumption | omega) (by exact dgc_s v) (Nat.lt_succ_self _)
theorem nd_X4_thrown : yX4_thrown.cls ≠ "java/lang/invoke/MethodHandle" ∧ yX4_thrown.cls ≠ "java/lang/invoke/VarHandle" ∧ (parseMethodDescriptor yX4_thrown.desc).map (fun d => d.parameters.length) = some 0 := by decide +kernel
set_option maxRecDepth 100000 in
set_option maxHeartbeats 1000000 in
theorem ct_X4_thrown {g : GG} {l : Launch} (o : Nat) (a : Nat → Nat) (z : Nat → Int)  : Ct g l yX4_thrown (ws_ yX4_thrown cX4_thrown 1 (Option.some Jvm.ClassFile.FieldType.int)) 1 12 0 0 [.ref o] [tmO g o a z] (fun v9 Ws9 => v9 = some (.int (jI (z 8))) ∧ Ws9 = [tmO g o a z]) (nox) := by
  refine Ct.of (cc := cX4_thrown) (nL := 1) (ret := (Option.some Jvm.ClassFile.FieldType.int)) (by decide) rfl (Nat.le_of_ble_eq_true rfl) ?_
  intro x hg hl hPo hPx hmc hms F
  subst hg; subst hl
  refine SW.cast (L' := [(0, .ref o)]) ?_ rfl rfl rfl
  refine sw_aload_n (n := 1) F 0 (some o) rfl rfl rfl dX4_thrown_0 rfl ?_
  refine sw_get (n := 4) F 0 rfl (k := 8) ⟨(RX4, TX4, 50), rfl, by decide, q3807, in_X4, Or.inl rfl⟩ (v := .int (jI (z 8))) rfl dX4_thrown_1 rfl ?_
  exact sw_iret F _ rfl (by first | rfl | exact jI_nz (by omega) | exact jI_nc (by omega)) dX4_thrown_4 (by rw [hPo]; exact ⟨rfl, rfl⟩)
theorem nd_X4_fails : yX4_fails.cls ≠ "java/lang/invoke/MethodHandle" ∧ yX4_fails.cls ≠ "java/lang/invoke/VarHandle" ∧ (parseMethodDescriptor yX4_fails.desc).map (fun d => d.parameters.length) = some 1 := by decide +kernel
set_option maxRecDepth 100000 in
set_option maxHeartbeats 1000000 in
theorem ct_X4_fails {g : GG} {l : Launch} (o : Nat) (a : Nat → Nat) (z : Nat → Int) (p : Int) (hp : -2147483648 ≤ p ∧ p ≤ 2147483647) : Ct g l yX4_fails (ws_ yX4_fails cX4_fails 2 (Option.some Jvm.ClassFile.FieldType.boolean)) 1 12 0 0 [.ref o, .int (jI p)] [tmO g o a z] (fun v9 Ws9 => v9 = some (.int (jI (psI p))) ∧ ((0 < p ∧ psI p = 1) ∨ (p ≤ 0 ∧ psI p = 0)) ∧ Ws9 = [tmO g o a (va_up z 8 p)]) (nox) := by
  refine Ct.of (cc := cX4_fails) (nL := 2) (ret := (Option.some Jvm.ClassFile.FieldType.boolean)) (by decide) rfl (Nat.le_of_ble_eq_true rfl) ?_
  intro x hg hl hPo hPx hmc hms F
  subst hg; subst hl
  refine SW.cast (L' := [(0, .ref o), (1, .int (jI p))]) ?_ rfl rfl rfl
  have hg := psI_cases p
  refine sw_aload_n (n := 1) F 0 (some o) rfl rfl rfl dX4_fails_0 rfl ?_
  refine sw_iload_n (n := 2) F 1 rfl rfl dX4_fails_1 rfl ?_
  refine sw_put (n := 5) F 0 rfl (k := 8) ⟨(RX4, TX4, 50), rfl, by decide, q3807, in_X4, Or.inl rfl⟩ .int ⟨(RX4, TX4, 50), rfl, rfl, tyX4_ok 8 (by decide), nmX4, tyX4, tyX4_ok⟩ rfl rfl (Nat.le_of_ble_eq_true rfl) (fs' := tmF a (va_up z 8 p)) rfl [tmO (xg x) o a (va_up z 8 p)] rfl dX4_fails_2 rfl ?_
  refine sw_iload_n (n := 6) F 1 rfl rfl dX4_fails_5 rfl ?_
  refine sw_if_le (n := 9) F (by omega) (tgt := 13) dX4_fails_6 (by decide) rfl (fun c_6 => ?_) (fun c_6 => ?_)
  ·
    refine sw_iconst (n := 14) F (0) (by decide) dX4_fails_13 rfl ?_
    exact sw_iret F _ rfl (by first | rfl | exact jI_nz (by omega) | exact jI_nc (by omega)) dX4_fails_14 (by rw [hPo]; exact ⟨(by first | (congr 3; omega) | (congr 2; omega) | rfl), (by first | assumption | omega), rfl⟩)
  ·
    refine sw_iconst (n := 10) F (1) (by decide) dX4_fails_9 rfl ?_
    refine sw_goto F (n := 14) dX4_fails_10 (by decide) ?_
    exact sw_iret F _ rfl (by first | rfl | exact jI_nz (by omega) | exact jI_nc (by omega)) dX4_fails_14 (by rw [hPo]; exact ⟨(by first | (congr 3; omega) | (congr 2; omega) | rfl), (by first | assumption | omega), rfl⟩)
theorem nd_X4_lays : yX4_lays.cls ≠ "java/lang/invoke/MethodHandle" ∧ yX4_lays.cls ≠ "java/lang/invoke/VarHandle" ∧ (parseMethodDescriptor yX4_lays.desc).map (fun d => d.parameters.length) = some 4 := by decide +kernel
set_option maxRecDepth 100000 in
set_option maxHeartbeats 1000000 in
theorem ct_X4_lays {g : GG} {l : Launch} (o : Nat) (a : Nat → Nat) (z : Nat → Int) (D : Nat → Nat) (M : Nat → Nat) (N : Nat → Int) (Sc : Nat → Int) (Hs : Nat → Int) (s : Nat) (row : Nat) (n : Nat) (neg : Int) (sc : Int) (hs : s < 12) (hr : row < 10) (hA : Dok D M) (hx : rok D M row n) (hneg : neg = 0 ∨ neg = 1) (hsc : -2147483648 ≤ sc ∧ sc ≤ 2147483647) : Ct g l yX4_lays (ws_ yX4_lays cX4_lays 5 (Option.some Jvm.ClassFile.FieldType.boolean)) 3 58 0 0 [.ref o, .int (jI (↑s)), .int (jI (↑row)), .int (jI neg), .int (jI sc)] [tmO g o a z, aN g 0 (a 0) 2400 D, aN g 0 (a 1) 10 M, aL g (a 3) 12 N, aI g 0 (a 4) 12 Sc, aI g 4 (a 5) 12 Hs] (fun v9 Ws9 => v9 = some (.int (jI (laI n sc))) ∧ (laI n sc = 0 ∨ laI n sc = 1) ∧ Ws9 = [tmO g o a z, aN g 0 (a 0) 2400 D, aN g 0 (a 1) 10 M, aL g (a 3) 12 (up1 (laI n sc) N s (sgn neg n)), aI g 0 (a 4) 12 (up1 (laI n sc) Sc s sc), aI g 4 (a 5) 12 (up1 (laI n sc) Hs s 1)]) (nox) := by
  refine Ct.of (cc := cX4_lays) (nL := 5) (ret := (Option.some Jvm.ClassFile.FieldType.boolean)) (by decide) rfl (Nat.le_of_ble_eq_true rfl) ?_
  intro x hg hl hPo hPx hmc hms F
  subst hg; subst hl
  refine SW.cast (L' := [(0, .ref o), (1, .int (jI (↑s))), (2, .int (jI (↑row))), (3, .int (jI neg)), (4, .int (jI sc))]) ?_ rfl rfl rfl
  have hM := hA.2
  have hMr := hM row hr
  have hlc := laI_cases n sc
  refine sw_aload_n (n := 1) F 0 (some o) rfl rfl rfl dX4_lays_0 rfl ?_
  refine sw_get (n := 4) F 0 rfl (k := 1) ⟨(RX4, TX4, 50), rfl, by decide, q3800, in_X4, Or.inl rfl⟩ (v := .ref (a 1)) rfl dX4_lays_1 rfl ?_
  refine sw_iload_n (n := 5) F 2 rfl rfl dX4_lays_4 rfl ?_
  refine sw_ialoadN (n := 6) F 2 rfl (fun _ => rfl) row rfl (by omega) dX4_lays_5 rfl ?_
  refine sw_bipush (n := 8) F (18) (by decide) dX4_lays_6 rfl ?_
  refine sw_icmp_gt (n := 11) F (by omega) (by decide) (tgt := 19) dX4_lays_8 (by decide) rfl (fun c_8 => ?_) (fun c_8 => ?_)
  ·
    refine sw_iconst (n := 20) F (0) (by decide) dX4_lays_19 rfl ?_
    exact sw_iret F _ rfl (by first | rfl | exact jI_nz (by omega) | exact jI_nc (by omega)) dX4_lays_20 (by rw [hPo]; exact ⟨(by first | rw [laI_00 (rok_19 hx (by omega))] | rw [laI_0 (by omega)]), (by exact laI_cases _ _), (by first | (have e := laI_00 (sc := sc) (rok_19 hx (by omega)); simp only [up1_0 e]) | (have e := laI_0 (n := n) (sc := sc) (by omega); simp only [up1_0 e]))⟩)
  ·
    refine sw_iload (n := 13) F 4 rfl dX4_lays_11 rfl ?_
    refine sw_callS (n := 16) F (ct_X4_isScale (g := xg x) (l := xl x) sc hsc) q3966 q3967 q120 q3968 nd_X4_isScale rfl (by decide) [0, 1, 2, 3, 4, 5] rfl [tmO (xg x) o a z, aN (xg x) 0 (a 0) 2400 D, aN (xg x) 0 (a 1) 10 M, aL (xg x) (a 3) 12 N, aI (xg x) 0 (a 4) 12 Sc, aI (xg x) 4 (a 5) 12 Hs] rfl 0 0 ⟨by omega, by omega⟩ [] rfl (Nat.le_of_ble_eq_true rfl) dX4_lays_13 rfl (fun _ _ h => h.elim) (fun v Ws h => ?_)
    obtain ⟨rfl, hs_1, rfl⟩ := h
    show SW x [tmO (xg x) o a z, aN (xg x) 0 (a 0) 2400 D, aN (xg x) 0 (a 1) 10 M, aL (xg x) (a 3) 12 N, aI (xg x) 0 (a 4) 12 Sc, aI (xg x) 4 (a 5) 12 Hs] _ _ _ _ [.int (jI (inI sc (-18) 36))]
    refine sw_if_ne (n := 19) F (by omega) (tgt := 21) dX4_lays_16 (by decide) rfl (fun c_16 => ?_) (fun c_16 => ?_)
    ·
      have h18 : n < 10 ^ 18 := rok_18 hx (by omega)
      refine sw_aload_n (n := 22) F 0 (some o) rfl rfl rfl dX4_lays_21 rfl ?_
      refine sw_get (n := 25) F 0 rfl (k := 3) ⟨(RX4, TX4, 50), rfl, by decide, q3802, in_X4, Or.inl rfl⟩ (v := .ref (a 3)) rfl dX4_lays_22 rfl ?_
      refine sw_iload_n (n := 26) F 1 rfl rfl dX4_lays_25 rfl ?_
      refine sw_iload_n (n := 27) F 3 rfl rfl dX4_lays_26 rfl ?_
      refine sw_if_eq (n := 30) F (by omega) (tgt := 39) dX4_lays_27 (by decide) rfl (fun c_27 => ?_) (fun c_27 => ?_)
      ·
        refine sw_aload_n (n := 40) F 0 (some o) rfl rfl rfl dX4_lays_39 rfl ?_
        refine sw_iload_n (n := 41) F 2 rfl rfl dX4_lays_40 rfl ?_
        refine sw_callV (n := 44) F (ct_X4_value (g := xg x) (l := xl x) o a z D M row n hr hA hx) (rcv_ob F 0 (ci := 3) rfl rfl) q4024 q4026 qs76 q120 q4027 nd_X4_value rfl (by decide) [0, 1, 2, 3, 4, 5] rfl [aL (xg x) (a 3) 12 N, aI (xg x) 0 (a 4) 12 Sc, aI (xg x) 4 (a 5) 12 Hs] rfl 0 0 ⟨by omega, by omega⟩ [.int (jI (↑s)), .ref (a 3)] rfl (Nat.le_of_ble_eq_true rfl) dX4_lays_41 rfl (fun _ _ h => h.elim) (fun v Ws h => ?_)
        obtain ⟨rfl, rfl⟩ := h
        show SW x [tmO (xg x) o a z, aN (xg x) 0 (a 0) 2400 D, aN (xg x) 0 (a 1) 10 M, aL (xg x) (a 3) 12 N, aI (xg x) 0 (a 4) 12 Sc, aI (xg x) 4 (a 5) 12 Hs] _ _ _ _ [.long (jL (↑n)), .int (jI (↑s)), .ref (a 3)]
        refine sw_lastoreL (n := 45) F 3 rfl (fun _ => rfl) s rfl (by omega) [tmO (xg x) o a z, aN (xg x) 0 (a 0) 2400 D, aN (xg x) 0 (a 1) 10 M, aL (xg x) (a 3) 12 (va_up N s (↑n)), aI (xg x) 0 (a 4) 12 Sc, aI (xg x) 4 (a 5) 12 Hs] (by rfl) dX4_lays_44 rfl ?_
        refine sw_aload_n (n := 46) F 0 (some o) rfl rfl rfl dX4_lays_45 rfl ?_
        refine sw_get (n := 49) F 0 rfl (k := 4) ⟨(RX4, TX4, 50), rfl, by decide, q3803, in_X4, Or.inl rfl⟩ (v := .ref (a 4)) rfl dX4_lays_46 rfl ?_
        refine sw_iload_n (n := 50) F 1 rfl rfl dX4_lays_49 rfl ?_
        refine sw_iload (n := 52) F 4 rfl dX4_lays_50 rfl ?_
        refine sw_iastoreI (n := 53) F 4 rfl (fun _ => rfl) s rfl (by omega) [tmO (xg x) o a z, aN (xg x) 0 (a 0) 2400 D, aN (xg x) 0 (a 1) 10 M, aL (xg x) (a 3) 12 (va_up N s (↑n)), aI (xg x) 0 (a 4) 12 (va_up Sc s sc), aI (xg x) 4 (a 5) 12 Hs] (by rfl) dX4_lays_52 rfl ?_
        refine sw_aload_n (n := 54) F 0 (some o) rfl rfl rfl dX4_lays_53 rfl ?_
        refine sw_get (n := 57) F 0 rfl (k := 5) ⟨(RX4, TX4, 50), rfl, by decide, q3804, in_X4, Or.inl rfl⟩ (v := .ref (a 5)) rfl dX4_lays_54 rfl ?_
        refine sw_iload_n (n := 58) F 1 rfl rfl dX4_lays_57 rfl ?_
        refine sw_iconst (n := 59) F (1) (by decide) dX4_lays_58 rfl ?_
        refine sw_zastoreI (n := 60) F 5 rfl (fun _ => rfl) s rfl (by omega) (by omega) [tmO (xg x) o a z, aN (xg x) 0 (a 0) 2400 D, aN (xg x) 0 (a 1) 10 M, aL (xg x) (a 3) 12 (va_up N s (↑n)), aI (xg x) 0 (a 4) 12 (va_up Sc s sc), aI (xg x) 4 (a 5) 12 (va_up Hs s 1)] (by rfl) dX4_lays_59 rfl ?_
        refine sw_iconst (n := 61) F (1) (by decide) dX4_lays_60 rfl ?_
        exact sw_iret F _ rfl (by first | rfl | exact jI_nz (by omega) | exact jI_nc (by omega)) dX4_lays_61 (by rw [hPo]; exact ⟨(by rw [laI_1 h18 (by omega)]), (by exact laI_cases _ _), (by have e := laI_1 h18 (sc := sc) (by omega); simp only [up1_1 e]; first | rw [sgn_0 (by omega)] | rw [sgn_1 hneg (by omega)])⟩)
      ·
        refine sw_aload_n (n := 31) F 0 (some o) rfl rfl rfl dX4_lays_30 rfl ?_
        refine sw_iload_n (n := 32) F 2 rfl rfl dX4_lays_31 rfl ?_
        refine sw_callV (n := 35) F (ct_X4_value (g := xg x) (l := xl x) o a z D M row n hr hA hx) (rcv_ob F 0 (ci := 3) rfl rfl) q4024 q4026 qs76 q120 q4027 nd_X4_value rfl (by decide) [0, 1, 2, 3, 4, 5] rfl [aL (xg x) (a 3) 12 N, aI (xg x) 0 (a 4) 12 Sc, aI (xg x) 4 (a 5) 12 Hs] rfl 0 0 ⟨by omega, by omega⟩ [.int (jI (↑s)), .ref (a 3)] rfl (Nat.le_of_ble_eq_true rfl) dX4_lays_32 rfl (fun _ _ h => h.elim) (fun v Ws h => ?_)
        obtain ⟨rfl, rfl⟩ := h
        show SW x [tmO (xg x) o a z, aN (xg x) 0 (a 0) 2400 D, aN (xg x) 0 (a 1) 10 M, aL (xg x) (a 3) 12 N, aI (xg x) 0 (a 4) 12 Sc, aI (xg x) 4 (a 5) 12 Hs] _ _ _ _ [.long (jL (↑n)), .int (jI (↑s)), .ref (a 3)]
        refine sw_lneg (n := 36) F dX4_lays_35 rfl ?_
        refine sw_goto F (n := 44) dX4_lays_36 (by decide) ?_
        refine sw_lastoreL (n := 45) F 3 rfl (fun _ => rfl) s rfl (by omega) [tmO (xg x) o a z, aN (xg x) 0 (a 0) 2400 D, aN (xg x) 0 (a 1) 10 M, aL (xg x) (a 3) 12 (va_up N s (-(↑n))), aI (xg x) 0 (a 4) 12 Sc, aI (xg x) 4 (a 5) 12 Hs] (by rfl) dX4_lays_44 rfl ?_
        refine sw_aload_n (n := 46) F 0 (some o) rfl rfl rfl dX4_lays_45 rfl ?_
        refine sw_get (n := 49) F 0 rfl (k := 4) ⟨(RX4, TX4, 50), rfl, by decide, q3803, in_X4, Or.inl rfl⟩ (v := .ref (a 4)) rfl dX4_lays_46 rfl ?_
        refine sw_iload_n (n := 50) F 1 rfl rfl dX4_lays_49 rfl ?_
        refine sw_iload (n := 52) F 4 rfl dX4_lays_50 rfl ?_
        refine sw_iastoreI (n := 53) F 4 rfl (fun _ => rfl) s rfl (by omega) [tmO (xg x) o a z, aN (xg x) 0 (a 0) 2400 D, aN (xg x) 0 (a 1) 10 M, aL (xg x) (a 3) 12 (va_up N s (-(↑n))), aI (xg x) 0 (a 4) 12 (va_up Sc s sc), aI (xg x) 4 (a 5) 12 Hs] (by rfl) dX4_lays_52 rfl ?_
        refine sw_aload_n (n := 54) F 0 (some o) rfl rfl rfl dX4_lays_53 rfl ?_
        refine sw_get (n := 57) F 0 rfl (k := 5) ⟨(RX4, TX4, 50), rfl, by decide, q3804, in_X4, Or.inl rfl⟩ (v := .ref (a 5)) rfl dX4_lays_54 rfl ?_
        refine sw_iload_n (n := 58) F 1 rfl rfl dX4_lays_57 rfl ?_
        refine sw_iconst (n := 59) F (1) (by decide) dX4_lays_58 rfl ?_
        refine sw_zastoreI (n := 60) F 5 rfl (fun _ => rfl) s rfl (by omega) (by omega) [tmO (xg x) o a z, aN (xg x) 0 (a 0) 2400 D, aN (xg x) 0 (a 1) 10 M, aL (xg x) (a 3) 12 (va_up N s (-(↑n))), aI (xg x) 0 (a 4) 12 (va_up Sc s sc), aI (xg x) 4 (a 5) 12 (va_up Hs s 1)] (by rfl) dX4_lays_59 rfl ?_
        refine sw_iconst (n := 61) F (1) (by decide) dX4_lays_60 rfl ?_
        exact sw_iret F _ rfl (by first | rfl | exact jI_nz (by omega) | exact jI_nc (by omega)) dX4_lays_61 (by rw [hPo]; exact ⟨(by rw [laI_1 h18 (by omega)]), (by exact laI_cases _ _), (by have e := laI_1 h18 (sc := sc) (by omega); simp only [up1_1 e]; first | rw [sgn_0 (by omega)] | rw [sgn_1 hneg (by omega)])⟩)
    ·
      refine sw_iconst (n := 20) F (0) (by decide) dX4_lays_19 rfl ?_
      exact sw_iret F _ rfl (by first | rfl | exact jI_nz (by omega) | exact jI_nc (by omega)) dX4_lays_20 (by rw [hPo]; exact ⟨(by first | rw [laI_00 (rok_19 hx (by omega))] | rw [laI_0 (by omega)]), (by exact laI_cases _ _), (by first | (have e := laI_00 (sc := sc) (rok_19 hx (by omega)); simp only [up1_0 e]) | (have e := laI_0 (n := n) (sc := sc) (by omega); simp only [up1_0 e]))⟩)
