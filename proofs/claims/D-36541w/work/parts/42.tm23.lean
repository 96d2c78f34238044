def ltF (Pl Rs Rt Md : Nat → Int) (c d : Nat) (u : Int) : Int := if chR Pl Rs Rt Md c d u 0 = 1 then chR Pl Rs Rt Md c d u 0 else chR Pl Rs Rt Md d c (chA Pl Rs Rt Md c d u 0) 0
theorem cd2_lt {c p rf : Int} (h : p = 0) (h1 : rf ≠ 1) : cd2 c p (lrI rf 1) = 0 := cd2_rt h h1 (by decide)
theorem nd_X4_noMoney : yX4_noMoney.cls ≠ "java/lang/invoke/MethodHandle" ∧ yX4_noMoney.cls ≠ "java/lang/invoke/VarHandle" ∧ (parseMethodDescriptor yX4_noMoney.desc).map (fun d => d.parameters.length) = some 3 := by decide +kernel
set_option maxRecDepth 100000 in
set_option maxHeartbeats 16000000 in
theorem ct_X4_noMoney {g : GG} {l : Launch} (o : Nat) (a : Nat → Nat) (z : Nat → Int) (Rt : Nat → Int) (c : Int) (d : Int) (u : Int) (hc : -2147483648 ≤ c ∧ c ≤ 2147483647) (hd : -2147483648 ≤ d ∧ d ≤ 2147483647) (hu : -9223372036854775808 ≤ u ∧ u ≤ 9223372036854775807) (hRt : RtB Rt) : Ct g l yX4_noMoney (ws_ yX4_noMoney cX4_noMoney 5 (Option.some Jvm.ClassFile.FieldType.int)) 3 57 0 0 [.ref o, .int (jI c), .int (jI d), .long (jL u)] [tmO g o a z, aL g (a 12) 16 Rt] (fun v9 Ws9 => v9 = some (.int (jI (nmC c d u Rt))) ∧ ((nmC c d u Rt = 1 ∧ (c < 0 ∨ 3 < c ∨ d < 0 ∨ 3 < d)) ∨ (nmC c d u Rt = 2 ∧ ¬(c < 0 ∨ 3 < c ∨ d < 0 ∨ 3 < d) ∧ (c = d ∨ u < 0 ∨ 1000000000000 < u)) ∨ (nmC c d u Rt = 3 ∧ ¬(c < 0 ∨ 3 < c ∨ d < 0 ∨ 3 < d) ∧ ¬(c = d ∨ u < 0 ∨ 1000000000000 < u) ∧ (Rt (4 * c + d).toNat = 0)) ∨ (nmC c d u Rt = 0 ∧ ¬(c < 0 ∨ 3 < c ∨ d < 0 ∨ 3 < d) ∧ ¬(c = d ∨ u < 0 ∨ 1000000000000 < u) ∧ ¬(Rt (4 * c + d).toNat = 0))) ∧ Ws9 = [tmO g o a z, aL g (a 12) 16 Rt]) (nox) := by
  refine Ct.of (cc := cX4_noMoney) (nL := 5) (ret := (Option.some Jvm.ClassFile.FieldType.int)) (by decide) rfl (Nat.le_of_ble_eq_true rfl) ?_
  intro x hg hl hPo hPx hmc hms F
  subst hg; subst hl
  refine SW.cast (L' := [(0, .ref o), (1, .int (jI c)), (2, .int (jI d)), (3, .long (jL u))]) ?_ rfl rfl rfl
  have hrt := hRt (4 * c + d).toNat
  refine sw_iload_n (n := 1) F 1 rfl rfl dX4_noMoney_0 rfl ?_
  refine sw_callS (n := 4) F (ct_X4_isCurrency (g := xg x) (l := xl x) c hc) q4162 q4163 q120 q4164 nd_X4_isCurrency rfl (by decide) [0, 1] rfl [tmO (xg x) o a z, aL (xg x) (a 12) 16 Rt] rfl 0 0 ⟨by omega, by omega⟩ [] rfl (Nat.le_of_ble_eq_true rfl) dX4_noMoney_1 rfl (fun _ _ h => h.elim) (fun v Ws h => ?_)
  obtain ⟨rfl, hs_1, rfl⟩ := h
  show SW x [tmO (xg x) o a z, aL (xg x) (a 12) 16 Rt] _ _ _ _ [.int (jI (inI c 0 3))]
  refine sw_if_eq (n := 7) F (by omega) (tgt := 14) dX4_noMoney_4 (by decide) rfl (fun c_4 => ?_) (fun c_4 => ?_)
  ·
    refine sw_iconst (n := 15) F (1) (by decide) dX4_noMoney_14 rfl ?_
    refine sw_goto F (n := 58) dX4_noMoney_15 (by decide) ?_
    have e9 : nmC c d u Rt = 1 := by unfold nmC; (repeat' split) <;> omega
    exact sw_iret F _ rfl (by first | rfl | exact jI_nz (by omega) | exact jI_nc (by omega)) dX4_noMoney_58 (by rw [hPo]; exact ⟨(by rw [e9]), (by exact nmC_c c d u Rt), rfl⟩)
  ·
    refine sw_iload_n (n := 8) F 2 rfl rfl dX4_noMoney_7 rfl ?_
    refine sw_callS (n := 11) F (ct_X4_isCurrency (g := xg x) (l := xl x) d hd) q4162 q4163 q120 q4164 nd_X4_isCurrency rfl (by decide) [0, 1] rfl [tmO (xg x) o a z, aL (xg x) (a 12) 16 Rt] rfl 0 0 ⟨by omega, by omega⟩ [] rfl (Nat.le_of_ble_eq_true rfl) dX4_noMoney_8 rfl (fun _ _ h => h.elim) (fun v Ws h => ?_)
    obtain ⟨rfl, hs_2, rfl⟩ := h
    show SW x [tmO (xg x) o a z, aL (xg x) (a 12) 16 Rt] _ _ _ _ [.int (jI (inI d 0 3))]
    refine sw_if_ne (n := 14) F (by omega) (tgt := 18) dX4_noMoney_11 (by decide) rfl (fun c_11 => ?_) (fun c_11 => ?_)
    ·
      refine sw_iload_n (n := 19) F 1 rfl rfl dX4_noMoney_18 rfl ?_
      refine sw_iload_n (n := 20) F 2 rfl rfl dX4_noMoney_19 rfl ?_
      refine sw_icmp_eq (n := 23) F (by omega) (by omega) (tgt := 34) dX4_noMoney_20 (by decide) rfl (fun c_20 => ?_) (fun c_20 => ?_)
      ·
        refine sw_iconst (n := 35) F (2) (by decide) dX4_noMoney_34 rfl ?_
        refine sw_goto F (n := 58) dX4_noMoney_35 (by decide) ?_
        have e9 : nmC c d u Rt = 2 := by unfold nmC; (repeat' split) <;> omega
        exact sw_iret F _ rfl (by first | rfl | exact jI_nz (by omega) | exact jI_nc (by omega)) dX4_noMoney_58 (by rw [hPo]; exact ⟨(by rw [e9]), (by exact nmC_c c d u Rt), rfl⟩)
      ·
        refine sw_lload_n (n := 24) F 3 rfl rfl dX4_noMoney_23 rfl ?_
        refine sw_lconst (n := 25) F 0 (by decide) dX4_noMoney_24 rfl ?_
        refine sw_ldc2 (n := 28) F (1000000000000) q4179 (by decide) dX4_noMoney_25 rfl ?_
        refine sw_callS (n := 31) F (ct_X4_in (g := xg x) (l := xl x) u 0 1000000000000 hu (by first | omega | assumption) (by first | omega | assumption)) q3963 q3964 q120 q3965 nd_X4_in rfl (by decide) [0, 1] rfl [tmO (xg x) o a z, aL (xg x) (a 12) 16 Rt] rfl 0 0 ⟨by omega, by omega⟩ [] rfl (Nat.le_of_ble_eq_true rfl) dX4_noMoney_28 rfl (fun _ _ h => h.elim) (fun v Ws h => ?_)
        obtain ⟨rfl, hs_3, rfl⟩ := h
        show SW x [tmO (xg x) o a z, aL (xg x) (a 12) 16 Rt] _ _ _ _ [.int (jI (inI u 0 1000000000000))]
        refine sw_if_ne (n := 34) F (by omega) (tgt := 38) dX4_noMoney_31 (by decide) rfl (fun c_31 => ?_) (fun c_31 => ?_)
        ·
          refine sw_aload_n (n := 39) F 0 (some o) rfl rfl rfl dX4_noMoney_38 rfl ?_
          refine sw_get (n := 42) F 0 rfl (k := 12) ⟨(RX4, TX4, 50), rfl, by decide, q3811, in_X4, Or.inl rfl⟩ (v := .ref (a 12)) rfl dX4_noMoney_39 rfl ?_
          refine sw_iconst (n := 43) F (4) (by decide) dX4_noMoney_42 rfl ?_
          refine sw_iload_n (n := 44) F 1 rfl rfl dX4_noMoney_43 rfl ?_
          refine sw_imul (n := 45) F dX4_noMoney_44 rfl ?_
          refine sw_iload_n (n := 46) F 2 rfl rfl dX4_noMoney_45 rfl ?_
          refine sw_iadd (n := 47) F dX4_noMoney_46 rfl ?_
          refine sw_laloadL (n := 48) F 1 rfl (fun _ => rfl) (((4 * c) + d : Int).toNat) (by omega) (by omega) dX4_noMoney_47 rfl ?_
          refine sw_lconst (n := 49) F 0 (by decide) dX4_noMoney_48 rfl ?_
          refine sw_lcmp (n := 50) F (by omega) (by decide) dX4_noMoney_49 rfl ?_
          refine sw_if_ne (n := 53) F (by omega) (tgt := 57) dX4_noMoney_50 (by decide) rfl (fun c_50 => ?_) (fun c_50 => ?_)
          ·
            have c_50 : Rt (((4 * c) + d : Int).toNat) ≠ 0 := by revert c_50; (repeat' split) <;> omega
            refine sw_iconst (n := 58) F (0) (by decide) dX4_noMoney_57 rfl ?_
            have e9 : nmC c d u Rt = 0 := by unfold nmC; (repeat' split) <;> omega
            exact sw_iret F _ rfl (by first | rfl | exact jI_nz (by omega) | exact jI_nc (by omega)) dX4_noMoney_58 (by rw [hPo]; exact ⟨(by rw [e9]), (by exact nmC_c c d u Rt), rfl⟩)
          ·
            have c_50 : Rt (((4 * c) + d : Int).toNat) = 0 := by revert c_50; (repeat' split) <;> omega
            refine sw_iconst (n := 54) F (3) (by decide) dX4_noMoney_53 rfl ?_
            refine sw_goto F (n := 58) dX4_noMoney_54 (by decide) ?_
            have e9 : nmC c d u Rt = 3 := by unfold nmC; (repeat' split) <;> omega
            exact sw_iret F _ rfl (by first | rfl | exact jI_nz (by omega) | exact jI_nc (by omega)) dX4_noMoney_58 (by rw [hPo]; exact ⟨(by rw [e9]), (by exact nmC_c c d u Rt), rfl⟩)
        ·
          refine sw_iconst (n := 35) F (2) (by decide) dX4_noMoney_34 rfl ?_
          refine sw_goto F (n := 58) dX4_noMoney_35 (by decide) ?_
          have e9 : nmC c d u Rt = 2 := by unfold nmC; (repeat' split) <;> omega
          exact sw_iret F _ rfl (by first | rfl | exact jI_nz (by omega) | exact jI_nc (by omega)) dX4_noMoney_58 (by rw [hPo]; exact ⟨(by rw [e9]), (by exact nmC_c c d u Rt), rfl⟩)
    ·
      refine sw_iconst (n := 15) F (1) (by decide) dX4_noMoney_14 rfl ?_
      refine sw_goto F (n := 58) dX4_noMoney_15 (by decide) ?_
      have e9 : nmC c d u Rt = 1 := by unfold nmC; (repeat' split) <;> omega
      exact sw_iret F _ rfl (by first | rfl | exact jI_nz (by omega) | exact jI_nc (by omega)) dX4_noMoney_58 (by rw [hPo]; exact ⟨(by rw [e9]), (by exact nmC_c c d u Rt), rfl⟩)
theorem nd_X4_change : yX4_change.cls ≠ "java/lang/invoke/MethodHandle" ∧ yX4_change.cls ≠ "java/lang/invoke/VarHandle" ∧ (parseMethodDescriptor yX4_change.desc).map (fun d => d.parameters.length) = some 3 := by decide +kernel
set_option maxRecDepth 100000 in
set_option maxHeartbeats 16000000 in
theorem ct_X4_change {g : GG} {l : Launch} (o : Nat) (a : Nat → Nat) (z : Nat → Int) (D : Nat → Nat) (M : Nat → Nat) (Pl : Nat → Int) (Md : Nat → Int) (Rt : Nat → Int) (Rs : Nat → Int) (c : Int) (d : Int) (u : Int) (hA : Dok D M) (hc : -2147483648 ≤ c ∧ c ≤ 2147483647) (hd : -2147483648 ≤ d ∧ d ≤ 2147483647) (hu : -9223372036854775808 ≤ u ∧ u ≤ 9223372036854775807) (hPl : PlB Pl) (hMd : MdB Md) (hRt : RtB Rt) (hRs : SB Rs) : Ct g l yX4_change (ws_ yX4_change cX4_change 7 (Option.some Jvm.ClassFile.FieldType.long)) 7 153 0 0 [.ref o, .int (jI c), .int (jI d), .long (jL u)] [tmO g o a z, aN g 0 (a 0) 2400 D, aN g 0 (a 1) 10 M, aI g 0 (a 9) 4 Pl, aI g 2 (a 11) 4 Md, aL g (a 12) 16 Rt, aI g 0 (a 13) 16 Rs] (fun v9 Ws9 => ∃ D1 : Nat → Nat, ∃ M1 : Nat → Nat, v9 = some (.long (jL (if0 (cd2 4 (nmC c d u Rt) (lrI (chR Pl Rs Rt Md c.toNat d.toNat u 0) 1)) (chA Pl Rs Rt Md c.toNat d.toNat u 0)))) ∧ (RV [0, 1, 2, 3, 5, 6, 7, 8, 9] D M D1 M1) ∧ Ws9 = [tmO g o a (va_up (up0 (nmC c d u Rt) z 2 (chR Pl Rs Rt Md c.toNat d.toNat u 0)) 8 (cd2 4 (nmC c d u Rt) (lrI (chR Pl Rs Rt Md c.toNat d.toNat u 0) 1))), aN g 0 (a 0) 2400 D1, aN g 0 (a 1) 10 M1, aI g 0 (a 9) 4 Pl, aI g 2 (a 11) 4 Md, aL g (a 12) 16 Rt, aI g 0 (a 13) 16 Rs]) (nox) := by
  refine Ct.of (cc := cX4_change) (nL := 7) (ret := (Option.some Jvm.ClassFile.FieldType.long)) (by decide) rfl (Nat.le_of_ble_eq_true rfl) ?_
  intro x hg hl hPo hPx hmc hms F
  subst hg; subst hl
  refine SW.cast (L' := [(0, .ref o), (1, .int (jI c)), (2, .int (jI d)), (3, .long (jL u))]) ?_ rfl rfl rfl
  refine sw_aload_n (n := 1) F 0 (some o) rfl rfl rfl dX4_change_0 rfl ?_
  refine sw_aload_n (n := 2) F 0 (some o) rfl rfl rfl dX4_change_1 rfl ?_
  refine sw_iload_n (n := 3) F 1 rfl rfl dX4_change_2 rfl ?_
  refine sw_iload_n (n := 4) F 2 rfl rfl dX4_change_3 rfl ?_
  refine sw_lload_n (n := 5) F 3 rfl rfl dX4_change_4 rfl ?_
  refine sw_callV (n := 8) F (ct_X4_noMoney (g := xg x) (l := xl x) o a z Rt c d u hc hd hu hRt) (rcv_ob F 0 (ci := 3) rfl rfl) q4175 q4177 qs92 q120 q4178 nd_X4_noMoney rfl (by decide) [0, 5, 1, 2, 3, 4, 6] rfl [aN (xg x) 0 (a 0) 2400 D, aN (xg x) 0 (a 1) 10 M, aI (xg x) 0 (a 9) 4 Pl, aI (xg x) 2 (a 11) 4 Md, aI (xg x) 0 (a 13) 16 Rs] rfl 0 0 ⟨by omega, by omega⟩ [.ref o] rfl (Nat.le_of_ble_eq_true rfl) dX4_change_5 rfl (fun _ _ h => h.elim) (fun v Ws h => ?_)
  obtain ⟨rfl, hnm_1, rfl⟩ := h
  show SW x [tmO (xg x) o a z, aL (xg x) (a 12) 16 Rt, aN (xg x) 0 (a 0) 2400 D, aN (xg x) 0 (a 1) 10 M, aI (xg x) 0 (a 9) 4 Pl, aI (xg x) 2 (a 11) 4 Md, aI (xg x) 0 (a 13) 16 Rs] _ _ _ _ [.int (jI (nmC c d u Rt)), .ref o]
  refine sw_callV (n := 11) F (ct_X4_fails (g := xg x) (l := xl x) o a z (nmC c d u Rt) (by first | omega | assumption)) (rcv_ob F 0 (ci := 3) rfl rfl) q3973 q3975 qs68 q120 q3976 nd_X4_fails rfl (by decide) [0, 1, 2, 3, 4, 5, 6] rfl [aL (xg x) (a 12) 16 Rt, aN (xg x) 0 (a 0) 2400 D, aN (xg x) 0 (a 1) 10 M, aI (xg x) 0 (a 9) 4 Pl, aI (xg x) 2 (a 11) 4 Md, aI (xg x) 0 (a 13) 16 Rs] rfl 0 0 ⟨by omega, by omega⟩ [] rfl (Nat.le_of_ble_eq_true rfl) dX4_change_8 rfl (fun _ _ h => h.elim) (fun v Ws h => ?_)
  obtain ⟨rfl, hps_2, rfl⟩ := h
  show SW x [tmO (xg x) o a (va_up z 8 (nmC c d u Rt)), aL (xg x) (a 12) 16 Rt, aN (xg x) 0 (a 0) 2400 D, aN (xg x) 0 (a 1) 10 M, aI (xg x) 0 (a 9) 4 Pl, aI (xg x) 2 (a 11) 4 Md, aI (xg x) 0 (a 13) 16 Rs] _ _ _ _ [.int (jI (psI (nmC c d u Rt)))]
  refine sw_if_eq (n := 14) F (by omega) (tgt := 16) dX4_change_11 (by decide) rfl (fun c_11 => ?_) (fun c_11 => ?_)
  ·
    have e0 : nmC c d u Rt = 0 := by omega
    have rg0 : 0 ≤ c ∧ c ≤ 3 := by omega
    have rg1 : 0 ≤ d ∧ d ≤ 3 := by omega
    have rg2 : 0 ≤ u ∧ u ≤ 1000000000000 := by omega
    clear c_11 hnm_1 hps_2
    refine SW.cast (L' := [(0, .ref o), (1, .int (jI (↑(c.toNat)))), (2, .int (jI (↑(d.toNat)))), (3, .long (jL u))]) ?_ rfl (by rw [Int.toNat_of_nonneg (show 0 ≤ c by omega), Int.toNat_of_nonneg (show 0 ≤ d by omega)]) rfl
    refine sw_aload_n (n := 17) F 0 (some o) rfl rfl rfl dX4_change_16 rfl ?_
    refine sw_iconst (n := 18) F (0) (by decide) dX4_change_17 rfl ?_
    refine sw_put (n := 21) F 0 rfl (k := 2) ⟨(RX4, TX4, 50), rfl, by decide, q3801, in_X4, Or.inl rfl⟩ .boolean ⟨(RX4, TX4, 50), rfl, rfl, tyX4_ok 2 (by decide), nmX4, tyX4, tyX4_ok⟩ (jI_nz (by first | decide | omega)) (jI_fz (by first | decide | omega)) (Nat.le_of_ble_eq_true rfl) (fs' := tmF a (va_up (va_up z 2 0) 8 (nmC c d u Rt))) rfl [tmO (xg x) o a (va_up (va_up z 2 0) 8 (nmC c d u Rt)), aL (xg x) (a 12) 16 Rt, aN (xg x) 0 (a 0) 2400 D, aN (xg x) 0 (a 1) 10 M, aI (xg x) 0 (a 9) 4 Pl, aI (xg x) 2 (a 11) 4 Md, aI (xg x) 0 (a 13) 16 Rs] rfl dX4_change_18 rfl ?_
    refine sw_aload_n (n := 22) F 0 (some o) rfl rfl rfl dX4_change_21 rfl ?_
    refine sw_iload_n (n := 23) F 1 rfl rfl dX4_change_22 rfl ?_
    refine sw_iload_n (n := 24) F 2 rfl rfl dX4_change_23 rfl ?_
    refine sw_lload_n (n := 25) F 3 rfl rfl dX4_change_24 rfl ?_
    refine sw_callV (n := 28) F (ct_X4_changed (g := xg x) (l := xl x) o a (va_up (va_up z 2 0) 8 (nmC c d u Rt)) D M Pl Md Rt Rs c.toNat d.toNat u hA hPl hMd hRt hRs (by first | omega | assumption) (by first | omega | assumption) (by first | omega | assumption) (by exact Or.inl rfl)) (rcv_ob F 0 (ci := 3) rfl rfl) q4180 q4182 qs93 q120 q4183 nd_X4_changed rfl (by decide) [0, 2, 3, 4, 5, 1, 6] rfl [] rfl 0 0 ⟨by omega, by omega⟩ [] rfl (Nat.le_of_ble_eq_true rfl) dX4_change_25 rfl (fun _ _ h => h.elim) (fun v Ws h => ?_)
    obtain ⟨D1_3, M1_4, rfl, hV_5, rfl⟩ := h
    show SW x [tmO (xg x) o a (va_up (va_up (va_up z 2 0) 8 (nmC c d u Rt)) 2 (chR Pl Rs Rt Md c.toNat d.toNat u (0))), aN (xg x) 0 (a 0) 2400 D1_3, aN (xg x) 0 (a 1) 10 M1_4, aI (xg x) 0 (a 9) 4 Pl, aI (xg x) 2 (a 11) 4 Md, aL (xg x) (a 12) 16 Rt, aI (xg x) 0 (a 13) 16 Rs] _ _ _ _ [.long (jL (chA Pl Rs Rt Md c.toNat d.toNat u (0)))]
    have a_6 := hV_5.1
    refine sw_lstore (n := 30) F (L2 := [(5, .long (jL (chA Pl Rs Rt Md c.toNat d.toNat u (0)))), (0, .ref o), (1, .int (jI (↑(c.toNat)))), (2, .int (jI (↑(d.toNat)))), (3, .long (jL u))]) rfl (by decide) dX4_change_28 rfl ?_
    have hr1 : chR Pl Rs Rt Md c.toNat d.toNat u 0 = 0 ∨ chR Pl Rs Rt Md c.toNat d.toNat u 0 = 1 := chR_01 (Or.inl rfl)
    refine sw_aload_n (n := 31) F 1 (some o) rfl rfl rfl dX4_change_30 rfl ?_
    refine sw_aload_n (n := 32) F 1 (some o) rfl rfl rfl dX4_change_31 rfl ?_
    refine sw_get (n := 35) F 0 rfl (k := 2) ⟨(RX4, TX4, 50), rfl, by decide, q3801, in_X4, Or.inl rfl⟩ (v := .int (jI (chR Pl Rs Rt Md c.toNat d.toNat u (0)))) rfl dX4_change_32 rfl ?_
    refine sw_if_eq (n := 38) F (by omega) (tgt := 42) dX4_change_35 (by decide) rfl (fun c_35 => ?_) (fun c_35 => ?_)
    ·
      refine sw_iconst (n := 43) F (0) (by decide) dX4_change_42 rfl ?_
      refine sw_callV (n := 46) F (ct_X4_fails (g := xg x) (l := xl x) o a (va_up (va_up (va_up z 2 0) 8 (nmC c d u Rt)) 2 (chR Pl Rs Rt Md c.toNat d.toNat u (0))) 0 (by first | omega | assumption)) (rcv_ob F 0 (ci := 3) rfl rfl) q3973 q3975 qs68 q120 q3976 nd_X4_fails rfl (by decide) [0, 1, 2, 3, 4, 5, 6] rfl [aN (xg x) 0 (a 0) 2400 D1_3, aN (xg x) 0 (a 1) 10 M1_4, aI (xg x) 0 (a 9) 4 Pl, aI (xg x) 2 (a 11) 4 Md, aL (xg x) (a 12) 16 Rt, aI (xg x) 0 (a 13) 16 Rs] rfl 0 0 ⟨by omega, by omega⟩ [] rfl (Nat.le_of_ble_eq_true rfl) dX4_change_43 rfl (fun _ _ h => h.elim) (fun v Ws h => ?_)
      obtain ⟨rfl, hps_7, rfl⟩ := h
      show SW x [tmO (xg x) o a (va_up (va_up (va_up (va_up z 2 0) 8 (nmC c d u Rt)) 2 (chR Pl Rs Rt Md c.toNat d.toNat u (0))) 8 0), aN (xg x) 0 (a 0) 2400 D1_3, aN (xg x) 0 (a 1) 10 M1_4, aI (xg x) 0 (a 9) 4 Pl, aI (xg x) 2 (a 11) 4 Md, aL (xg x) (a 12) 16 Rt, aI (xg x) 0 (a 13) 16 Rs] _ _ _ _ [.int (jI 0)]
      refine sw_if_eq (n := 49) F (by decide) (tgt := 53) dX4_change_46 (by decide) rfl (fun c_46 => ?_) (fun c_46 => ?_)
      ·
        refine sw_lload (n := 55) F 0 rfl dX4_change_53 rfl ?_
        have e0 : nmC c d u Rt = 0 := by omega
        have e : cd2 4 (nmC c d u Rt) (lrI (chR Pl Rs Rt Md c.toNat d.toNat u 0) 1) = 0 := cd2_lt e0 (by omega)
        exact sw_lret F rfl dX4_change_55 (by rw [hPo]; exact ⟨D1_3, M1_4, (by rw [e]; rfl), (by exact hV_5.mono (by simp)), (by rw [e]; simp only [up0_p e0, up_828, up_88, up_upI])⟩)
      · exfalso; exact absurd c_46 (by decide)
    ·
      refine sw_iconst (n := 39) F (4) (by decide) dX4_change_38 rfl ?_
      refine sw_goto F (n := 43) dX4_change_39 (by decide) ?_
      refine sw_callV (n := 46) F (ct_X4_fails (g := xg x) (l := xl x) o a (va_up (va_up (va_up z 2 0) 8 (nmC c d u Rt)) 2 (chR Pl Rs Rt Md c.toNat d.toNat u (0))) 4 (by first | omega | assumption)) (rcv_ob F 0 (ci := 3) rfl rfl) q3973 q3975 qs68 q120 q3976 nd_X4_fails rfl (by decide) [0, 1, 2, 3, 4, 5, 6] rfl [aN (xg x) 0 (a 0) 2400 D1_3, aN (xg x) 0 (a 1) 10 M1_4, aI (xg x) 0 (a 9) 4 Pl, aI (xg x) 2 (a 11) 4 Md, aL (xg x) (a 12) 16 Rt, aI (xg x) 0 (a 13) 16 Rs] rfl 0 0 ⟨by omega, by omega⟩ [] rfl (Nat.le_of_ble_eq_true rfl) dX4_change_43 rfl (fun _ _ h => h.elim) (fun v Ws h => ?_)
      obtain ⟨rfl, hps_8, rfl⟩ := h
      show SW x [tmO (xg x) o a (va_up (va_up (va_up (va_up z 2 0) 8 (nmC c d u Rt)) 2 (chR Pl Rs Rt Md c.toNat d.toNat u (0))) 8 4), aN (xg x) 0 (a 0) 2400 D1_3, aN (xg x) 0 (a 1) 10 M1_4, aI (xg x) 0 (a 9) 4 Pl, aI (xg x) 2 (a 11) 4 Md, aL (xg x) (a 12) 16 Rt, aI (xg x) 0 (a 13) 16 Rs] _ _ _ _ [.int (jI 1)]
      refine sw_if_eq (n := 49) F (by decide) (tgt := 53) dX4_change_46 (by decide) rfl (fun c_46 => ?_) (fun c_46 => ?_)
      · exfalso; exact absurd c_46 (by decide)
      ·
        refine sw_lconst (n := 50) F 0 (by decide) dX4_change_49 rfl ?_
        refine sw_goto F (n := 55) dX4_change_50 (by decide) ?_
        have e0 : nmC c d u Rt = 0 := by omega
        have e : cd2 4 (nmC c d u Rt) (lrI (chR Pl Rs Rt Md c.toNat d.toNat u 0) 1) = 4 := cd2_r e0 (by omega)
        exact sw_lret F rfl dX4_change_55 (by rw [hPo]; exact ⟨D1_3, M1_4, (by rw [e]; rfl), (by exact hV_5.mono (by simp)), (by rw [e]; simp only [up0_p e0, up_828, up_88, up_upI])⟩)
  ·
    refine sw_lconst (n := 15) F 0 (by decide) dX4_change_14 rfl ?_
    have e0 : nmC c d u Rt ≠ 0 := by omega
    have e : cd2 4 (nmC c d u Rt) (lrI (chR Pl Rs Rt Md c.toNat d.toNat u 0) 1) = nmC c d u Rt := cd2_n e0
    refine sw_perm [0, 2, 3, 4, 5, 1, 6] rfl [tmO (xg x) o a (va_up z 8 (nmC c d u Rt)), aN (xg x) 0 (a 0) 2400 D, aN (xg x) 0 (a 1) 10 M, aI (xg x) 0 (a 9) 4 Pl, aI (xg x) 2 (a 11) 4 Md, aL (xg x) (a 12) 16 Rt, aI (xg x) 0 (a 13) 16 Rs] rfl ?_
    exact sw_lret F rfl dX4_change_15 (by rw [hPo]; exact ⟨D, M, (by first | rw [e, if0_n e0] | (rw [e]; exact congrArg _ (congrArg _ (if0_n e0)))), (by exact (RV.rf hA).mono (S := []) (by simp)), (by rw [e]; simp only [up0_n e0, up_828, up_88, up_upI])⟩)
theorem nd_X4_lost : yX4_lost.cls ≠ "java/lang/invoke/MethodHandle" ∧ yX4_lost.cls ≠ "java/lang/invoke/VarHandle" ∧ (parseMethodDescriptor yX4_lost.desc).map (fun d => d.parameters.length) = some 3 := by decide +kernel
set_option maxRecDepth 100000 in
set_option maxHeartbeats 16000000 in
theorem ct_X4_lost {g : GG} {l : Launch} (o : Nat) (a : Nat → Nat) (z : Nat → Int) (D : Nat → Nat) (M : Nat → Nat) (Pl : Nat → Int) (Md : Nat → Int) (Rt : Nat → Int) (Rs : Nat → Int) (c : Int) (d : Int) (u : Int) (hA : Dok D M) (hc : -2147483648 ≤ c ∧ c ≤ 2147483647) (hd : -2147483648 ≤ d ∧ d ≤ 2147483647) (hu : -9223372036854775808 ≤ u ∧ u ≤ 9223372036854775807) (hPl : PlB Pl) (hMd : MdB Md) (hRt : RtB Rt) (hRs : SB Rs) : Ct g l yX4_lost (ws_ yX4_lost cX4_lost 10 (Option.some Jvm.ClassFile.FieldType.long)) 7 153 0 0 [.ref o, .int (jI c), .int (jI d), .long (jL u)] [tmO g o a z, aN g 0 (a 0) 2400 D, aN g 0 (a 1) 10 M, aI g 0 (a 9) 4 Pl, aI g 2 (a 11) 4 Md, aL g (a 12) 16 Rt, aI g 0 (a 13) 16 Rs] (fun v9 Ws9 => ∃ D1 : Nat → Nat, ∃ M1 : Nat → Nat, v9 = some (.long (jL (if0 (cd2 4 (ltC c d u Rt) (lrI (ltF Pl Rs Rt Md c.toNat d.toNat u) 1)) (u - chA Pl Rs Rt Md d.toNat c.toNat (chA Pl Rs Rt Md c.toNat d.toNat u 0) 0)))) ∧ (RV [0, 1, 2, 3, 5, 6, 7, 8, 9] D M D1 M1) ∧ Ws9 = [tmO g o a (va_up (up0 (ltC c d u Rt) z 2 (ltF Pl Rs Rt Md c.toNat d.toNat u)) 8 (cd2 4 (ltC c d u Rt) (lrI (ltF Pl Rs Rt Md c.toNat d.toNat u) 1))), aN g 0 (a 0) 2400 D1, aN g 0 (a 1) 10 M1, aI g 0 (a 9) 4 Pl, aI g 2 (a 11) 4 Md, aL g (a 12) 16 Rt, aI g 0 (a 13) 16 Rs]) (nox) := by
  refine Ct.of (cc := cX4_lost) (nL := 10) (ret := (Option.some Jvm.ClassFile.FieldType.long)) (by decide) rfl (Nat.le_of_ble_eq_true rfl) ?_
  intro x hg hl hPo hPx hmc hms F
  subst hg; subst hl
  refine SW.cast (L' := [(0, .ref o), (1, .int (jI c)), (2, .int (jI d)), (3, .long (jL u))]) ?_ rfl rfl rfl
  have hrt := hRt (4 * c + d).toNat
  have hrt2 := hRt (4 * d + c).toNat
  refine sw_aload_n (n := 1) F 0 (some o) rfl rfl rfl dX4_lost_0 rfl ?_
  have K40 : ∀ (p : Int), (p = ltC c d u Rt) → SW x [tmO (xg x) o a z, aN (xg x) 0 (a 0) 2400 D, aN (xg x) 0 (a 1) 10 M, aI (xg x) 0 (a 9) 4 Pl, aI (xg x) 2 (a 11) 4 Md, aL (xg x) (a 12) 16 Rt, aI (xg x) 0 (a 13) 16 Rs] 0 0 40 [(0, .ref o), (1, .int (jI c)), (2, .int (jI d)), (3, .long (jL u))] [.int (jI p), .ref o] := by
    intro p hpc
    subst hpc
    have hcs := ltC_c c d u Rt
    refine sw_callV (n := 43) F (ct_X4_fails (g := xg x) (l := xl x) o a z (ltC c d u Rt) (by first | omega | assumption)) (rcv_ob F 0 (ci := 3) rfl rfl) q3973 q3975 qs68 q120 q3976 nd_X4_fails rfl (by decide) [0, 1, 2, 3, 4, 5, 6] rfl [aN (xg x) 0 (a 0) 2400 D, aN (xg x) 0 (a 1) 10 M, aI (xg x) 0 (a 9) 4 Pl, aI (xg x) 2 (a 11) 4 Md, aL (xg x) (a 12) 16 Rt, aI (xg x) 0 (a 13) 16 Rs] rfl 0 0 ⟨by omega, by omega⟩ [] rfl (Nat.le_of_ble_eq_true rfl) dX4_lost_40 rfl (fun _ _ h => h.elim) (fun v Ws h => ?_)
    obtain ⟨rfl, hps_1, rfl⟩ := h
    show SW x [tmO (xg x) o a (va_up z 8 (ltC c d u Rt)), aN (xg x) 0 (a 0) 2400 D, aN (xg x) 0 (a 1) 10 M, aI (xg x) 0 (a 9) 4 Pl, aI (xg x) 2 (a 11) 4 Md, aL (xg x) (a 12) 16 Rt, aI (xg x) 0 (a 13) 16 Rs] _ _ _ _ [.int (jI (psI (ltC c d u Rt)))]
    refine sw_if_eq (n := 46) F (by omega) (tgt := 48) dX4_lost_43 (by decide) rfl (fun c_43 => ?_) (fun c_43 => ?_)
    ·
      have e0 : ltC c d u Rt = 0 := by omega
      have rg0 : 0 ≤ c ∧ c ≤ 3 := by omega
      have rg1 : 0 ≤ d ∧ d ≤ 3 := by omega
      have rg2 : 0 ≤ u ∧ u ≤ 1000000000000 := by omega
      clear hcs c_43 hps_1
      refine SW.cast (L' := [(0, .ref o), (1, .int (jI (↑(c.toNat)))), (2, .int (jI (↑(d.toNat)))), (3, .long (jL u))]) ?_ rfl (by rw [Int.toNat_of_nonneg (show 0 ≤ c by omega), Int.toNat_of_nonneg (show 0 ≤ d by omega)]) rfl
      refine sw_aload_n (n := 49) F 0 (some o) rfl rfl rfl dX4_lost_48 rfl ?_
      refine sw_iconst (n := 50) F (0) (by decide) dX4_lost_49 rfl ?_
      refine sw_put (n := 53) F 0 rfl (k := 2) ⟨(RX4, TX4, 50), rfl, by decide, q3801, in_X4, Or.inl rfl⟩ .boolean ⟨(RX4, TX4, 50), rfl, rfl, tyX4_ok 2 (by decide), nmX4, tyX4, tyX4_ok⟩ (jI_nz (by first | decide | omega)) (jI_fz (by first | decide | omega)) (Nat.le_of_ble_eq_true rfl) (fs' := tmF a (va_up (va_up z 2 0) 8 (ltC c d u Rt))) rfl [tmO (xg x) o a (va_up (va_up z 2 0) 8 (ltC c d u Rt)), aN (xg x) 0 (a 0) 2400 D, aN (xg x) 0 (a 1) 10 M, aI (xg x) 0 (a 9) 4 Pl, aI (xg x) 2 (a 11) 4 Md, aL (xg x) (a 12) 16 Rt, aI (xg x) 0 (a 13) 16 Rs] rfl dX4_lost_50 rfl ?_
      refine sw_aload_n (n := 54) F 0 (some o) rfl rfl rfl dX4_lost_53 rfl ?_
      refine sw_iload_n (n := 55) F 1 rfl rfl dX4_lost_54 rfl ?_
      refine sw_iload_n (n := 56) F 2 rfl rfl dX4_lost_55 rfl ?_
      refine sw_lload_n (n := 57) F 3 rfl rfl dX4_lost_56 rfl ?_
      refine sw_callV (n := 60) F (ct_X4_changed (g := xg x) (l := xl x) o a (va_up (va_up z 2 0) 8 (ltC c d u Rt)) D M Pl Md Rt Rs c.toNat d.toNat u hA hPl hMd hRt hRs (by first | omega | assumption) (by first | omega | assumption) (by first | omega | assumption) (by exact Or.inl rfl)) (rcv_ob F 0 (ci := 3) rfl rfl) q4180 q4182 qs93 q120 q4183 nd_X4_changed rfl (by decide) [0, 1, 2, 3, 4, 5, 6] rfl [] rfl 0 0 ⟨by omega, by omega⟩ [] rfl (Nat.le_of_ble_eq_true rfl) dX4_lost_57 rfl (fun _ _ h => h.elim) (fun v Ws h => ?_)
      obtain ⟨D1_2, M1_3, rfl, hV_4, rfl⟩ := h
      show SW x [tmO (xg x) o a (va_up (va_up (va_up z 2 0) 8 (ltC c d u Rt)) 2 (chR Pl Rs Rt Md c.toNat d.toNat u (0))), aN (xg x) 0 (a 0) 2400 D1_2, aN (xg x) 0 (a 1) 10 M1_3, aI (xg x) 0 (a 9) 4 Pl, aI (xg x) 2 (a 11) 4 Md, aL (xg x) (a 12) 16 Rt, aI (xg x) 0 (a 13) 16 Rs] _ _ _ _ [.long (jL (chA Pl Rs Rt Md c.toNat d.toNat u (0)))]
      have a_5 := hV_4.1
      refine sw_lstore (n := 62) F (L2 := [(6, .long (jL (chA Pl Rs Rt Md c.toNat d.toNat u (0)))), (0, .ref o), (1, .int (jI (↑(c.toNat)))), (2, .int (jI (↑(d.toNat)))), (3, .long (jL u))]) rfl (by decide) dX4_lost_60 rfl ?_
      have hr1 : chR Pl Rs Rt Md c.toNat d.toNat u 0 = 0 ∨ chR Pl Rs Rt Md c.toNat d.toNat u 0 = 1 := chR_01 (Or.inl rfl)
      have hra := chA_rng (Pl := Pl) (Rs := Rs) (Rt := Rt) (Md := Md) (c := c.toNat) (d := d.toNat) (u := u) (z := 0)
      refine sw_aload_n (n := 63) F 1 (some o) rfl rfl rfl dX4_lost_62 rfl ?_
      refine sw_aload_n (n := 64) F 1 (some o) rfl rfl rfl dX4_lost_63 rfl ?_
      refine sw_get (n := 67) F 0 rfl (k := 2) ⟨(RX4, TX4, 50), rfl, by decide, q3801, in_X4, Or.inl rfl⟩ (v := .int (jI (chR Pl Rs Rt Md c.toNat d.toNat u (0)))) rfl dX4_lost_64 rfl ?_
      refine sw_if_eq (n := 70) F (by omega) (tgt := 74) dX4_lost_67 (by decide) rfl (fun c_67 => ?_) (fun c_67 => ?_)
      ·
        refine sw_iconst (n := 75) F (0) (by decide) dX4_lost_74 rfl ?_
        refine sw_callV (n := 78) F (ct_X4_fails (g := xg x) (l := xl x) o a (va_up (va_up (va_up z 2 0) 8 (ltC c d u Rt)) 2 (chR Pl Rs Rt Md c.toNat d.toNat u (0))) 0 (by first | omega | assumption)) (rcv_ob F 0 (ci := 3) rfl rfl) q3973 q3975 qs68 q120 q3976 nd_X4_fails rfl (by decide) [0, 1, 2, 3, 4, 5, 6] rfl [aN (xg x) 0 (a 0) 2400 D1_2, aN (xg x) 0 (a 1) 10 M1_3, aI (xg x) 0 (a 9) 4 Pl, aI (xg x) 2 (a 11) 4 Md, aL (xg x) (a 12) 16 Rt, aI (xg x) 0 (a 13) 16 Rs] rfl 0 0 ⟨by omega, by omega⟩ [] rfl (Nat.le_of_ble_eq_true rfl) dX4_lost_75 rfl (fun _ _ h => h.elim) (fun v Ws h => ?_)
        obtain ⟨rfl, hps_6, rfl⟩ := h
        show SW x [tmO (xg x) o a (va_up (va_up (va_up (va_up z 2 0) 8 (ltC c d u Rt)) 2 (chR Pl Rs Rt Md c.toNat d.toNat u (0))) 8 0), aN (xg x) 0 (a 0) 2400 D1_2, aN (xg x) 0 (a 1) 10 M1_3, aI (xg x) 0 (a 9) 4 Pl, aI (xg x) 2 (a 11) 4 Md, aL (xg x) (a 12) 16 Rt, aI (xg x) 0 (a 13) 16 Rs] _ _ _ _ [.int (jI 0)]
        refine sw_if_eq (n := 81) F (by decide) (tgt := 83) dX4_lost_78 (by decide) rfl (fun c_78 => ?_) (fun c_78 => ?_)
        ·
          rw [c_67]
          show SW x [tmO (xg x) o a (va_up (va_up (va_up (va_up z 2 0) 8 (ltC c d u Rt)) 2 0) 8 0), aN (xg x) 0 (a 0) 2400 D1_2, aN (xg x) 0 (a 1) 10 M1_3, aI (xg x) 0 (a 9) 4 Pl, aI (xg x) 2 (a 11) 4 Md, aL (xg x) (a 12) 16 Rt, aI (xg x) 0 (a 13) 16 Rs] _ _ _ _ []
          refine sw_aload_n (n := 84) F 1 (some o) rfl rfl rfl dX4_lost_83 rfl ?_
          refine sw_iload_n (n := 85) F 3 rfl rfl dX4_lost_84 rfl ?_
          refine sw_iload_n (n := 86) F 2 rfl rfl dX4_lost_85 rfl ?_
          refine sw_lload (n := 88) F 0 rfl dX4_lost_86 rfl ?_
          refine sw_callV (n := 91) F (ct_X4_changed (g := xg x) (l := xl x) o a (va_up (va_up (va_up (va_up z 2 0) 8 (ltC c d u Rt)) 2 0) 8 0) D1_2 M1_3 Pl Md Rt Rs d.toNat c.toNat (chA Pl Rs Rt Md c.toNat d.toNat u (0)) a_5 hPl hMd hRt hRs (by first | omega | assumption) (by first | omega | assumption) (by first | omega | assumption) (by exact Or.inl rfl)) (rcv_ob F 0 (ci := 3) rfl rfl) q4180 q4182 qs93 q120 q4183 nd_X4_changed rfl (by decide) [0, 1, 2, 3, 4, 5, 6] rfl [] rfl 0 0 ⟨by omega, by omega⟩ [] rfl (Nat.le_of_ble_eq_true rfl) dX4_lost_88 rfl (fun _ _ h => h.elim) (fun v Ws h => ?_)
          obtain ⟨D1_7, M1_8, rfl, hV_9, rfl⟩ := h
          show SW x [tmO (xg x) o a (va_up (va_up (va_up (va_up (va_up z 2 0) 8 (ltC c d u Rt)) 2 0) 8 0) 2 (chR Pl Rs Rt Md d.toNat c.toNat (chA Pl Rs Rt Md c.toNat d.toNat u (0)) (0))), aN (xg x) 0 (a 0) 2400 D1_7, aN (xg x) 0 (a 1) 10 M1_8, aI (xg x) 0 (a 9) 4 Pl, aI (xg x) 2 (a 11) 4 Md, aL (xg x) (a 12) 16 Rt, aI (xg x) 0 (a 13) 16 Rs] _ _ _ _ [.long (jL (chA Pl Rs Rt Md d.toNat c.toNat (chA Pl Rs Rt Md c.toNat d.toNat u (0)) (0)))]
          have a_10 := hV_9.1
          have v_11 := (hV_4.mono (T := [0, 1, 2, 3, 5, 6, 7, 8, 9]) (by simp)).trans hV_9 (by simp)
          refine sw_lstore (n := 93) F (L2 := [(8, .long (jL (chA Pl Rs Rt Md d.toNat c.toNat (chA Pl Rs Rt Md c.toNat d.toNat u (0)) (0)))), (6, .long (jL (chA Pl Rs Rt Md c.toNat d.toNat u (0)))), (0, .ref o), (1, .int (jI (↑(c.toNat)))), (2, .int (jI (↑(d.toNat)))), (3, .long (jL u))]) rfl (by decide) dX4_lost_91 rfl ?_
          have hr2 : chR Pl Rs Rt Md d.toNat c.toNat (chA Pl Rs Rt Md c.toNat d.toNat u 0) 0 = 0 ∨ chR Pl Rs Rt Md d.toNat c.toNat (chA Pl Rs Rt Md c.toNat d.toNat u 0) 0 = 1 := chR_01 (Or.inl rfl)
          have ev : ltF Pl Rs Rt Md c.toNat d.toNat u = chR Pl Rs Rt Md d.toNat c.toNat (chA Pl Rs Rt Md c.toNat d.toNat u 0) 0 := if_neg (by omega)
          refine sw_aload_n (n := 94) F 2 (some o) rfl rfl rfl dX4_lost_93 rfl ?_
          refine sw_aload_n (n := 95) F 2 (some o) rfl rfl rfl dX4_lost_94 rfl ?_
          refine sw_get (n := 98) F 0 rfl (k := 2) ⟨(RX4, TX4, 50), rfl, by decide, q3801, in_X4, Or.inl rfl⟩ (v := .int (jI (chR Pl Rs Rt Md d.toNat c.toNat (chA Pl Rs Rt Md c.toNat d.toNat u (0)) (0)))) rfl dX4_lost_95 rfl ?_
          refine sw_if_eq (n := 101) F (by omega) (tgt := 105) dX4_lost_98 (by decide) rfl (fun c_98 => ?_) (fun c_98 => ?_)
          ·
            refine sw_iconst (n := 106) F (0) (by decide) dX4_lost_105 rfl ?_
            refine sw_callV (n := 109) F (ct_X4_fails (g := xg x) (l := xl x) o a (va_up (va_up (va_up (va_up (va_up z 2 0) 8 (ltC c d u Rt)) 2 0) 8 0) 2 (chR Pl Rs Rt Md d.toNat c.toNat (chA Pl Rs Rt Md c.toNat d.toNat u (0)) (0))) 0 (by first | omega | assumption)) (rcv_ob F 0 (ci := 3) rfl rfl) q3973 q3975 qs68 q120 q3976 nd_X4_fails rfl (by decide) [0, 1, 2, 3, 4, 5, 6] rfl [aN (xg x) 0 (a 0) 2400 D1_7, aN (xg x) 0 (a 1) 10 M1_8, aI (xg x) 0 (a 9) 4 Pl, aI (xg x) 2 (a 11) 4 Md, aL (xg x) (a 12) 16 Rt, aI (xg x) 0 (a 13) 16 Rs] rfl 0 0 ⟨by omega, by omega⟩ [] rfl (Nat.le_of_ble_eq_true rfl) dX4_lost_106 rfl (fun _ _ h => h.elim) (fun v Ws h => ?_)
            obtain ⟨rfl, hps_12, rfl⟩ := h
            show SW x [tmO (xg x) o a (va_up (va_up (va_up (va_up (va_up (va_up z 2 0) 8 (ltC c d u Rt)) 2 0) 8 0) 2 (chR Pl Rs Rt Md d.toNat c.toNat (chA Pl Rs Rt Md c.toNat d.toNat u (0)) (0))) 8 0), aN (xg x) 0 (a 0) 2400 D1_7, aN (xg x) 0 (a 1) 10 M1_8, aI (xg x) 0 (a 9) 4 Pl, aI (xg x) 2 (a 11) 4 Md, aL (xg x) (a 12) 16 Rt, aI (xg x) 0 (a 13) 16 Rs] _ _ _ _ [.int (jI 0)]
            refine sw_if_eq (n := 112) F (by decide) (tgt := 116) dX4_lost_109 (by decide) rfl (fun c_109 => ?_) (fun c_109 => ?_)
            ·
              refine sw_lload_n (n := 117) F 5 rfl rfl dX4_lost_116 rfl ?_
              refine sw_lload (n := 119) F 0 rfl dX4_lost_117 rfl ?_
              refine sw_lsub (n := 120) F dX4_lost_119 rfl ?_
              have e0 : ltC c d u Rt = 0 := by omega
              have e : cd2 4 (ltC c d u Rt) (lrI (ltF Pl Rs Rt Md c.toNat d.toNat u) 1) = 0 := cd2_lt e0 (by rw [ev]; omega)
              exact sw_lret F rfl dX4_lost_120 (by rw [hPo]; exact ⟨D1_7, M1_8, (by rw [e]; rfl), (by exact v_11.mono (by simp)), (by rw [e]; simp only [up0_p e0, up_828, up_88, up_upI, ev])⟩)
            · exfalso; exact absurd c_109 (by decide)
          ·
            refine sw_iconst (n := 102) F (4) (by decide) dX4_lost_101 rfl ?_
            refine sw_goto F (n := 106) dX4_lost_102 (by decide) ?_
            refine sw_callV (n := 109) F (ct_X4_fails (g := xg x) (l := xl x) o a (va_up (va_up (va_up (va_up (va_up z 2 0) 8 (ltC c d u Rt)) 2 0) 8 0) 2 (chR Pl Rs Rt Md d.toNat c.toNat (chA Pl Rs Rt Md c.toNat d.toNat u (0)) (0))) 4 (by first | omega | assumption)) (rcv_ob F 0 (ci := 3) rfl rfl) q3973 q3975 qs68 q120 q3976 nd_X4_fails rfl (by decide) [0, 1, 2, 3, 4, 5, 6] rfl [aN (xg x) 0 (a 0) 2400 D1_7, aN (xg x) 0 (a 1) 10 M1_8, aI (xg x) 0 (a 9) 4 Pl, aI (xg x) 2 (a 11) 4 Md, aL (xg x) (a 12) 16 Rt, aI (xg x) 0 (a 13) 16 Rs] rfl 0 0 ⟨by omega, by omega⟩ [] rfl (Nat.le_of_ble_eq_true rfl) dX4_lost_106 rfl (fun _ _ h => h.elim) (fun v Ws h => ?_)
            obtain ⟨rfl, hps_13, rfl⟩ := h
            show SW x [tmO (xg x) o a (va_up (va_up (va_up (va_up (va_up (va_up z 2 0) 8 (ltC c d u Rt)) 2 0) 8 0) 2 (chR Pl Rs Rt Md d.toNat c.toNat (chA Pl Rs Rt Md c.toNat d.toNat u (0)) (0))) 8 4), aN (xg x) 0 (a 0) 2400 D1_7, aN (xg x) 0 (a 1) 10 M1_8, aI (xg x) 0 (a 9) 4 Pl, aI (xg x) 2 (a 11) 4 Md, aL (xg x) (a 12) 16 Rt, aI (xg x) 0 (a 13) 16 Rs] _ _ _ _ [.int (jI 1)]
            refine sw_if_eq (n := 112) F (by decide) (tgt := 116) dX4_lost_109 (by decide) rfl (fun c_109 => ?_) (fun c_109 => ?_)
            · exfalso; exact absurd c_109 (by decide)
            ·
              refine sw_lconst (n := 113) F 0 (by decide) dX4_lost_112 rfl ?_
              refine sw_goto F (n := 120) dX4_lost_113 (by decide) ?_
              have e0 : ltC c d u Rt = 0 := by omega
              have e : cd2 4 (ltC c d u Rt) (lrI (ltF Pl Rs Rt Md c.toNat d.toNat u) 1) = 4 := cd2_r e0 (by rw [ev]; omega)
              exact sw_lret F rfl dX4_lost_120 (by rw [hPo]; exact ⟨D1_7, M1_8, (by rw [e]; rfl), (by exact v_11.mono (by simp)), (by rw [e]; simp only [up0_p e0, up_828, up_88, up_upI, ev])⟩)
        · exfalso; exact absurd c_78 (by decide)
      ·
        have ev : ltF Pl Rs Rt Md c.toNat d.toNat u = chR Pl Rs Rt Md c.toNat d.toNat u 0 := if_pos (by omega)
        refine sw_iconst (n := 71) F (4) (by decide) dX4_lost_70 rfl ?_
        refine sw_goto F (n := 75) dX4_lost_71 (by decide) ?_
        refine sw_callV (n := 78) F (ct_X4_fails (g := xg x) (l := xl x) o a (va_up (va_up (va_up z 2 0) 8 (ltC c d u Rt)) 2 (chR Pl Rs Rt Md c.toNat d.toNat u (0))) 4 (by first | omega | assumption)) (rcv_ob F 0 (ci := 3) rfl rfl) q3973 q3975 qs68 q120 q3976 nd_X4_fails rfl (by decide) [0, 1, 2, 3, 4, 5, 6] rfl [aN (xg x) 0 (a 0) 2400 D1_2, aN (xg x) 0 (a 1) 10 M1_3, aI (xg x) 0 (a 9) 4 Pl, aI (xg x) 2 (a 11) 4 Md, aL (xg x) (a 12) 16 Rt, aI (xg x) 0 (a 13) 16 Rs] rfl 0 0 ⟨by omega, by omega⟩ [] rfl (Nat.le_of_ble_eq_true rfl) dX4_lost_75 rfl (fun _ _ h => h.elim) (fun v Ws h => ?_)
        obtain ⟨rfl, hps_14, rfl⟩ := h
        show SW x [tmO (xg x) o a (va_up (va_up (va_up (va_up z 2 0) 8 (ltC c d u Rt)) 2 (chR Pl Rs Rt Md c.toNat d.toNat u (0))) 8 4), aN (xg x) 0 (a 0) 2400 D1_2, aN (xg x) 0 (a 1) 10 M1_3, aI (xg x) 0 (a 9) 4 Pl, aI (xg x) 2 (a 11) 4 Md, aL (xg x) (a 12) 16 Rt, aI (xg x) 0 (a 13) 16 Rs] _ _ _ _ [.int (jI 1)]
        refine sw_if_eq (n := 81) F (by decide) (tgt := 83) dX4_lost_78 (by decide) rfl (fun c_78 => ?_) (fun c_78 => ?_)
        · exfalso; exact absurd c_78 (by decide)
        ·
          refine sw_lconst (n := 82) F 0 (by decide) dX4_lost_81 rfl ?_
          have e0 : ltC c d u Rt = 0 := by omega
          have e : cd2 4 (ltC c d u Rt) (lrI (ltF Pl Rs Rt Md c.toNat d.toNat u) 1) = 4 := cd2_r e0 (by rw [ev]; omega)
          exact sw_lret F rfl dX4_lost_82 (by rw [hPo]; exact ⟨D1_2, M1_3, (by rw [e]; rfl), (by exact hV_4.mono (by simp)), (by rw [e]; simp only [up0_p e0, up_828, up_88, up_upI, ev])⟩)
    ·
      refine sw_lconst (n := 47) F 0 (by decide) dX4_lost_46 rfl ?_
      have e0 : ltC c d u Rt ≠ 0 := by omega
      have e : cd2 4 (ltC c d u Rt) (lrI (ltF Pl Rs Rt Md c.toNat d.toNat u) 1) = ltC c d u Rt := cd2_n e0
      exact sw_lret F rfl dX4_lost_47 (by rw [hPo]; exact ⟨D, M, (by first | rw [e, if0_n e0] | (rw [e]; exact congrArg _ (congrArg _ (if0_n e0)))), (by exact (RV.rf hA).mono (S := []) (by simp)), (by rw [e]; simp only [up0_n e0, up_828, up_88, up_upI])⟩)
  refine sw_iload_n (n := 2) F 1 rfl rfl dX4_lost_1 rfl ?_
  refine sw_iload_n (n := 3) F 2 rfl rfl dX4_lost_2 rfl ?_
  refine sw_lload_n (n := 4) F 3 rfl rfl dX4_lost_3 rfl ?_
  refine sw_callV (n := 7) F (ct_X4_noMoney (g := xg x) (l := xl x) o a z Rt c d u hc hd hu hRt) (rcv_ob F 0 (ci := 3) rfl rfl) q4175 q4177 qs92 q120 q4178 nd_X4_noMoney rfl (by decide) [0, 5, 1, 2, 3, 4, 6] rfl [aN (xg x) 0 (a 0) 2400 D, aN (xg x) 0 (a 1) 10 M, aI (xg x) 0 (a 9) 4 Pl, aI (xg x) 2 (a 11) 4 Md, aI (xg x) 0 (a 13) 16 Rs] rfl 0 0 ⟨by omega, by omega⟩ [] rfl (Nat.le_of_ble_eq_true rfl) dX4_lost_4 rfl (fun _ _ h => h.elim) (fun v Ws h => ?_)
  obtain ⟨rfl, hnm_15, rfl⟩ := h
  show SW x [tmO (xg x) o a z, aL (xg x) (a 12) 16 Rt, aN (xg x) 0 (a 0) 2400 D, aN (xg x) 0 (a 1) 10 M, aI (xg x) 0 (a 9) 4 Pl, aI (xg x) 2 (a 11) 4 Md, aI (xg x) 0 (a 13) 16 Rs] _ _ _ _ [.int (jI (nmC c d u Rt))]
  refine sw_istore (n := 9) F (L2 := [(5, .int (jI (nmC c d u Rt))), (0, .ref o), (1, .int (jI c)), (2, .int (jI d)), (3, .long (jL u))]) rfl (by decide) dX4_lost_7 rfl ?_
  refine sw_aload_n (n := 10) F 1 (some o) rfl rfl rfl dX4_lost_9 rfl ?_
  refine sw_iload (n := 12) F 0 rfl dX4_lost_10 rfl ?_
  refine sw_if_le (n := 15) F (by omega) (tgt := 20) dX4_lost_12 (by decide) rfl (fun c_12 => ?_) (fun c_12 => ?_)
  ·
    refine sw_aload_n (n := 21) F 1 (some o) rfl rfl rfl dX4_lost_20 rfl ?_
    refine sw_get (n := 24) F 0 rfl (k := 12) ⟨(RX4, TX4, 50), rfl, by decide, q3811, in_X4, Or.inl rfl⟩ (v := .ref (a 12)) rfl dX4_lost_21 rfl ?_
    refine sw_iconst (n := 25) F (4) (by decide) dX4_lost_24 rfl ?_
    refine sw_iload_n (n := 26) F 3 rfl rfl dX4_lost_25 rfl ?_
    refine sw_imul (n := 27) F dX4_lost_26 rfl ?_
    refine sw_iload_n (n := 28) F 2 rfl rfl dX4_lost_27 rfl ?_
    refine sw_iadd (n := 29) F dX4_lost_28 rfl ?_
    refine sw_laloadL (n := 30) F 1 rfl (fun _ => rfl) (((4 * d) + c : Int).toNat) (by omega) (by omega) dX4_lost_29 rfl ?_
    refine sw_lconst (n := 31) F 0 (by decide) dX4_lost_30 rfl ?_
    refine sw_lcmp (n := 32) F (by omega) (by decide) dX4_lost_31 rfl ?_
    refine sw_if_ne (n := 35) F (by omega) (tgt := 39) dX4_lost_32 (by decide) rfl (fun c_32 => ?_) (fun c_32 => ?_)
    ·
      have c_32 : Rt (((4 * d) + c : Int).toNat) ≠ 0 := by revert c_32; (repeat' split) <;> omega
      refine sw_iconst (n := 40) F (0) (by decide) dX4_lost_39 rfl ?_
      refine sw_perm [0, 2, 3, 4, 5, 1, 6] rfl [tmO (xg x) o a z, aN (xg x) 0 (a 0) 2400 D, aN (xg x) 0 (a 1) 10 M, aI (xg x) 0 (a 9) 4 Pl, aI (xg x) 2 (a 11) 4 Md, aL (xg x) (a 12) 16 Rt, aI (xg x) 0 (a 13) 16 Rs] rfl ?_
      refine sw_loc [1, 2, 3, 4] (L2 := [(0, .ref o), (1, .int (jI c)), (2, .int (jI d)), (3, .long (jL u))]) rfl ?_
      exact K40 0 (by unfold ltC; (repeat' split) <;> omega)
    ·
      have c_32 : Rt (((4 * d) + c : Int).toNat) = 0 := by revert c_32; (repeat' split) <;> omega
      refine sw_iconst (n := 36) F (3) (by decide) dX4_lost_35 rfl ?_
      refine sw_goto F (n := 40) dX4_lost_36 (by decide) ?_
      refine sw_perm [0, 2, 3, 4, 5, 1, 6] rfl [tmO (xg x) o a z, aN (xg x) 0 (a 0) 2400 D, aN (xg x) 0 (a 1) 10 M, aI (xg x) 0 (a 9) 4 Pl, aI (xg x) 2 (a 11) 4 Md, aL (xg x) (a 12) 16 Rt, aI (xg x) 0 (a 13) 16 Rs] rfl ?_
      refine sw_loc [1, 2, 3, 4] (L2 := [(0, .ref o), (1, .int (jI c)), (2, .int (jI d)), (3, .long (jL u))]) rfl ?_
      exact K40 3 (by unfold ltC; (repeat' split) <;> omega)
  ·
    refine sw_iload (n := 17) F 0 rfl dX4_lost_15 rfl ?_
    refine sw_goto F (n := 40) dX4_lost_17 (by decide) ?_
    refine sw_perm [0, 2, 3, 4, 5, 1, 6] rfl [tmO (xg x) o a z, aN (xg x) 0 (a 0) 2400 D, aN (xg x) 0 (a 1) 10 M, aI (xg x) 0 (a 9) 4 Pl, aI (xg x) 2 (a 11) 4 Md, aL (xg x) (a 12) 16 Rt, aI (xg x) 0 (a 13) 16 Rs] rfl ?_
    refine sw_loc [1, 2, 3, 4] (L2 := [(0, .ref o), (1, .int (jI c)), (2, .int (jI d)), (3, .long (jL u))]) rfl ?_
    exact K40 (nmC c d u Rt) (by unfold ltC; (repeat' split) <;> omega)
