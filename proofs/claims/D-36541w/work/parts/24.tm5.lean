theorem nd_X4_put : yX4_put.cls ≠ "java/lang/invoke/MethodHandle" ∧ yX4_put.cls ≠ "java/lang/invoke/VarHandle" ∧ (parseMethodDescriptor yX4_put.desc).map (fun d => d.parameters.length) = some 3 := by decide +kernel
set_option maxRecDepth 100000 in
set_option maxHeartbeats 1000000 in
theorem ct_X4_put {g : GG} {l : Launch} (o : Nat) (a : Nat → Nat) (z : Nat → Int) (N : Nat → Int) (Sc : Nat → Int) (Hs : Nat → Int) (s : Int) (u : Int) (sc : Int) (hs : -2147483648 ≤ s ∧ s ≤ 2147483647) (hu : -9223372036854775808 ≤ u ∧ u ≤ 9223372036854775807) (hsc : -2147483648 ≤ sc ∧ sc ≤ 2147483647) : Ct g l yX4_put (ws_ yX4_put cX4_put 5 (Option.some Jvm.ClassFile.FieldType.int)) 3 57 0 0 [.ref o, .int (jI s), .long (jL u), .int (jI sc)] [tmO g o a z, aL g (a 3) 12 N, aI g 0 (a 4) 12 Sc, aI g 4 (a 5) 12 Hs] (fun v9 Ws9 => v9 = some (.int (jI (if0 (putC s u sc) ↑(dgc u.natAbs)))) ∧ Ws9 = [tmO g o a (va_up z 8 (putC s u sc)), aL g (a 3) 12 (up0 (putC s u sc) N s.toNat u), aI g 0 (a 4) 12 (up0 (putC s u sc) Sc s.toNat sc), aI g 4 (a 5) 12 (up0 (putC s u sc) Hs s.toNat 1)]) (nox) := by
  refine Ct.of (cc := cX4_put) (nL := 5) (ret := (Option.some Jvm.ClassFile.FieldType.int)) (by decide) rfl (Nat.le_of_ble_eq_true rfl) ?_
  intro x hg hl hPo hPx hmc hms F
  subst hg; subst hl
  refine SW.cast (L' := [(0, .ref o), (1, .int (jI s)), (2, .long (jL u)), (4, .int (jI sc))]) ?_ rfl rfl rfl
  refine sw_aload_n (n := 1) F 0 (some o) rfl rfl rfl dX4_put_0 rfl ?_
  refine sw_iload_n (n := 2) F 1 rfl rfl dX4_put_1 rfl ?_
  refine sw_callS (n := 5) F (ct_X4_isShelf (g := xg x) (l := xl x) s hs) q3959 q3960 q120 q3961 nd_X4_isShelf rfl (by decide) [0, 1, 2, 3] rfl [tmO (xg x) o a z, aL (xg x) (a 3) 12 N, aI (xg x) 0 (a 4) 12 Sc, aI (xg x) 4 (a 5) 12 Hs] rfl 0 0 ⟨by omega, by omega⟩ [.ref o] rfl (Nat.le_of_ble_eq_true rfl) dX4_put_2 rfl (fun _ _ h => h.elim) (fun v Ws h => ?_)
  obtain ⟨rfl, hs_1, rfl⟩ := h
  show SW x [tmO (xg x) o a z, aL (xg x) (a 3) 12 N, aI (xg x) 0 (a 4) 12 Sc, aI (xg x) 4 (a 5) 12 Hs] _ _ _ _ [.int (jI (inI s 0 11)), .ref o]
  refine sw_if_ne (n := 8) F (by omega) (tgt := 12) dX4_put_5 (by decide) rfl (fun c_5 => ?_) (fun c_5 => ?_)
  ·
    refine sw_iload (n := 14) F 3 rfl dX4_put_12 rfl ?_
    refine sw_callS (n := 17) F (ct_X4_isScale (g := xg x) (l := xl x) sc hsc) q3966 q3967 q120 q3968 nd_X4_isScale rfl (by decide) [0, 1, 2, 3] rfl [tmO (xg x) o a z, aL (xg x) (a 3) 12 N, aI (xg x) 0 (a 4) 12 Sc, aI (xg x) 4 (a 5) 12 Hs] rfl 0 0 ⟨by omega, by omega⟩ [.ref o] rfl (Nat.le_of_ble_eq_true rfl) dX4_put_14 rfl (fun _ _ h => h.elim) (fun v Ws h => ?_)
    obtain ⟨rfl, hs_2, rfl⟩ := h
    show SW x [tmO (xg x) o a z, aL (xg x) (a 3) 12 N, aI (xg x) 0 (a 4) 12 Sc, aI (xg x) 4 (a 5) 12 Hs] _ _ _ _ [.int (jI (inI sc (-18) 36)), .ref o]
    refine sw_if_eq (n := 20) F (by omega) (tgt := 33) dX4_put_17 (by decide) rfl (fun c_17 => ?_) (fun c_17 => ?_)
    ·
      refine sw_iconst (n := 34) F (2) (by decide) dX4_put_33 rfl ?_
      refine sw_goto F (n := 38) dX4_put_34 (by decide) ?_
      refine sw_callV (n := 41) F (ct_X4_fails (g := xg x) (l := xl x) o a z 2 (by first | assumption | omega)) (rcv_ob F 0 (ci := 3) rfl rfl) q3973 q3975 qs68 q120 q3976 nd_X4_fails rfl (by decide) [0, 1, 2, 3] rfl [aL (xg x) (a 3) 12 N, aI (xg x) 0 (a 4) 12 Sc, aI (xg x) 4 (a 5) 12 Hs] rfl 0 0 ⟨by omega, by omega⟩ [] rfl (Nat.le_of_ble_eq_true rfl) dX4_put_38 rfl (fun _ _ h => h.elim) (fun v Ws h => ?_)
      obtain ⟨rfl, hps_3, rfl⟩ := h
      show SW x [tmO (xg x) o a (va_up z 8 2), aL (xg x) (a 3) 12 N, aI (xg x) 0 (a 4) 12 Sc, aI (xg x) 4 (a 5) 12 Hs] _ _ _ _ [.int (jI 1)]
      refine sw_if_eq (n := 44) F (by decide) (tgt := 46) dX4_put_41 (by decide) rfl (fun c_41 => ?_) (fun c_41 => ?_)
      · exfalso; exact absurd c_41 (by decide)
      ·
        refine sw_iconst (n := 45) F (0) (by decide) dX4_put_44 rfl ?_
        have e : putC s u sc = 2 := by unfold putC; (repeat' split) <;> omega
        exact sw_iret F _ rfl (by first | rfl | exact jI_nz (by omega) | exact jI_nc (by omega)) dX4_put_45 (by rw [hPo]; exact ⟨(by rw [e]; first | rfl | (rw [if0_0]; congr 3; omega)), (by simp only [e, up0_2])⟩)
    ·
      refine sw_lload_n (n := 21) F 2 rfl rfl dX4_put_20 rfl ?_
      refine sw_ldc2 (n := 24) F (-999999999999999999) q3971 (by decide) dX4_put_21 rfl ?_
      refine sw_ldc2 (n := 27) F (999999999999999999) q3972 (by decide) dX4_put_24 rfl ?_
      refine sw_callS (n := 30) F (ct_X4_in (g := xg x) (l := xl x) u (-999999999999999999) 999999999999999999 hu (by first | assumption | omega) (by first | assumption | omega)) q3963 q3964 q120 q3965 nd_X4_in rfl (by decide) [0, 1, 2, 3] rfl [tmO (xg x) o a z, aL (xg x) (a 3) 12 N, aI (xg x) 0 (a 4) 12 Sc, aI (xg x) 4 (a 5) 12 Hs] rfl 0 0 ⟨by omega, by omega⟩ [.ref o] rfl (Nat.le_of_ble_eq_true rfl) dX4_put_27 rfl (fun _ _ h => h.elim) (fun v Ws h => ?_)
      obtain ⟨rfl, hs_4, rfl⟩ := h
      show SW x [tmO (xg x) o a z, aL (xg x) (a 3) 12 N, aI (xg x) 0 (a 4) 12 Sc, aI (xg x) 4 (a 5) 12 Hs] _ _ _ _ [.int (jI (inI u (-999999999999999999) 999999999999999999)), .ref o]
      refine sw_if_ne (n := 33) F (by omega) (tgt := 37) dX4_put_30 (by decide) rfl (fun c_30 => ?_) (fun c_30 => ?_)
      ·
        refine sw_iconst (n := 38) F (0) (by decide) dX4_put_37 rfl ?_
        refine sw_callV (n := 41) F (ct_X4_fails (g := xg x) (l := xl x) o a z 0 (by first | assumption | omega)) (rcv_ob F 0 (ci := 3) rfl rfl) q3973 q3975 qs68 q120 q3976 nd_X4_fails rfl (by decide) [0, 1, 2, 3] rfl [aL (xg x) (a 3) 12 N, aI (xg x) 0 (a 4) 12 Sc, aI (xg x) 4 (a 5) 12 Hs] rfl 0 0 ⟨by omega, by omega⟩ [] rfl (Nat.le_of_ble_eq_true rfl) dX4_put_38 rfl (fun _ _ h => h.elim) (fun v Ws h => ?_)
        obtain ⟨rfl, hps_5, rfl⟩ := h
        show SW x [tmO (xg x) o a (va_up z 8 0), aL (xg x) (a 3) 12 N, aI (xg x) 0 (a 4) 12 Sc, aI (xg x) 4 (a 5) 12 Hs] _ _ _ _ [.int (jI 0)]
        refine sw_if_eq (n := 44) F (by decide) (tgt := 46) dX4_put_41 (by decide) rfl (fun c_41 => ?_) (fun c_41 => ?_)
        ·
          refine sw_aload_n (n := 47) F 0 (some o) rfl rfl rfl dX4_put_46 rfl ?_
          refine sw_get (n := 50) F 0 rfl (k := 3) ⟨(RX4, TX4, 50), rfl, by decide, q3802, in_X4, Or.inl rfl⟩ (v := .ref (a 3)) rfl dX4_put_47 rfl ?_
          refine sw_iload_n (n := 51) F 1 rfl rfl dX4_put_50 rfl ?_
          refine sw_lload_n (n := 52) F 2 rfl rfl dX4_put_51 rfl ?_
          refine sw_lastoreL (n := 53) F 1 rfl (fun _ => rfl) ((s : Int).toNat) (by omega) (by omega) [tmO (xg x) o a (va_up z 8 0), aL (xg x) (a 3) 12 (va_up N ((s : Int).toNat) u), aI (xg x) 0 (a 4) 12 Sc, aI (xg x) 4 (a 5) 12 Hs] (by simp [List.set]) dX4_put_52 rfl ?_
          refine sw_aload_n (n := 54) F 0 (some o) rfl rfl rfl dX4_put_53 rfl ?_
          refine sw_get (n := 57) F 0 rfl (k := 4) ⟨(RX4, TX4, 50), rfl, by decide, q3803, in_X4, Or.inl rfl⟩ (v := .ref (a 4)) rfl dX4_put_54 rfl ?_
          refine sw_iload_n (n := 58) F 1 rfl rfl dX4_put_57 rfl ?_
          refine sw_iload (n := 60) F 3 rfl dX4_put_58 rfl ?_
          refine sw_iastoreI (n := 61) F 2 rfl (fun _ => rfl) ((s : Int).toNat) (by omega) (by omega) [tmO (xg x) o a (va_up z 8 0), aL (xg x) (a 3) 12 (va_up N ((s : Int).toNat) u), aI (xg x) 0 (a 4) 12 (va_up Sc ((s : Int).toNat) sc), aI (xg x) 4 (a 5) 12 Hs] (by simp [List.set]) dX4_put_60 rfl ?_
          refine sw_aload_n (n := 62) F 0 (some o) rfl rfl rfl dX4_put_61 rfl ?_
          refine sw_get (n := 65) F 0 rfl (k := 5) ⟨(RX4, TX4, 50), rfl, by decide, q3804, in_X4, Or.inl rfl⟩ (v := .ref (a 5)) rfl dX4_put_62 rfl ?_
          refine sw_iload_n (n := 66) F 1 rfl rfl dX4_put_65 rfl ?_
          refine sw_iconst (n := 67) F (1) (by decide) dX4_put_66 rfl ?_
          refine sw_zastoreI (n := 68) F 3 rfl (fun _ => rfl) ((s : Int).toNat) (by omega) (by omega) (by omega) [tmO (xg x) o a (va_up z 8 0), aL (xg x) (a 3) 12 (va_up N ((s : Int).toNat) u), aI (xg x) 0 (a 4) 12 (va_up Sc ((s : Int).toNat) sc), aI (xg x) 4 (a 5) 12 (va_up Hs ((s : Int).toNat) 1)] (by simp [List.set]) dX4_put_67 rfl ?_
          refine sw_lload_n (n := 69) F 2 rfl rfl dX4_put_68 rfl ?_
          refine sw_callS (n := 72) F (ct_X4_digitsOf (g := xg x) (l := xl x) u hu) q3977 q3978 q120 q3979 nd_X4_digitsOf rfl (by decide) [0, 1, 2, 3] rfl [tmO (xg x) o a (va_up z 8 0), aL (xg x) (a 3) 12 (va_up N ((s : Int).toNat) u), aI (xg x) 0 (a 4) 12 (va_up Sc ((s : Int).toNat) sc), aI (xg x) 4 (a 5) 12 (va_up Hs ((s : Int).toNat) 1)] rfl 0 0 ⟨by omega, by omega⟩ [] rfl (Nat.le_of_ble_eq_true rfl) dX4_put_69 rfl (fun _ _ h => h.elim) (fun v Ws h => ?_)
          obtain ⟨rfl, rfl⟩ := h
          show SW x [tmO (xg x) o a (va_up z 8 0), aL (xg x) (a 3) 12 (va_up N ((s : Int).toNat) u), aI (xg x) 0 (a 4) 12 (va_up Sc ((s : Int).toNat) sc), aI (xg x) 4 (a 5) 12 (va_up Hs ((s : Int).toNat) 1)] _ _ _ _ [.int (jI (↑(dgc u.natAbs)))]
          have e : putC s u sc = 0 := by unfold putC; (repeat' split) <;> omega
          exact sw_iret F _ rfl (by first | rfl | exact jI_nz (by omega) | exact jI_nc (by omega)) dX4_put_72 (by rw [hPo]; exact ⟨(by rw [e]; first | rfl | (rw [if0_0]; congr 3; omega)), (by simp only [e, up0_0])⟩)
        · exfalso; exact absurd c_41 (by decide)
      ·
        refine sw_iconst (n := 34) F (2) (by decide) dX4_put_33 rfl ?_
        refine sw_goto F (n := 38) dX4_put_34 (by decide) ?_
        refine sw_callV (n := 41) F (ct_X4_fails (g := xg x) (l := xl x) o a z 2 (by first | assumption | omega)) (rcv_ob F 0 (ci := 3) rfl rfl) q3973 q3975 qs68 q120 q3976 nd_X4_fails rfl (by decide) [0, 1, 2, 3] rfl [aL (xg x) (a 3) 12 N, aI (xg x) 0 (a 4) 12 Sc, aI (xg x) 4 (a 5) 12 Hs] rfl 0 0 ⟨by omega, by omega⟩ [] rfl (Nat.le_of_ble_eq_true rfl) dX4_put_38 rfl (fun _ _ h => h.elim) (fun v Ws h => ?_)
        obtain ⟨rfl, hps_6, rfl⟩ := h
        show SW x [tmO (xg x) o a (va_up z 8 2), aL (xg x) (a 3) 12 N, aI (xg x) 0 (a 4) 12 Sc, aI (xg x) 4 (a 5) 12 Hs] _ _ _ _ [.int (jI 1)]
        refine sw_if_eq (n := 44) F (by decide) (tgt := 46) dX4_put_41 (by decide) rfl (fun c_41 => ?_) (fun c_41 => ?_)
        · exfalso; exact absurd c_41 (by decide)
        ·
          refine sw_iconst (n := 45) F (0) (by decide) dX4_put_44 rfl ?_
          have e : putC s u sc = 2 := by unfold putC; (repeat' split) <;> omega
          exact sw_iret F _ rfl (by first | rfl | exact jI_nz (by omega) | exact jI_nc (by omega)) dX4_put_45 (by rw [hPo]; exact ⟨(by rw [e]; first | rfl | (rw [if0_0]; congr 3; omega)), (by simp only [e, up0_2])⟩)
  ·
    refine sw_iconst (n := 9) F (1) (by decide) dX4_put_8 rfl ?_
    refine sw_goto F (n := 38) dX4_put_9 (by decide) ?_
    refine sw_callV (n := 41) F (ct_X4_fails (g := xg x) (l := xl x) o a z 1 (by first | assumption | omega)) (rcv_ob F 0 (ci := 3) rfl rfl) q3973 q3975 qs68 q120 q3976 nd_X4_fails rfl (by decide) [0, 1, 2, 3] rfl [aL (xg x) (a 3) 12 N, aI (xg x) 0 (a 4) 12 Sc, aI (xg x) 4 (a 5) 12 Hs] rfl 0 0 ⟨by omega, by omega⟩ [] rfl (Nat.le_of_ble_eq_true rfl) dX4_put_38 rfl (fun _ _ h => h.elim) (fun v Ws h => ?_)
    obtain ⟨rfl, hps_7, rfl⟩ := h
    show SW x [tmO (xg x) o a (va_up z 8 1), aL (xg x) (a 3) 12 N, aI (xg x) 0 (a 4) 12 Sc, aI (xg x) 4 (a 5) 12 Hs] _ _ _ _ [.int (jI 1)]
    refine sw_if_eq (n := 44) F (by decide) (tgt := 46) dX4_put_41 (by decide) rfl (fun c_41 => ?_) (fun c_41 => ?_)
    · exfalso; exact absurd c_41 (by decide)
    ·
      refine sw_iconst (n := 45) F (0) (by decide) dX4_put_44 rfl ?_
      have e : putC s u sc = 1 := by unfold putC; (repeat' split) <;> omega
      exact sw_iret F _ rfl (by first | rfl | exact jI_nz (by omega) | exact jI_nc (by omega)) dX4_put_45 (by rw [hPo]; exact ⟨(by rw [e]; first | rfl | (rw [if0_0]; congr 3; omega)), (by simp only [e, up0_1])⟩)
theorem nd_X4_noValue : yX4_noValue.cls ≠ "java/lang/invoke/MethodHandle" ∧ yX4_noValue.cls ≠ "java/lang/invoke/VarHandle" ∧ (parseMethodDescriptor yX4_noValue.desc).map (fun d => d.parameters.length) = some 1 := by decide +kernel
set_option maxRecDepth 100000 in
set_option maxHeartbeats 1000000 in
theorem ct_X4_noValue {g : GG} {l : Launch} (o : Nat) (a : Nat → Nat) (z : Nat → Int) (Hs : Nat → Int) (s : Int) (hs : -2147483648 ≤ s ∧ s ≤ 2147483647) (hB : HB Hs) : Ct g l yX4_noValue (ws_ yX4_noValue cX4_noValue 2 (Option.some Jvm.ClassFile.FieldType.int)) 3 57 0 0 [.ref o, .int (jI s)] [tmO g o a z, aI g 4 (a 5) 12 Hs] (fun v9 Ws9 => v9 = some (.int (jI (nvC s Hs))) ∧ ((nvC s Hs = 1 ∧ (s < 0 ∨ 11 < s)) ∨ (nvC s Hs = 2 ∧ 0 ≤ s ∧ s ≤ 11 ∧ Hs s.toNat = 0) ∨ (nvC s Hs = 0 ∧ 0 ≤ s ∧ s ≤ 11 ∧ Hs s.toNat ≠ 0)) ∧ Ws9 = [tmO g o a z, aI g 4 (a 5) 12 Hs]) (nox) := by
  refine Ct.of (cc := cX4_noValue) (nL := 2) (ret := (Option.some Jvm.ClassFile.FieldType.int)) (by decide) rfl (Nat.le_of_ble_eq_true rfl) ?_
  intro x hg hl hPo hPx hmc hms F
  subst hg; subst hl
  refine SW.cast (L' := [(0, .ref o), (1, .int (jI s))]) ?_ rfl rfl rfl
  have hq := hB s.toNat
  have hg := nvC_cases s Hs
  refine sw_iload_n (n := 1) F 1 rfl rfl dX4_noValue_0 rfl ?_
  refine sw_callS (n := 4) F (ct_X4_isShelf (g := xg x) (l := xl x) s hs) q3959 q3960 q120 q3961 nd_X4_isShelf rfl (by decide) [0, 1] rfl [tmO (xg x) o a z, aI (xg x) 4 (a 5) 12 Hs] rfl 0 0 ⟨by omega, by omega⟩ [] rfl (Nat.le_of_ble_eq_true rfl) dX4_noValue_1 rfl (fun _ _ h => h.elim) (fun v Ws h => ?_)
  obtain ⟨rfl, hs_1, rfl⟩ := h
  show SW x [tmO (xg x) o a z, aI (xg x) 4 (a 5) 12 Hs] _ _ _ _ [.int (jI (inI s 0 11))]
  refine sw_if_ne (n := 7) F (by omega) (tgt := 11) dX4_noValue_4 (by decide) rfl (fun c_4 => ?_) (fun c_4 => ?_)
  ·
    refine sw_aload_n (n := 12) F 0 (some o) rfl rfl rfl dX4_noValue_11 rfl ?_
    refine sw_get (n := 15) F 0 rfl (k := 5) ⟨(RX4, TX4, 50), rfl, by decide, q3804, in_X4, Or.inl rfl⟩ (v := .ref (a 5)) rfl dX4_noValue_12 rfl ?_
    refine sw_iload_n (n := 16) F 1 rfl rfl dX4_noValue_15 rfl ?_
    refine sw_zaloadI (n := 17) F 1 rfl (fun _ => rfl) ((s : Int).toNat) (by omega) (by omega) dX4_noValue_16 rfl ?_
    refine sw_if_eq (n := 20) F (by omega) (tgt := 24) dX4_noValue_17 (by decide) rfl (fun c_17 => ?_) (fun c_17 => ?_)
    ·
      refine sw_iconst (n := 25) F (2) (by decide) dX4_noValue_24 rfl ?_
      exact sw_iret F _ rfl (by first | rfl | exact jI_nz (by omega) | exact jI_nc (by omega)) dX4_noValue_25 (by rw [hPo]; exact ⟨(by first | (congr 3; omega) | (congr 2; omega) | rfl), (by exact nvC_cases _ _), rfl⟩)
    ·
      refine sw_iconst (n := 21) F (0) (by decide) dX4_noValue_20 rfl ?_
      refine sw_goto F (n := 25) dX4_noValue_21 (by decide) ?_
      exact sw_iret F _ rfl (by first | rfl | exact jI_nz (by omega) | exact jI_nc (by omega)) dX4_noValue_25 (by rw [hPo]; exact ⟨(by first | (congr 3; omega) | (congr 2; omega) | rfl), (by exact nvC_cases _ _), rfl⟩)
  ·
    refine sw_iconst (n := 8) F (1) (by decide) dX4_noValue_7 rfl ?_
    refine sw_goto F (n := 25) dX4_noValue_8 (by decide) ?_
    exact sw_iret F _ rfl (by first | rfl | exact jI_nz (by omega) | exact jI_nc (by omega)) dX4_noValue_25 (by rw [hPo]; exact ⟨(by first | (congr 3; omega) | (congr 2; omega) | rfl), (by exact nvC_cases _ _), rfl⟩)
