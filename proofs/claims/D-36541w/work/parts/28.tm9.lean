def tyC (n : Int) : Int := if n = 24 then 1 else 0
def prZ (v : Int) : Int := if v = 0 then 0 else if v < 0 then -(dgc v.natAbs : Int) else dgc v.natAbs
theorem prZ_0 {v : Int} (h : v = 0) : prZ v = 0 := if_pos h
theorem prZ_m {v : Int} (h : v < 0) : prZ v = -(dgc v.natAbs : Int) := by unfold prZ; rw [if_neg (by omega), if_pos h]
theorem prZ_p {v : Int} (h : 0 < v) : prZ v = (dgc v.natAbs : Int) := by unfold prZ; rw [if_neg (by omega), if_neg (by omega)]
def cmC (s t : Int) (H : Nat → Int) : Int := if s < 0 ∨ 11 < s ∨ t < 0 ∨ 11 < t then 1 else if H s.toNat = 0 ∨ H t.toNat = 0 then 2 else 0
theorem nd_X4_type : yX4_type.cls ≠ "java/lang/invoke/MethodHandle" ∧ yX4_type.cls ≠ "java/lang/invoke/VarHandle" ∧ (parseMethodDescriptor yX4_type.desc).map (fun d => d.parameters.length) = some 1 := by decide +kernel
set_option maxRecDepth 100000 in
set_option maxHeartbeats 1000000 in
theorem ct_X4_type {g : GG} {l : Launch} (o : Nat) (a : Nat → Nat) (z : Nat → Int) (T : Nat → Int) (c : Int) (hc : 0 ≤ c ∧ c ≤ 65535) (hz7 : 0 ≤ z 7 ∧ z 7 ≤ 24) : Ct g l yX4_type (ws_ yX4_type cX4_type 2 (Option.some Jvm.ClassFile.FieldType.int)) 2 33 0 0 [.ref o, .int (jI c)] [tmO g o a z, aI g 2 (a 6) 24 T] (fun v9 Ws9 => v9 = some (.int (jI (if0 (tyC (z 7)) (z 7 + 1)))) ∧ Ws9 = [tmO g o a (va_up (up0 (tyC (z 7)) z 7 (z 7 + 1)) 8 (tyC (z 7))), aI g 2 (a 6) 24 (up0 (tyC (z 7)) T (z 7).toNat c)]) (nox) := by
  refine Ct.of (cc := cX4_type) (nL := 2) (ret := (Option.some Jvm.ClassFile.FieldType.int)) (by decide) rfl (Nat.le_of_ble_eq_true rfl) ?_
  intro x hg hl hPo hPx hmc hms F
  subst hg; subst hl
  refine SW.cast (L' := [(0, .ref o), (1, .int (jI c))]) ?_ rfl rfl rfl
  refine sw_aload_n (n := 1) F 0 (some o) rfl rfl rfl dX4_type_0 rfl ?_
  refine sw_aload_n (n := 2) F 0 (some o) rfl rfl rfl dX4_type_1 rfl ?_
  refine sw_get (n := 5) F 0 rfl (k := 7) ⟨(RX4, TX4, 50), rfl, by decide, q3806, in_X4, Or.inl rfl⟩ (v := .int (jI (z 7))) rfl dX4_type_2 rfl ?_
  refine sw_bipush (n := 7) F (24) (by decide) dX4_type_5 rfl ?_
  refine sw_icmp_ne (n := 10) F (by omega) (by decide) (tgt := 14) dX4_type_7 (by decide) rfl (fun c_7 => ?_) (fun c_7 => ?_)
  ·
    refine sw_iconst (n := 15) F (0) (by decide) dX4_type_14 rfl ?_
    refine sw_callV (n := 18) F (ct_X4_fails (g := xg x) (l := xl x) o a z 0 (by first | assumption | omega)) (rcv_ob F 0 (ci := 3) rfl rfl) q3973 q3975 qs68 q120 q3976 nd_X4_fails rfl (by decide) [0, 1] rfl [aI (xg x) 2 (a 6) 24 T] rfl 0 0 ⟨by omega, by omega⟩ [] rfl (Nat.le_of_ble_eq_true rfl) dX4_type_15 rfl (fun _ _ h => h.elim) (fun v Ws h => ?_)
    obtain ⟨rfl, hps_1, rfl⟩ := h
    show SW x [tmO (xg x) o a (va_up z 8 0), aI (xg x) 2 (a 6) 24 T] _ _ _ _ [.int (jI 0)]
    refine sw_if_eq (n := 21) F (by decide) (tgt := 23) dX4_type_18 (by decide) rfl (fun c_18 => ?_) (fun c_18 => ?_)
    ·
      refine sw_aload_n (n := 24) F 0 (some o) rfl rfl rfl dX4_type_23 rfl ?_
      refine sw_get (n := 27) F 0 rfl (k := 6) ⟨(RX4, TX4, 50), rfl, by decide, q3805, in_X4, Or.inl rfl⟩ (v := .ref (a 6)) rfl dX4_type_24 rfl ?_
      refine sw_aload_n (n := 28) F 0 (some o) rfl rfl rfl dX4_type_27 rfl ?_
      refine sw_get (n := 31) F 0 rfl (k := 7) ⟨(RX4, TX4, 50), rfl, by decide, q3806, in_X4, Or.inl rfl⟩ (v := .int (jI (z 7))) rfl dX4_type_28 rfl ?_
      refine sw_iload_n (n := 32) F 1 rfl rfl dX4_type_31 rfl ?_
      refine sw_castoreI (n := 33) F 1 rfl (fun _ => rfl) ((z 7 : Int).toNat) (by omega) (by omega) (by omega) [tmO (xg x) o a (va_up z 8 0), aI (xg x) 2 (a 6) 24 (va_up T ((z 7 : Int).toNat) c)] (by simp [List.set]) dX4_type_32 rfl ?_
      refine sw_aload_n (n := 34) F 0 (some o) rfl rfl rfl dX4_type_33 rfl ?_
      refine sw_dup (n := 35) F rfl dX4_type_34 rfl ?_
      refine sw_get (n := 38) F 0 rfl (k := 7) ⟨(RX4, TX4, 50), rfl, by decide, q3806, in_X4, Or.inl rfl⟩ (v := .int (jI (z 7))) rfl dX4_type_35 rfl ?_
      refine sw_iconst (n := 39) F (1) (by decide) dX4_type_38 rfl ?_
      refine sw_iadd (n := 40) F dX4_type_39 rfl ?_
      refine sw_put (n := 43) F 0 rfl (k := 7) ⟨(RX4, TX4, 50), rfl, by decide, q3806, in_X4, Or.inl rfl⟩ .int ⟨(RX4, TX4, 50), rfl, rfl, tyX4_ok 7 (by decide), nmX4, tyX4, tyX4_ok⟩ rfl rfl (Nat.le_of_ble_eq_true rfl) (fs' := tmF a (va_up (va_up z 7 ((z 7) + 1)) 8 0)) rfl [tmO (xg x) o a (va_up (va_up z 7 ((z 7) + 1)) 8 0), aI (xg x) 2 (a 6) 24 (va_up T ((z 7 : Int).toNat) c)] rfl dX4_type_40 rfl ?_
      refine sw_aload_n (n := 44) F 0 (some o) rfl rfl rfl dX4_type_43 rfl ?_
      refine sw_get (n := 47) F 0 rfl (k := 7) ⟨(RX4, TX4, 50), rfl, by decide, q3806, in_X4, Or.inl rfl⟩ (v := .int (jI ((z 7) + 1))) rfl dX4_type_44 rfl ?_
      have e : tyC (z 7) = 0 := by unfold tyC; (repeat' split) <;> omega
      exact sw_iret F _ rfl (by first | rfl | exact jI_nz (by omega) | exact jI_nc (by omega)) dX4_type_47 (by rw [hPo]; exact ⟨(by rw [e]; first | rfl | (rw [if0_0]; congr 3; omega)), (by simp only [e, up0_0])⟩)
    · exfalso; exact absurd c_18 (by decide)
  ·
    refine sw_iconst (n := 11) F (1) (by decide) dX4_type_10 rfl ?_
    refine sw_goto F (n := 15) dX4_type_11 (by decide) ?_
    refine sw_callV (n := 18) F (ct_X4_fails (g := xg x) (l := xl x) o a z 1 (by first | assumption | omega)) (rcv_ob F 0 (ci := 3) rfl rfl) q3973 q3975 qs68 q120 q3976 nd_X4_fails rfl (by decide) [0, 1] rfl [aI (xg x) 2 (a 6) 24 T] rfl 0 0 ⟨by omega, by omega⟩ [] rfl (Nat.le_of_ble_eq_true rfl) dX4_type_15 rfl (fun _ _ h => h.elim) (fun v Ws h => ?_)
    obtain ⟨rfl, hps_2, rfl⟩ := h
    show SW x [tmO (xg x) o a (va_up z 8 1), aI (xg x) 2 (a 6) 24 T] _ _ _ _ [.int (jI 1)]
    refine sw_if_eq (n := 21) F (by decide) (tgt := 23) dX4_type_18 (by decide) rfl (fun c_18 => ?_) (fun c_18 => ?_)
    · exfalso; exact absurd c_18 (by decide)
    ·
      refine sw_iconst (n := 22) F (0) (by decide) dX4_type_21 rfl ?_
      have e : tyC (z 7) = 1 := by unfold tyC; (repeat' split) <;> omega
      exact sw_iret F _ rfl (by first | rfl | exact jI_nz (by omega) | exact jI_nc (by omega)) dX4_type_22 (by rw [hPo]; exact ⟨(by rw [e]; first | rfl | (rw [if0_0]; congr 3; omega)), (by simp only [e, up0_1])⟩)
theorem nd_X4_precision : yX4_precision.cls ≠ "java/lang/invoke/MethodHandle" ∧ yX4_precision.cls ≠ "java/lang/invoke/VarHandle" ∧ (parseMethodDescriptor yX4_precision.desc).map (fun d => d.parameters.length) = some 1 := by decide +kernel
set_option maxRecDepth 100000 in
set_option maxHeartbeats 1000000 in
theorem ct_X4_precision {g : GG} {l : Launch} (o : Nat) (a : Nat → Nat) (z : Nat → Int) (N : Nat → Int) (Sc : Nat → Int) (Hs : Nat → Int) (s : Int) (hs : -2147483648 ≤ s ∧ s ≤ 2147483647) (hB : HB Hs) (hN : NB N) : Ct g l yX4_precision (ws_ yX4_precision cX4_precision 2 (Option.some Jvm.ClassFile.FieldType.int)) 4 78 0 0 [.ref o, .int (jI s)] [tmO g o a z, aL g (a 3) 12 N, aI g 0 (a 4) 12 Sc, aI g 4 (a 5) 12 Hs] (fun v9 Ws9 => v9 = some (.int (jI (if0 (nvC s Hs) (prZ (N s.toNat))))) ∧ Ws9 = [tmO g o a (va_up z 8 (nvC s Hs)), aL g (a 3) 12 N, aI g 0 (a 4) 12 Sc, aI g 4 (a 5) 12 Hs]) (nox) := by
  refine Ct.of (cc := cX4_precision) (nL := 2) (ret := (Option.some Jvm.ClassFile.FieldType.int)) (by decide) rfl (Nat.le_of_ble_eq_true rfl) ?_
  intro x hg hl hPo hPx hmc hms F
  subst hg; subst hl
  refine SW.cast (L' := [(0, .ref o), (1, .int (jI s))]) ?_ rfl rfl rfl
  have hn := hN s.toNat
  refine sw_aload_n (n := 1) F 0 (some o) rfl rfl rfl dX4_precision_0 rfl ?_
  refine sw_aload_n (n := 2) F 0 (some o) rfl rfl rfl dX4_precision_1 rfl ?_
  refine sw_iload_n (n := 3) F 1 rfl rfl dX4_precision_2 rfl ?_
  refine sw_callV (n := 6) F (ct_X4_noValue (g := xg x) (l := xl x) o a z Hs s hs hB) (rcv_ob F 0 (ci := 3) rfl rfl) q4036 q4038 qs77 q120 q4039 nd_X4_noValue rfl (by decide) [0, 3, 1, 2] rfl [aL (xg x) (a 3) 12 N, aI (xg x) 0 (a 4) 12 Sc] rfl 0 0 ⟨by omega, by omega⟩ [.ref o] rfl (Nat.le_of_ble_eq_true rfl) dX4_precision_3 rfl (fun _ _ h => h.elim) (fun v Ws h => ?_)
  obtain ⟨rfl, hc_1, rfl⟩ := h
  show SW x [tmO (xg x) o a z, aI (xg x) 4 (a 5) 12 Hs, aL (xg x) (a 3) 12 N, aI (xg x) 0 (a 4) 12 Sc] _ _ _ _ [.int (jI (nvC s Hs)), .ref o]
  refine sw_callV (n := 9) F (ct_X4_fails (g := xg x) (l := xl x) o a z (nvC s Hs) (by first | assumption | omega)) (rcv_ob F 0 (ci := 3) rfl rfl) q3973 q3975 qs68 q120 q3976 nd_X4_fails rfl (by decide) [0, 1, 2, 3] rfl [aI (xg x) 4 (a 5) 12 Hs, aL (xg x) (a 3) 12 N, aI (xg x) 0 (a 4) 12 Sc] rfl 0 0 ⟨by omega, by omega⟩ [] rfl (Nat.le_of_ble_eq_true rfl) dX4_precision_6 rfl (fun _ _ h => h.elim) (fun v Ws h => ?_)
  obtain ⟨rfl, hps_2, rfl⟩ := h
  show SW x [tmO (xg x) o a (va_up z 8 (nvC s Hs)), aI (xg x) 4 (a 5) 12 Hs, aL (xg x) (a 3) 12 N, aI (xg x) 0 (a 4) 12 Sc] _ _ _ _ [.int (jI (psI (nvC s Hs)))]
  refine sw_if_ne (n := 12) F (by omega) (tgt := 23) dX4_precision_9 (by decide) rfl (fun c_9 => ?_) (fun c_9 => ?_)
  ·
    refine sw_iconst (n := 24) F (0) (by decide) dX4_precision_23 rfl ?_
    refine sw_perm [0, 2, 3, 1] rfl [tmO (xg x) o a (va_up z 8 (nvC s Hs)), aL (xg x) (a 3) 12 N, aI (xg x) 0 (a 4) 12 Sc, aI (xg x) 4 (a 5) 12 Hs] rfl ?_
    exact sw_iret F _ rfl (by first | rfl | exact jI_nz (by omega) | exact jI_nc (by omega)) dX4_precision_24 (by rw [hPo]; exact ⟨(by first | rw [if0_n (by omega)] | rw [if0_p (by omega), prZ_0 (by omega)]), rfl⟩)
  ·
    refine sw_aload_n (n := 13) F 0 (some o) rfl rfl rfl dX4_precision_12 rfl ?_
    refine sw_get (n := 16) F 0 rfl (k := 3) ⟨(RX4, TX4, 50), rfl, by decide, q3802, in_X4, Or.inl rfl⟩ (v := .ref (a 3)) rfl dX4_precision_13 rfl ?_
    refine sw_iload_n (n := 17) F 1 rfl rfl dX4_precision_16 rfl ?_
    refine sw_laloadL (n := 18) F 2 rfl (fun _ => rfl) ((s : Int).toNat) (by omega) (by omega) dX4_precision_17 rfl ?_
    refine sw_lconst (n := 19) F 0 (by decide) dX4_precision_18 rfl ?_
    refine sw_lcmp (n := 20) F (by omega) (by decide) dX4_precision_19 rfl ?_
    refine sw_if_ne (n := 23) F (by omega) (tgt := 25) dX4_precision_20 (by decide) rfl (fun c_20 => ?_) (fun c_20 => ?_)
    ·
      have c_20 : N ((s : Int).toNat) ≠ 0 := by revert c_20; (repeat' split) <;> omega
      refine sw_aload_n (n := 26) F 0 (some o) rfl rfl rfl dX4_precision_25 rfl ?_
      refine sw_get (n := 29) F 0 rfl (k := 3) ⟨(RX4, TX4, 50), rfl, by decide, q3802, in_X4, Or.inl rfl⟩ (v := .ref (a 3)) rfl dX4_precision_26 rfl ?_
      refine sw_iload_n (n := 30) F 1 rfl rfl dX4_precision_29 rfl ?_
      refine sw_laloadL (n := 31) F 2 rfl (fun _ => rfl) ((s : Int).toNat) (by omega) (by omega) dX4_precision_30 rfl ?_
      refine sw_lconst (n := 32) F 0 (by decide) dX4_precision_31 rfl ?_
      refine sw_lcmp (n := 33) F (by omega) (by decide) dX4_precision_32 rfl ?_
      refine sw_if_ge (n := 36) F (by omega) (tgt := 49) dX4_precision_33 (by decide) rfl (fun c_33 => ?_) (fun c_33 => ?_)
      ·
        have c_33 : N ((s : Int).toNat) ≥ 0 := by revert c_33; (repeat' split) <;> omega
        refine sw_aload_n (n := 50) F 0 (some o) rfl rfl rfl dX4_precision_49 rfl ?_
        refine sw_get (n := 53) F 0 rfl (k := 3) ⟨(RX4, TX4, 50), rfl, by decide, q3802, in_X4, Or.inl rfl⟩ (v := .ref (a 3)) rfl dX4_precision_50 rfl ?_
        refine sw_iload_n (n := 54) F 1 rfl rfl dX4_precision_53 rfl ?_
        refine sw_laloadL (n := 55) F 2 rfl (fun _ => rfl) ((s : Int).toNat) (by omega) (by omega) dX4_precision_54 rfl ?_
        refine sw_callS (n := 58) F (ct_X4_digitsOf (g := xg x) (l := xl x) (N ((s : Int).toNat)) (by first | assumption | omega)) q3977 q3978 q120 q3979 nd_X4_digitsOf rfl (by decide) [0, 1, 2, 3] rfl [tmO (xg x) o a (va_up z 8 (nvC s Hs)), aI (xg x) 4 (a 5) 12 Hs, aL (xg x) (a 3) 12 N, aI (xg x) 0 (a 4) 12 Sc] rfl 0 0 ⟨by omega, by omega⟩ [] rfl (Nat.le_of_ble_eq_true rfl) dX4_precision_55 rfl (fun _ _ h => h.elim) (fun v Ws h => ?_)
        obtain ⟨rfl, rfl⟩ := h
        show SW x [tmO (xg x) o a (va_up z 8 (nvC s Hs)), aI (xg x) 4 (a 5) 12 Hs, aL (xg x) (a 3) 12 N, aI (xg x) 0 (a 4) 12 Sc] _ _ _ _ [.int (jI (↑(dgc (N ((s : Int).toNat)).natAbs)))]
        refine sw_perm [0, 2, 3, 1] rfl [tmO (xg x) o a (va_up z 8 (nvC s Hs)), aL (xg x) (a 3) 12 N, aI (xg x) 0 (a 4) 12 Sc, aI (xg x) 4 (a 5) 12 Hs] rfl ?_
        exact sw_iret F _ rfl (by first | rfl | exact jI_nz (by omega) | exact jI_nc (by omega)) dX4_precision_58 (by rw [hPo]; exact ⟨(by first | rw [if0_p (by omega), prZ_m (by omega)] | rw [if0_p (by omega), prZ_p (by omega)]), rfl⟩)
      ·
        have c_33 : N ((s : Int).toNat) < 0 := by revert c_33; (repeat' split) <;> omega
        refine sw_aload_n (n := 37) F 0 (some o) rfl rfl rfl dX4_precision_36 rfl ?_
        refine sw_get (n := 40) F 0 rfl (k := 3) ⟨(RX4, TX4, 50), rfl, by decide, q3802, in_X4, Or.inl rfl⟩ (v := .ref (a 3)) rfl dX4_precision_37 rfl ?_
        refine sw_iload_n (n := 41) F 1 rfl rfl dX4_precision_40 rfl ?_
        refine sw_laloadL (n := 42) F 2 rfl (fun _ => rfl) ((s : Int).toNat) (by omega) (by omega) dX4_precision_41 rfl ?_
        refine sw_callS (n := 45) F (ct_X4_digitsOf (g := xg x) (l := xl x) (N ((s : Int).toNat)) (by first | assumption | omega)) q3977 q3978 q120 q3979 nd_X4_digitsOf rfl (by decide) [0, 1, 2, 3] rfl [tmO (xg x) o a (va_up z 8 (nvC s Hs)), aI (xg x) 4 (a 5) 12 Hs, aL (xg x) (a 3) 12 N, aI (xg x) 0 (a 4) 12 Sc] rfl 0 0 ⟨by omega, by omega⟩ [] rfl (Nat.le_of_ble_eq_true rfl) dX4_precision_42 rfl (fun _ _ h => h.elim) (fun v Ws h => ?_)
        obtain ⟨rfl, rfl⟩ := h
        show SW x [tmO (xg x) o a (va_up z 8 (nvC s Hs)), aI (xg x) 4 (a 5) 12 Hs, aL (xg x) (a 3) 12 N, aI (xg x) 0 (a 4) 12 Sc] _ _ _ _ [.int (jI (↑(dgc (N ((s : Int).toNat)).natAbs)))]
        refine sw_ineg (n := 46) F dX4_precision_45 rfl ?_
        refine sw_goto F (n := 58) dX4_precision_46 (by decide) ?_
        refine sw_perm [0, 2, 3, 1] rfl [tmO (xg x) o a (va_up z 8 (nvC s Hs)), aL (xg x) (a 3) 12 N, aI (xg x) 0 (a 4) 12 Sc, aI (xg x) 4 (a 5) 12 Hs] rfl ?_
        exact sw_iret F _ rfl (by first | rfl | exact jI_nz (by omega) | exact jI_nc (by omega)) dX4_precision_58 (by rw [hPo]; exact ⟨(by first | rw [if0_p (by omega), prZ_m (by omega)] | rw [if0_p (by omega), prZ_p (by omega)]), rfl⟩)
    ·
      have c_20 : N ((s : Int).toNat) = 0 := by revert c_20; (repeat' split) <;> omega
      refine sw_iconst (n := 24) F (0) (by decide) dX4_precision_23 rfl ?_
      refine sw_perm [0, 2, 3, 1] rfl [tmO (xg x) o a (va_up z 8 (nvC s Hs)), aL (xg x) (a 3) 12 N, aI (xg x) 0 (a 4) 12 Sc, aI (xg x) 4 (a 5) 12 Hs] rfl ?_
      exact sw_iret F _ rfl (by first | rfl | exact jI_nz (by omega) | exact jI_nc (by omega)) dX4_precision_24 (by rw [hPo]; exact ⟨(by first | rw [if0_n (by omega)] | rw [if0_p (by omega), prZ_0 (by omega)]), rfl⟩)
theorem nd_X4_compare : yX4_compare.cls ≠ "java/lang/invoke/MethodHandle" ∧ yX4_compare.cls ≠ "java/lang/invoke/VarHandle" ∧ (parseMethodDescriptor yX4_compare.desc).map (fun d => d.parameters.length) = some 2 := by decide +kernel
set_option maxRecDepth 100000 in
set_option maxHeartbeats 1000000 in
theorem ct_X4_compare {g : GG} {l : Launch} (o : Nat) (a : Nat → Nat) (z : Nat → Int) (D : Nat → Nat) (M : Nat → Nat) (N : Nat → Int) (Sc : Nat → Int) (Hs : Nat → Int) (s : Int) (t : Int) (hs : -2147483648 ≤ s ∧ s ≤ 2147483647) (ht : -2147483648 ≤ t ∧ t ≤ 2147483647) (hA : Dok D M) (hN : NB N) (hSc : SB Sc) (hB : HB Hs) : Ct g l yX4_compare (ws_ yX4_compare cX4_compare 3 (Option.some Jvm.ClassFile.FieldType.int)) 5 107 0 0 [.ref o, .int (jI s), .int (jI t)] [tmO g o a z, aN g 0 (a 0) 2400 D, aN g 0 (a 1) 10 M, aL g (a 3) 12 N, aI g 0 (a 4) 12 Sc, aI g 4 (a 5) 12 Hs] (fun v9 Ws9 => ∃ D1 : Nat → Nat, ∃ M1 : Nat → Nat, v9 = some (.int (jI (if0 (cmC s t Hs) (ordI N Sc s.toNat t.toNat)))) ∧ (RV [4, 5] D M D1 M1) ∧ Ws9 = [tmO g o a (va_up z 8 (cmC s t Hs)), aN g 0 (a 0) 2400 D1, aN g 0 (a 1) 10 M1, aL g (a 3) 12 N, aI g 0 (a 4) 12 Sc, aI g 4 (a 5) 12 Hs]) (nox) := by
  refine Ct.of (cc := cX4_compare) (nL := 3) (ret := (Option.some Jvm.ClassFile.FieldType.int)) (by decide) rfl (Nat.le_of_ble_eq_true rfl) ?_
  intro x hg hl hPo hPx hmc hms F
  subst hg; subst hl
  refine SW.cast (L' := [(0, .ref o), (1, .int (jI s)), (2, .int (jI t))]) ?_ rfl rfl rfl
  have hq1 := hB s.toNat
  have hq2 := hB t.toNat
  refine sw_aload_n (n := 1) F 0 (some o) rfl rfl rfl dX4_compare_0 rfl ?_
  refine sw_iload_n (n := 2) F 1 rfl rfl dX4_compare_1 rfl ?_
  refine sw_callS (n := 5) F (ct_X4_isShelf (g := xg x) (l := xl x) s hs) q3959 q3960 q120 q3961 nd_X4_isShelf rfl (by decide) [0, 1, 2, 3, 4, 5] rfl [tmO (xg x) o a z, aN (xg x) 0 (a 0) 2400 D, aN (xg x) 0 (a 1) 10 M, aL (xg x) (a 3) 12 N, aI (xg x) 0 (a 4) 12 Sc, aI (xg x) 4 (a 5) 12 Hs] rfl 0 0 ⟨by omega, by omega⟩ [.ref o] rfl (Nat.le_of_ble_eq_true rfl) dX4_compare_2 rfl (fun _ _ h => h.elim) (fun v Ws h => ?_)
  obtain ⟨rfl, hs_1, rfl⟩ := h
  show SW x [tmO (xg x) o a z, aN (xg x) 0 (a 0) 2400 D, aN (xg x) 0 (a 1) 10 M, aL (xg x) (a 3) 12 N, aI (xg x) 0 (a 4) 12 Sc, aI (xg x) 4 (a 5) 12 Hs] _ _ _ _ [.int (jI (inI s 0 11)), .ref o]
  refine sw_if_eq (n := 8) F (by omega) (tgt := 15) dX4_compare_5 (by decide) rfl (fun c_5 => ?_) (fun c_5 => ?_)
  ·
    refine sw_iconst (n := 16) F (1) (by decide) dX4_compare_15 rfl ?_
    refine sw_goto F (n := 42) dX4_compare_16 (by decide) ?_
    refine sw_callV (n := 45) F (ct_X4_fails (g := xg x) (l := xl x) o a z 1 (by first | assumption | omega)) (rcv_ob F 0 (ci := 3) rfl rfl) q3973 q3975 qs68 q120 q3976 nd_X4_fails rfl (by decide) [0, 1, 2, 3, 4, 5] rfl [aN (xg x) 0 (a 0) 2400 D, aN (xg x) 0 (a 1) 10 M, aL (xg x) (a 3) 12 N, aI (xg x) 0 (a 4) 12 Sc, aI (xg x) 4 (a 5) 12 Hs] rfl 0 0 ⟨by omega, by omega⟩ [] rfl (Nat.le_of_ble_eq_true rfl) dX4_compare_42 rfl (fun _ _ h => h.elim) (fun v Ws h => ?_)
    obtain ⟨rfl, hps_2, rfl⟩ := h
    show SW x [tmO (xg x) o a (va_up z 8 1), aN (xg x) 0 (a 0) 2400 D, aN (xg x) 0 (a 1) 10 M, aL (xg x) (a 3) 12 N, aI (xg x) 0 (a 4) 12 Sc, aI (xg x) 4 (a 5) 12 Hs] _ _ _ _ [.int (jI 1)]
    refine sw_if_eq (n := 48) F (by decide) (tgt := 52) dX4_compare_45 (by decide) rfl (fun c_45 => ?_) (fun c_45 => ?_)
    · exfalso; exact absurd c_45 (by decide)
    ·
      refine sw_iconst (n := 49) F (0) (by decide) dX4_compare_48 rfl ?_
      refine sw_goto F (n := 58) dX4_compare_49 (by decide) ?_
      have e : cmC s t Hs = 1 := by unfold cmC; (repeat' split) <;> omega
      exact sw_iret F _ rfl (by first | rfl | exact jI_nz (by omega) | exact jI_nc (by omega)) dX4_compare_58 (by rw [hPo]; exact ⟨D, M, (by rw [e]; first | rfl | (rw [if0_0]; congr 3; omega)), (by first | assumption | exact (RV.rf hA).mono (S := []) (by simp)), (by simp only [e, up0_1])⟩)
  ·
    refine sw_iload_n (n := 9) F 2 rfl rfl dX4_compare_8 rfl ?_
    refine sw_callS (n := 12) F (ct_X4_isShelf (g := xg x) (l := xl x) t ht) q3959 q3960 q120 q3961 nd_X4_isShelf rfl (by decide) [0, 1, 2, 3, 4, 5] rfl [tmO (xg x) o a z, aN (xg x) 0 (a 0) 2400 D, aN (xg x) 0 (a 1) 10 M, aL (xg x) (a 3) 12 N, aI (xg x) 0 (a 4) 12 Sc, aI (xg x) 4 (a 5) 12 Hs] rfl 0 0 ⟨by omega, by omega⟩ [.ref o] rfl (Nat.le_of_ble_eq_true rfl) dX4_compare_9 rfl (fun _ _ h => h.elim) (fun v Ws h => ?_)
    obtain ⟨rfl, hs_3, rfl⟩ := h
    show SW x [tmO (xg x) o a z, aN (xg x) 0 (a 0) 2400 D, aN (xg x) 0 (a 1) 10 M, aL (xg x) (a 3) 12 N, aI (xg x) 0 (a 4) 12 Sc, aI (xg x) 4 (a 5) 12 Hs] _ _ _ _ [.int (jI (inI t 0 11)), .ref o]
    refine sw_if_ne (n := 15) F (by omega) (tgt := 19) dX4_compare_12 (by decide) rfl (fun c_12 => ?_) (fun c_12 => ?_)
    ·
      refine sw_aload_n (n := 20) F 0 (some o) rfl rfl rfl dX4_compare_19 rfl ?_
      refine sw_get (n := 23) F 0 rfl (k := 5) ⟨(RX4, TX4, 50), rfl, by decide, q3804, in_X4, Or.inl rfl⟩ (v := .ref (a 5)) rfl dX4_compare_20 rfl ?_
      refine sw_iload_n (n := 24) F 1 rfl rfl dX4_compare_23 rfl ?_
      refine sw_zaloadI (n := 25) F 5 rfl (fun _ => rfl) ((s : Int).toNat) (by omega) (by omega) dX4_compare_24 rfl ?_
      refine sw_if_eq (n := 28) F (by omega) (tgt := 37) dX4_compare_25 (by decide) rfl (fun c_25 => ?_) (fun c_25 => ?_)
      ·
        refine sw_iconst (n := 38) F (2) (by decide) dX4_compare_37 rfl ?_
        refine sw_goto F (n := 42) dX4_compare_38 (by decide) ?_
        refine sw_callV (n := 45) F (ct_X4_fails (g := xg x) (l := xl x) o a z 2 (by first | assumption | omega)) (rcv_ob F 0 (ci := 3) rfl rfl) q3973 q3975 qs68 q120 q3976 nd_X4_fails rfl (by decide) [0, 1, 2, 3, 4, 5] rfl [aN (xg x) 0 (a 0) 2400 D, aN (xg x) 0 (a 1) 10 M, aL (xg x) (a 3) 12 N, aI (xg x) 0 (a 4) 12 Sc, aI (xg x) 4 (a 5) 12 Hs] rfl 0 0 ⟨by omega, by omega⟩ [] rfl (Nat.le_of_ble_eq_true rfl) dX4_compare_42 rfl (fun _ _ h => h.elim) (fun v Ws h => ?_)
        obtain ⟨rfl, hps_4, rfl⟩ := h
        show SW x [tmO (xg x) o a (va_up z 8 2), aN (xg x) 0 (a 0) 2400 D, aN (xg x) 0 (a 1) 10 M, aL (xg x) (a 3) 12 N, aI (xg x) 0 (a 4) 12 Sc, aI (xg x) 4 (a 5) 12 Hs] _ _ _ _ [.int (jI 1)]
        refine sw_if_eq (n := 48) F (by decide) (tgt := 52) dX4_compare_45 (by decide) rfl (fun c_45 => ?_) (fun c_45 => ?_)
        · exfalso; exact absurd c_45 (by decide)
        ·
          refine sw_iconst (n := 49) F (0) (by decide) dX4_compare_48 rfl ?_
          refine sw_goto F (n := 58) dX4_compare_49 (by decide) ?_
          have e : cmC s t Hs = 2 := by unfold cmC; (repeat' split) <;> omega
          exact sw_iret F _ rfl (by first | rfl | exact jI_nz (by omega) | exact jI_nc (by omega)) dX4_compare_58 (by rw [hPo]; exact ⟨D, M, (by rw [e]; first | rfl | (rw [if0_0]; congr 3; omega)), (by first | assumption | exact (RV.rf hA).mono (S := []) (by simp)), (by simp only [e, up0_2])⟩)
      ·
        refine sw_aload_n (n := 29) F 0 (some o) rfl rfl rfl dX4_compare_28 rfl ?_
        refine sw_get (n := 32) F 0 rfl (k := 5) ⟨(RX4, TX4, 50), rfl, by decide, q3804, in_X4, Or.inl rfl⟩ (v := .ref (a 5)) rfl dX4_compare_29 rfl ?_
        refine sw_iload_n (n := 33) F 2 rfl rfl dX4_compare_32 rfl ?_
        refine sw_zaloadI (n := 34) F 5 rfl (fun _ => rfl) ((t : Int).toNat) (by omega) (by omega) dX4_compare_33 rfl ?_
        refine sw_if_ne (n := 37) F (by omega) (tgt := 41) dX4_compare_34 (by decide) rfl (fun c_34 => ?_) (fun c_34 => ?_)
        ·
          refine sw_iconst (n := 42) F (0) (by decide) dX4_compare_41 rfl ?_
          refine sw_callV (n := 45) F (ct_X4_fails (g := xg x) (l := xl x) o a z 0 (by first | assumption | omega)) (rcv_ob F 0 (ci := 3) rfl rfl) q3973 q3975 qs68 q120 q3976 nd_X4_fails rfl (by decide) [0, 1, 2, 3, 4, 5] rfl [aN (xg x) 0 (a 0) 2400 D, aN (xg x) 0 (a 1) 10 M, aL (xg x) (a 3) 12 N, aI (xg x) 0 (a 4) 12 Sc, aI (xg x) 4 (a 5) 12 Hs] rfl 0 0 ⟨by omega, by omega⟩ [] rfl (Nat.le_of_ble_eq_true rfl) dX4_compare_42 rfl (fun _ _ h => h.elim) (fun v Ws h => ?_)
          obtain ⟨rfl, hps_5, rfl⟩ := h
          show SW x [tmO (xg x) o a (va_up z 8 0), aN (xg x) 0 (a 0) 2400 D, aN (xg x) 0 (a 1) 10 M, aL (xg x) (a 3) 12 N, aI (xg x) 0 (a 4) 12 Sc, aI (xg x) 4 (a 5) 12 Hs] _ _ _ _ [.int (jI 0)]
          refine sw_if_eq (n := 48) F (by decide) (tgt := 52) dX4_compare_45 (by decide) rfl (fun c_45 => ?_) (fun c_45 => ?_)
          ·
            refine sw_aload_n (n := 53) F 0 (some o) rfl rfl rfl dX4_compare_52 rfl ?_
            refine sw_iload_n (n := 54) F 1 rfl rfl dX4_compare_53 rfl ?_
            refine sw_iload_n (n := 55) F 2 rfl rfl dX4_compare_54 rfl ?_
            refine SW.cast (st' := [.int (jI (↑(t.toNat))), .int (jI (↑(s.toNat))), .ref o]) ?_ rfl rfl (by rw [Int.toNat_of_nonneg (show 0 ≤ s by omega), Int.toNat_of_nonneg (show 0 ≤ t by omega)]) 
            rw [show (↑(s.toNat) : Int) = ↑s.toNat by omega]
            rw [show (↑(t.toNat) : Int) = ↑t.toNat by omega]
            refine sw_callV (n := 58) F (ct_X4_order (g := xg x) (l := xl x) o a (va_up z 8 0) D M N Sc Hs s.toNat t.toNat (by omega) (by omega) hA hN hSc) (rcv_ob F 0 (ci := 3) rfl rfl) q4091 q4093 qs87 q120 q4094 nd_X4_order rfl (by decide) [0, 1, 2, 3, 4, 5] rfl [] rfl 0 0 ⟨by omega, by omega⟩ [] rfl (Nat.le_of_ble_eq_true rfl) dX4_compare_55 rfl (fun _ _ h => h.elim) (fun v Ws h => ?_)
            obtain ⟨D1_6, M1_7, rfl, hV_8, rfl⟩ := h
            show SW x [tmO (xg x) o a (va_up z 8 0), aN (xg x) 0 (a 0) 2400 D1_6, aN (xg x) 0 (a 1) 10 M1_7, aL (xg x) (a 3) 12 N, aI (xg x) 0 (a 4) 12 Sc, aI (xg x) 4 (a 5) 12 Hs] _ _ _ _ [.int (jI (ordI N Sc s.toNat t.toNat))]
            have a_9 := hV_8.1
            have e : cmC s t Hs = 0 := by unfold cmC; (repeat' split) <;> omega
            exact sw_iret F _ rfl (by first | rfl | exact jI_nz (by omega) | exact jI_nc (by omega)) dX4_compare_58 (by rw [hPo]; exact ⟨D1_6, M1_7, (by rw [e]; first | rfl | (rw [if0_0]; congr 3; omega)), (by first | assumption | exact (RV.rf hA).mono (S := []) (by simp)), (by simp only [e, up0_0])⟩)
          · exfalso; exact absurd c_45 (by decide)
        ·
          refine sw_iconst (n := 38) F (2) (by decide) dX4_compare_37 rfl ?_
          refine sw_goto F (n := 42) dX4_compare_38 (by decide) ?_
          refine sw_callV (n := 45) F (ct_X4_fails (g := xg x) (l := xl x) o a z 2 (by first | assumption | omega)) (rcv_ob F 0 (ci := 3) rfl rfl) q3973 q3975 qs68 q120 q3976 nd_X4_fails rfl (by decide) [0, 1, 2, 3, 4, 5] rfl [aN (xg x) 0 (a 0) 2400 D, aN (xg x) 0 (a 1) 10 M, aL (xg x) (a 3) 12 N, aI (xg x) 0 (a 4) 12 Sc, aI (xg x) 4 (a 5) 12 Hs] rfl 0 0 ⟨by omega, by omega⟩ [] rfl (Nat.le_of_ble_eq_true rfl) dX4_compare_42 rfl (fun _ _ h => h.elim) (fun v Ws h => ?_)
          obtain ⟨rfl, hps_10, rfl⟩ := h
          show SW x [tmO (xg x) o a (va_up z 8 2), aN (xg x) 0 (a 0) 2400 D, aN (xg x) 0 (a 1) 10 M, aL (xg x) (a 3) 12 N, aI (xg x) 0 (a 4) 12 Sc, aI (xg x) 4 (a 5) 12 Hs] _ _ _ _ [.int (jI 1)]
          refine sw_if_eq (n := 48) F (by decide) (tgt := 52) dX4_compare_45 (by decide) rfl (fun c_45 => ?_) (fun c_45 => ?_)
          · exfalso; exact absurd c_45 (by decide)
          ·
            refine sw_iconst (n := 49) F (0) (by decide) dX4_compare_48 rfl ?_
            refine sw_goto F (n := 58) dX4_compare_49 (by decide) ?_
            have e : cmC s t Hs = 2 := by unfold cmC; (repeat' split) <;> omega
            exact sw_iret F _ rfl (by first | rfl | exact jI_nz (by omega) | exact jI_nc (by omega)) dX4_compare_58 (by rw [hPo]; exact ⟨D, M, (by rw [e]; first | rfl | (rw [if0_0]; congr 3; omega)), (by first | assumption | exact (RV.rf hA).mono (S := []) (by simp)), (by simp only [e, up0_2])⟩)
    ·
      refine sw_iconst (n := 16) F (1) (by decide) dX4_compare_15 rfl ?_
      refine sw_goto F (n := 42) dX4_compare_16 (by decide) ?_
      refine sw_callV (n := 45) F (ct_X4_fails (g := xg x) (l := xl x) o a z 1 (by first | assumption | omega)) (rcv_ob F 0 (ci := 3) rfl rfl) q3973 q3975 qs68 q120 q3976 nd_X4_fails rfl (by decide) [0, 1, 2, 3, 4, 5] rfl [aN (xg x) 0 (a 0) 2400 D, aN (xg x) 0 (a 1) 10 M, aL (xg x) (a 3) 12 N, aI (xg x) 0 (a 4) 12 Sc, aI (xg x) 4 (a 5) 12 Hs] rfl 0 0 ⟨by omega, by omega⟩ [] rfl (Nat.le_of_ble_eq_true rfl) dX4_compare_42 rfl (fun _ _ h => h.elim) (fun v Ws h => ?_)
      obtain ⟨rfl, hps_11, rfl⟩ := h
      show SW x [tmO (xg x) o a (va_up z 8 1), aN (xg x) 0 (a 0) 2400 D, aN (xg x) 0 (a 1) 10 M, aL (xg x) (a 3) 12 N, aI (xg x) 0 (a 4) 12 Sc, aI (xg x) 4 (a 5) 12 Hs] _ _ _ _ [.int (jI 1)]
      refine sw_if_eq (n := 48) F (by decide) (tgt := 52) dX4_compare_45 (by decide) rfl (fun c_45 => ?_) (fun c_45 => ?_)
      · exfalso; exact absurd c_45 (by decide)
      ·
        refine sw_iconst (n := 49) F (0) (by decide) dX4_compare_48 rfl ?_
        refine sw_goto F (n := 58) dX4_compare_49 (by decide) ?_
        have e : cmC s t Hs = 1 := by unfold cmC; (repeat' split) <;> omega
        exact sw_iret F _ rfl (by first | rfl | exact jI_nz (by omega) | exact jI_nc (by omega)) dX4_compare_58 (by rw [hPo]; exact ⟨D, M, (by rw [e]; first | rfl | (rw [if0_0]; congr 3; omega)), (by first | assumption | exact (RV.rf hA).mono (S := []) (by simp)), (by simp only [e, up0_1])⟩)
