theorem nd_X4_unscaled : yX4_unscaled.cls ≠ "java/lang/invoke/MethodHandle" ∧ yX4_unscaled.cls ≠ "java/lang/invoke/VarHandle" ∧ (parseMethodDescriptor yX4_unscaled.desc).map (fun d => d.parameters.length) = some 1 := by decide +kernel
set_option maxRecDepth 100000 in
set_option maxHeartbeats 1000000 in
theorem ct_X4_unscaled {g : GG} {l : Launch} (o : Nat) (a : Nat → Nat) (z : Nat → Int) (N : Nat → Int) (Sc : Nat → Int) (Hs : Nat → Int) (s : Int) (hs : -2147483648 ≤ s ∧ s ≤ 2147483647) (hB : HB Hs) : Ct g l yX4_unscaled (ws_ yX4_unscaled cX4_unscaled 2 (Option.some Jvm.ClassFile.FieldType.long)) 4 78 0 0 [.ref o, .int (jI s)] [tmO g o a z, aL g (a 3) 12 N, aI g 0 (a 4) 12 Sc, aI g 4 (a 5) 12 Hs] (fun v9 Ws9 => v9 = some (.long (jL (if0 (nvC s Hs) (N s.toNat)))) ∧ Ws9 = [tmO g o a (va_up z 8 (nvC s Hs)), aL g (a 3) 12 N, aI g 0 (a 4) 12 Sc, aI g 4 (a 5) 12 Hs]) (nox) := by
  refine Ct.of (cc := cX4_unscaled) (nL := 2) (ret := (Option.some Jvm.ClassFile.FieldType.long)) (by decide) rfl (Nat.le_of_ble_eq_true rfl) ?_
  intro x hg hl hPo hPx hmc hms F
  subst hg; subst hl
  refine SW.cast (L' := [(0, .ref o), (1, .int (jI s))]) ?_ rfl rfl rfl
  refine sw_aload_n (n := 1) F 0 (some o) rfl rfl rfl dX4_unscaled_0 rfl ?_
  refine sw_aload_n (n := 2) F 0 (some o) rfl rfl rfl dX4_unscaled_1 rfl ?_
  refine sw_iload_n (n := 3) F 1 rfl rfl dX4_unscaled_2 rfl ?_
  refine sw_callV (n := 6) F (ct_X4_noValue (g := xg x) (l := xl x) o a z Hs s hs hB) (rcv_ob F 0 (ci := 3) rfl rfl) q4036 q4038 qs77 q120 q4039 nd_X4_noValue rfl (by decide) [0, 3, 1, 2] rfl [aL (xg x) (a 3) 12 N, aI (xg x) 0 (a 4) 12 Sc] rfl 0 0 ⟨by omega, by omega⟩ [.ref o] rfl (Nat.le_of_ble_eq_true rfl) dX4_unscaled_3 rfl (fun _ _ h => h.elim) (fun v Ws h => ?_)
  obtain ⟨rfl, hc_1, rfl⟩ := h
  show SW x [tmO (xg x) o a z, aI (xg x) 4 (a 5) 12 Hs, aL (xg x) (a 3) 12 N, aI (xg x) 0 (a 4) 12 Sc] _ _ _ _ [.int (jI (nvC s Hs)), .ref o]
  refine sw_callV (n := 9) F (ct_X4_fails (g := xg x) (l := xl x) o a z (nvC s Hs) (by first | assumption | omega)) (rcv_ob F 0 (ci := 3) rfl rfl) q3973 q3975 qs68 q120 q3976 nd_X4_fails rfl (by decide) [0, 1, 2, 3] rfl [aI (xg x) 4 (a 5) 12 Hs, aL (xg x) (a 3) 12 N, aI (xg x) 0 (a 4) 12 Sc] rfl 0 0 ⟨by omega, by omega⟩ [] rfl (Nat.le_of_ble_eq_true rfl) dX4_unscaled_6 rfl (fun _ _ h => h.elim) (fun v Ws h => ?_)
  obtain ⟨rfl, hps_2, rfl⟩ := h
  show SW x [tmO (xg x) o a (va_up z 8 (nvC s Hs)), aI (xg x) 4 (a 5) 12 Hs, aL (xg x) (a 3) 12 N, aI (xg x) 0 (a 4) 12 Sc] _ _ _ _ [.int (jI (psI (nvC s Hs)))]
  refine sw_if_eq (n := 12) F (by omega) (tgt := 16) dX4_unscaled_9 (by decide) rfl (fun c_9 => ?_) (fun c_9 => ?_)
  ·
    refine sw_aload_n (n := 17) F 0 (some o) rfl rfl rfl dX4_unscaled_16 rfl ?_
    refine sw_get (n := 20) F 0 rfl (k := 3) ⟨(RX4, TX4, 50), rfl, by decide, q3802, in_X4, Or.inl rfl⟩ (v := .ref (a 3)) rfl dX4_unscaled_17 rfl ?_
    refine sw_iload_n (n := 21) F 1 rfl rfl dX4_unscaled_20 rfl ?_
    refine sw_laloadL (n := 22) F 2 rfl (fun _ => rfl) ((s : Int).toNat) (by omega) (by omega) dX4_unscaled_21 rfl ?_
    refine sw_perm [0, 2, 3, 1] rfl [tmO (xg x) o a (va_up z 8 (nvC s Hs)), aL (xg x) (a 3) 12 N, aI (xg x) 0 (a 4) 12 Sc, aI (xg x) 4 (a 5) 12 Hs] rfl ?_
    exact sw_lret F rfl dX4_unscaled_22 (by rw [hPo]; exact ⟨(by first | rfl | rw [if0_n (by omega)] | rw [if0_p (by omega)]), rfl⟩)
  ·
    refine sw_lconst (n := 13) F 0 (by decide) dX4_unscaled_12 rfl ?_
    refine sw_goto F (n := 22) dX4_unscaled_13 (by decide) ?_
    refine sw_perm [0, 2, 3, 1] rfl [tmO (xg x) o a (va_up z 8 (nvC s Hs)), aL (xg x) (a 3) 12 N, aI (xg x) 0 (a 4) 12 Sc, aI (xg x) 4 (a 5) 12 Hs] rfl ?_
    exact sw_lret F rfl dX4_unscaled_22 (by rw [hPo]; exact ⟨(by first | rfl | rw [if0_n (by omega)] | rw [if0_p (by omega)]), rfl⟩)
theorem nd_X4_scale : yX4_scale.cls ≠ "java/lang/invoke/MethodHandle" ∧ yX4_scale.cls ≠ "java/lang/invoke/VarHandle" ∧ (parseMethodDescriptor yX4_scale.desc).map (fun d => d.parameters.length) = some 1 := by decide +kernel
set_option maxRecDepth 100000 in
set_option maxHeartbeats 1000000 in
theorem ct_X4_scale {g : GG} {l : Launch} (o : Nat) (a : Nat → Nat) (z : Nat → Int) (N : Nat → Int) (Sc : Nat → Int) (Hs : Nat → Int) (s : Int) (hs : -2147483648 ≤ s ∧ s ≤ 2147483647) (hB : HB Hs) (hSc : SB Sc) : Ct g l yX4_scale (ws_ yX4_scale cX4_scale 2 (Option.some Jvm.ClassFile.FieldType.int)) 4 78 0 0 [.ref o, .int (jI s)] [tmO g o a z, aL g (a 3) 12 N, aI g 0 (a 4) 12 Sc, aI g 4 (a 5) 12 Hs] (fun v9 Ws9 => v9 = some (.int (jI (if0 (nvC s Hs) (Sc s.toNat)))) ∧ Ws9 = [tmO g o a (va_up z 8 (nvC s Hs)), aL g (a 3) 12 N, aI g 0 (a 4) 12 Sc, aI g 4 (a 5) 12 Hs]) (nox) := by
  refine Ct.of (cc := cX4_scale) (nL := 2) (ret := (Option.some Jvm.ClassFile.FieldType.int)) (by decide) rfl (Nat.le_of_ble_eq_true rfl) ?_
  intro x hg hl hPo hPx hmc hms F
  subst hg; subst hl
  refine SW.cast (L' := [(0, .ref o), (1, .int (jI s))]) ?_ rfl rfl rfl
  have hsc := hSc s.toNat
  refine sw_aload_n (n := 1) F 0 (some o) rfl rfl rfl dX4_scale_0 rfl ?_
  refine sw_aload_n (n := 2) F 0 (some o) rfl rfl rfl dX4_scale_1 rfl ?_
  refine sw_iload_n (n := 3) F 1 rfl rfl dX4_scale_2 rfl ?_
  refine sw_callV (n := 6) F (ct_X4_noValue (g := xg x) (l := xl x) o a z Hs s hs hB) (rcv_ob F 0 (ci := 3) rfl rfl) q4036 q4038 qs77 q120 q4039 nd_X4_noValue rfl (by decide) [0, 3, 1, 2] rfl [aL (xg x) (a 3) 12 N, aI (xg x) 0 (a 4) 12 Sc] rfl 0 0 ⟨by omega, by omega⟩ [.ref o] rfl (Nat.le_of_ble_eq_true rfl) dX4_scale_3 rfl (fun _ _ h => h.elim) (fun v Ws h => ?_)
  obtain ⟨rfl, hc_1, rfl⟩ := h
  show SW x [tmO (xg x) o a z, aI (xg x) 4 (a 5) 12 Hs, aL (xg x) (a 3) 12 N, aI (xg x) 0 (a 4) 12 Sc] _ _ _ _ [.int (jI (nvC s Hs)), .ref o]
  refine sw_callV (n := 9) F (ct_X4_fails (g := xg x) (l := xl x) o a z (nvC s Hs) (by first | assumption | omega)) (rcv_ob F 0 (ci := 3) rfl rfl) q3973 q3975 qs68 q120 q3976 nd_X4_fails rfl (by decide) [0, 1, 2, 3] rfl [aI (xg x) 4 (a 5) 12 Hs, aL (xg x) (a 3) 12 N, aI (xg x) 0 (a 4) 12 Sc] rfl 0 0 ⟨by omega, by omega⟩ [] rfl (Nat.le_of_ble_eq_true rfl) dX4_scale_6 rfl (fun _ _ h => h.elim) (fun v Ws h => ?_)
  obtain ⟨rfl, hps_2, rfl⟩ := h
  show SW x [tmO (xg x) o a (va_up z 8 (nvC s Hs)), aI (xg x) 4 (a 5) 12 Hs, aL (xg x) (a 3) 12 N, aI (xg x) 0 (a 4) 12 Sc] _ _ _ _ [.int (jI (psI (nvC s Hs)))]
  refine sw_if_eq (n := 12) F (by omega) (tgt := 16) dX4_scale_9 (by decide) rfl (fun c_9 => ?_) (fun c_9 => ?_)
  ·
    refine sw_aload_n (n := 17) F 0 (some o) rfl rfl rfl dX4_scale_16 rfl ?_
    refine sw_get (n := 20) F 0 rfl (k := 4) ⟨(RX4, TX4, 50), rfl, by decide, q3803, in_X4, Or.inl rfl⟩ (v := .ref (a 4)) rfl dX4_scale_17 rfl ?_
    refine sw_iload_n (n := 21) F 1 rfl rfl dX4_scale_20 rfl ?_
    refine sw_ialoadI (n := 22) F 3 rfl (fun _ => rfl) ((s : Int).toNat) (by omega) (by omega) dX4_scale_21 rfl ?_
    refine sw_perm [0, 2, 3, 1] rfl [tmO (xg x) o a (va_up z 8 (nvC s Hs)), aL (xg x) (a 3) 12 N, aI (xg x) 0 (a 4) 12 Sc, aI (xg x) 4 (a 5) 12 Hs] rfl ?_
    exact sw_iret F _ rfl (by first | rfl | exact jI_nz (by omega) | exact jI_nc (by omega)) dX4_scale_22 (by rw [hPo]; exact ⟨(by first | rfl | rw [if0_n (by omega)] | rw [if0_p (by omega)]), rfl⟩)
  ·
    refine sw_iconst (n := 13) F (0) (by decide) dX4_scale_12 rfl ?_
    refine sw_goto F (n := 22) dX4_scale_13 (by decide) ?_
    refine sw_perm [0, 2, 3, 1] rfl [tmO (xg x) o a (va_up z 8 (nvC s Hs)), aL (xg x) (a 3) 12 N, aI (xg x) 0 (a 4) 12 Sc, aI (xg x) 4 (a 5) 12 Hs] rfl ?_
    exact sw_iret F _ rfl (by first | rfl | exact jI_nz (by omega) | exact jI_nc (by omega)) dX4_scale_22 (by rw [hPo]; exact ⟨(by first | rfl | rw [if0_n (by omega)] | rw [if0_p (by omega)]), rfl⟩)
theorem nd_X4_wipe : yX4_wipe.cls ≠ "java/lang/invoke/MethodHandle" ∧ yX4_wipe.cls ≠ "java/lang/invoke/VarHandle" ∧ (parseMethodDescriptor yX4_wipe.desc).map (fun d => d.parameters.length) = some 0 := by decide +kernel
set_option maxRecDepth 100000 in
set_option maxHeartbeats 1000000 in
theorem ct_X4_wipe {g : GG} {l : Launch} (o : Nat) (a : Nat → Nat) (z : Nat → Int)  : Ct g l yX4_wipe (ws_ yX4_wipe cX4_wipe 2 (Option.some Jvm.ClassFile.FieldType.int)) 1 12 0 0 [.ref o] [tmO g o a z] (fun v9 Ws9 => v9 = some (.int (jI (z 7))) ∧ Ws9 = [tmO g o a (va_up (va_up z 7 0) 8 0)]) (nox) := by
  refine Ct.of (cc := cX4_wipe) (nL := 2) (ret := (Option.some Jvm.ClassFile.FieldType.int)) (by decide) rfl (Nat.le_of_ble_eq_true rfl) ?_
  intro x hg hl hPo hPx hmc hms F
  subst hg; subst hl
  refine SW.cast (L' := [(0, .ref o)]) ?_ rfl rfl rfl
  refine sw_aload_n (n := 1) F 0 (some o) rfl rfl rfl dX4_wipe_0 rfl ?_
  refine sw_iconst (n := 2) F (0) (by decide) dX4_wipe_1 rfl ?_
  refine sw_put (n := 5) F 0 rfl (k := 8) ⟨(RX4, TX4, 50), rfl, by decide, q3807, in_X4, Or.inl rfl⟩ .int ⟨(RX4, TX4, 50), rfl, rfl, tyX4_ok 8 (by decide), nmX4, tyX4, tyX4_ok⟩ rfl rfl (Nat.le_of_ble_eq_true rfl) (fs' := tmF a (va_up z 8 0)) rfl [tmO (xg x) o a (va_up z 8 0)] rfl dX4_wipe_2 rfl ?_
  refine sw_aload_n (n := 6) F 0 (some o) rfl rfl rfl dX4_wipe_5 rfl ?_
  refine sw_get (n := 9) F 0 rfl (k := 7) ⟨(RX4, TX4, 50), rfl, by decide, q3806, in_X4, Or.inl rfl⟩ (v := .int (jI (z 7))) rfl dX4_wipe_6 rfl ?_
  refine sw_istore_n (n := 10) F (L2 := [(1, .int (jI (z 7))), (0, .ref o)]) rfl (by decide) rfl dX4_wipe_9 rfl ?_
  refine sw_aload_n (n := 11) F 1 (some o) rfl rfl rfl dX4_wipe_10 rfl ?_
  refine sw_iconst (n := 12) F (0) (by decide) dX4_wipe_11 rfl ?_
  refine sw_put (n := 15) F 0 rfl (k := 7) ⟨(RX4, TX4, 50), rfl, by decide, q3806, in_X4, Or.inl rfl⟩ .int ⟨(RX4, TX4, 50), rfl, rfl, tyX4_ok 7 (by decide), nmX4, tyX4, tyX4_ok⟩ rfl rfl (Nat.le_of_ble_eq_true rfl) (fs' := tmF a (va_up (va_up z 7 0) 8 0)) rfl [tmO (xg x) o a (va_up (va_up z 7 0) 8 0)] rfl dX4_wipe_12 rfl ?_
  refine sw_iload_n (n := 16) F 0 rfl rfl dX4_wipe_15 rfl ?_
  exact sw_iret F _ rfl (by first | rfl | exact jI_nz (by omega) | exact jI_nc (by omega)) dX4_wipe_16 (by rw [hPo]; exact ⟨rfl, rfl⟩)
theorem nd_X4_signOf : yX4_signOf.cls ≠ "java/lang/invoke/MethodHandle" ∧ yX4_signOf.cls ≠ "java/lang/invoke/VarHandle" ∧ (parseMethodDescriptor yX4_signOf.desc).map (fun d => d.parameters.length) = some 1 := by decide +kernel
set_option maxRecDepth 100000 in
set_option maxHeartbeats 1000000 in
theorem ct_X4_signOf {g : GG} {l : Launch} (v : Int) (hv : -9223372036854775808 ≤ v ∧ v ≤ 9223372036854775807) : Ct g l yX4_signOf (ws_ yX4_signOf cX4_signOf 2 (Option.some Jvm.ClassFile.FieldType.int)) 1 12 0 0 [.long (jL v)] [] (fun v9 Ws9 => v9 = some (.int (jI (sgI v))) ∧ ((v < 0 ∧ sgI v = -1) ∨ (v = 0 ∧ sgI v = 0) ∨ (0 < v ∧ sgI v = 1)) ∧ Ws9 = []) (nox) := by
  refine Ct.of (cc := cX4_signOf) (nL := 2) (ret := (Option.some Jvm.ClassFile.FieldType.int)) (by decide) rfl (Nat.le_of_ble_eq_true rfl) ?_
  intro x hg hl hPo hPx hmc hms F
  subst hg; subst hl
  refine SW.cast (L' := [(0, .long (jL v))]) ?_ rfl rfl rfl
  have hg := sgI_cases v
  refine sw_lload_n (n := 1) F 0 rfl rfl dX4_signOf_0 rfl ?_
  refine sw_lconst (n := 2) F 0 (by decide) dX4_signOf_1 rfl ?_
  refine sw_lcmp (n := 3) F (by omega) (by decide) dX4_signOf_2 rfl ?_
  refine sw_if_ge (n := 6) F (by omega) (tgt := 10) dX4_signOf_3 (by decide) rfl (fun c_3 => ?_) (fun c_3 => ?_)
  ·
    have c_3 : v ≥ 0 := by revert c_3; (repeat' split) <;> omega
    refine sw_lload_n (n := 11) F 0 rfl rfl dX4_signOf_10 rfl ?_
    refine sw_lconst (n := 12) F 0 (by decide) dX4_signOf_11 rfl ?_
    refine sw_lcmp (n := 13) F (by omega) (by decide) dX4_signOf_12 rfl ?_
    refine sw_if_le (n := 16) F (by omega) (tgt := 20) dX4_signOf_13 (by decide) rfl (fun c_13 => ?_) (fun c_13 => ?_)
    ·
      have c_13 : v ≤ 0 := by revert c_13; (repeat' split) <;> omega
      refine sw_iconst (n := 21) F (0) (by decide) dX4_signOf_20 rfl ?_
      exact sw_iret F _ rfl (by first | rfl | exact jI_nz (by omega) | exact jI_nc (by omega)) dX4_signOf_21 (by rw [hPo]; exact ⟨(by first | (congr 3; omega) | (congr 2; omega) | rfl), (by exact sgI_cases _), rfl⟩)
    ·
      have c_13 : v > 0 := by revert c_13; (repeat' split) <;> omega
      refine sw_iconst (n := 17) F (1) (by decide) dX4_signOf_16 rfl ?_
      refine sw_goto F (n := 21) dX4_signOf_17 (by decide) ?_
      exact sw_iret F _ rfl (by first | rfl | exact jI_nz (by omega) | exact jI_nc (by omega)) dX4_signOf_21 (by rw [hPo]; exact ⟨(by first | (congr 3; omega) | (congr 2; omega) | rfl), (by exact sgI_cases _), rfl⟩)
  ·
    have c_3 : v < 0 := by revert c_3; (repeat' split) <;> omega
    refine sw_iconst (n := 7) F (-1) (by decide) dX4_signOf_6 rfl ?_
    refine sw_goto F (n := 21) dX4_signOf_7 (by decide) ?_
    exact sw_iret F _ rfl (by first | rfl | exact jI_nz (by omega) | exact jI_nc (by omega)) dX4_signOf_21 (by rw [hPo]; exact ⟨(by first | (congr 3; omega) | (congr 2; omega) | rfl), (by exact sgI_cases _), rfl⟩)
theorem nd_X4_next : yX4_next.cls ≠ "java/lang/invoke/MethodHandle" ∧ yX4_next.cls ≠ "java/lang/invoke/VarHandle" ∧ (parseMethodDescriptor yX4_next.desc).map (fun d => d.parameters.length) = some 2 := by decide +kernel
set_option maxRecDepth 100000 in
set_option maxHeartbeats 1000000 in
theorem ct_X4_next {g : GG} {l : Launch} (s : Int) (c : Int) (hs : -1 ≤ s ∧ s ≤ 10) (hc : 0 ≤ c ∧ c ≤ 65535) : Ct g l yX4_next (ws_ yX4_next cX4_next 5 (Option.some Jvm.ClassFile.FieldType.int)) 1 12 0 0 [.int (jI s), .int (jI c)] [] (fun v9 Ws9 => v9 = some (.int (jI (nxI s c))) ∧ Ws9 = []) (nox) := by
  refine Ct.of (cc := cX4_next) (nL := 5) (ret := (Option.some Jvm.ClassFile.FieldType.int)) (by decide) rfl (Nat.le_of_ble_eq_true rfl) ?_
  intro x hg hl hPo hPx hmc hms F
  subst hg; subst hl
  refine SW.cast (L' := [(0, .int (jI s)), (1, .int (jI c))]) ?_ rfl rfl rfl
  refine sw_iload_n (n := 1) F 1 rfl rfl dX4_next_0 rfl ?_
  have K18 : ∀ (d : Int), ((d = 1 ∧ 48 ≤ c ∧ c ≤ 57) ∨ (d = 0 ∧ (c < 48 ∨ 57 < c))) → SW x [] 0 0 18 [(0, .int (jI s)), (1, .int (jI c)), (2, .int (jI d))] [] := by
    intro d hd
    refine sw_iload_n (n := 19) F 1 rfl rfl dX4_next_18 rfl ?_
    have K36 : ∀ (f : Int), ((f = 1 ∧ (c = 43 ∨ c = 45)) ∨ (f = 0 ∧ c ≠ 43 ∧ c ≠ 45)) → SW x [] 0 0 36 [(0, .int (jI s)), (1, .int (jI c)), (2, .int (jI d)), (3, .int (jI f))] [] := by
      intro f hf
      refine sw_iload_n (n := 37) F 1 rfl rfl dX4_next_36 rfl ?_
      have K55 : ∀ (e9 : Int), ((e9 = 1 ∧ (c = 101 ∨ c = 69)) ∨ (e9 = 0 ∧ c ≠ 101 ∧ c ≠ 69)) → SW x [] 0 0 55 [(0, .int (jI s)), (1, .int (jI c)), (2, .int (jI d)), (3, .int (jI f)), (4, .int (jI e9))] [] := by
        intro e9 he
        refine sw_iload_n (n := 56) F 0 rfl rfl dX4_next_55 rfl ?_
        by_cases c_56_0 : s = 0
        ·
          refine sw_tableIn F (0) (56) (tgt := 112) (by omega) c_56_0 dX4_next_56 (by decide) (by decide) (by decide) (by decide) ?_
          refine sw_iload_n (n := 113) F 3 rfl rfl dX4_next_112 rfl ?_
          refine sw_if_eq (n := 116) F (by omega) (tgt := 120) dX4_next_113 (by decide) rfl (fun c_113 => ?_) (fun c_113 => ?_)
          ·
            refine sw_iload_n (n := 121) F 2 rfl rfl dX4_next_120 rfl ?_
            refine sw_if_eq (n := 124) F (by omega) (tgt := 128) dX4_next_121 (by decide) rfl (fun c_121 => ?_) (fun c_121 => ?_)
            ·
              refine sw_iload_n (n := 129) F 1 rfl rfl dX4_next_128 rfl ?_
              refine sw_bipush (n := 131) F (46) (by decide) dX4_next_129 rfl ?_
              refine sw_icmp_ne (n := 134) F (by omega) (by decide) (tgt := 138) dX4_next_131 (by decide) rfl (fun c_131 => ?_) (fun c_131 => ?_)
              ·
                refine sw_iconst (n := 139) F (-1) (by decide) dX4_next_138 rfl ?_
                have e : nxI s c = -1 := by unfold nxI; (repeat' split) <;> omega
                exact sw_iret F _ rfl (by first | rfl | exact jI_nz (by omega) | exact jI_nc (by omega)) dX4_next_139 (by rw [hPo]; exact ⟨(by rw [e]), rfl⟩)
              ·
                refine sw_iconst (n := 135) F (3) (by decide) dX4_next_134 rfl ?_
                refine sw_goto F (n := 139) dX4_next_135 (by decide) ?_
                have e : nxI s c = 3 := by unfold nxI; (repeat' split) <;> omega
                exact sw_iret F _ rfl (by first | rfl | exact jI_nz (by omega) | exact jI_nc (by omega)) dX4_next_139 (by rw [hPo]; exact ⟨(by rw [e]), rfl⟩)
            ·
              refine sw_iconst (n := 125) F (2) (by decide) dX4_next_124 rfl ?_
              refine sw_goto F (n := 139) dX4_next_125 (by decide) ?_
              have e : nxI s c = 2 := by unfold nxI; (repeat' split) <;> omega
              exact sw_iret F _ rfl (by first | rfl | exact jI_nz (by omega) | exact jI_nc (by omega)) dX4_next_139 (by rw [hPo]; exact ⟨(by rw [e]), rfl⟩)
          ·
            refine sw_iconst (n := 117) F (1) (by decide) dX4_next_116 rfl ?_
            refine sw_goto F (n := 139) dX4_next_117 (by decide) ?_
            have e : nxI s c = 1 := by unfold nxI; (repeat' split) <;> omega
            exact sw_iret F _ rfl (by first | rfl | exact jI_nz (by omega) | exact jI_nc (by omega)) dX4_next_139 (by rw [hPo]; exact ⟨(by rw [e]), rfl⟩)
        ·
          by_cases c_56_1 : s = 1
          ·
            refine sw_tableIn F (1) (84) (tgt := 140) (by omega) c_56_1 dX4_next_56 (by decide) (by decide) (by decide) (by decide) ?_
            refine sw_iload_n (n := 141) F 2 rfl rfl dX4_next_140 rfl ?_
            refine sw_if_eq (n := 144) F (by omega) (tgt := 148) dX4_next_141 (by decide) rfl (fun c_141 => ?_) (fun c_141 => ?_)
            ·
              refine sw_iload_n (n := 149) F 1 rfl rfl dX4_next_148 rfl ?_
              refine sw_bipush (n := 151) F (46) (by decide) dX4_next_149 rfl ?_
              refine sw_icmp_ne (n := 154) F (by omega) (by decide) (tgt := 158) dX4_next_151 (by decide) rfl (fun c_151 => ?_) (fun c_151 => ?_)
              ·
                refine sw_iconst (n := 159) F (-1) (by decide) dX4_next_158 rfl ?_
                have e : nxI s c = -1 := by unfold nxI; (repeat' split) <;> omega
                exact sw_iret F _ rfl (by first | rfl | exact jI_nz (by omega) | exact jI_nc (by omega)) dX4_next_159 (by rw [hPo]; exact ⟨(by rw [e]), rfl⟩)
              ·
                refine sw_iconst (n := 155) F (3) (by decide) dX4_next_154 rfl ?_
                refine sw_goto F (n := 159) dX4_next_155 (by decide) ?_
                have e : nxI s c = 3 := by unfold nxI; (repeat' split) <;> omega
                exact sw_iret F _ rfl (by first | rfl | exact jI_nz (by omega) | exact jI_nc (by omega)) dX4_next_159 (by rw [hPo]; exact ⟨(by rw [e]), rfl⟩)
            ·
              refine sw_iconst (n := 145) F (2) (by decide) dX4_next_144 rfl ?_
              refine sw_goto F (n := 159) dX4_next_145 (by decide) ?_
              have e : nxI s c = 2 := by unfold nxI; (repeat' split) <;> omega
              exact sw_iret F _ rfl (by first | rfl | exact jI_nz (by omega) | exact jI_nc (by omega)) dX4_next_159 (by rw [hPo]; exact ⟨(by rw [e]), rfl⟩)
          ·
            by_cases c_56_2 : s = 2
            ·
              refine sw_tableIn F (2) (104) (tgt := 160) (by omega) c_56_2 dX4_next_56 (by decide) (by decide) (by decide) (by decide) ?_
              refine sw_iload_n (n := 161) F 2 rfl rfl dX4_next_160 rfl ?_
              refine sw_if_eq (n := 164) F (by omega) (tgt := 168) dX4_next_161 (by decide) rfl (fun c_161 => ?_) (fun c_161 => ?_)
              ·
                refine sw_iload_n (n := 169) F 1 rfl rfl dX4_next_168 rfl ?_
                refine sw_bipush (n := 171) F (46) (by decide) dX4_next_169 rfl ?_
                refine sw_icmp_ne (n := 174) F (by omega) (by decide) (tgt := 178) dX4_next_171 (by decide) rfl (fun c_171 => ?_) (fun c_171 => ?_)
                ·
                  refine sw_iload (n := 180) F 4 rfl dX4_next_178 rfl ?_
                  refine sw_if_eq (n := 183) F (by omega) (tgt := 187) dX4_next_180 (by decide) rfl (fun c_180 => ?_) (fun c_180 => ?_)
                  ·
                    refine sw_iconst (n := 188) F (-1) (by decide) dX4_next_187 rfl ?_
                    have e : nxI s c = -1 := by unfold nxI; (repeat' split) <;> omega
                    exact sw_iret F _ rfl (by first | rfl | exact jI_nz (by omega) | exact jI_nc (by omega)) dX4_next_188 (by rw [hPo]; exact ⟨(by rw [e]), rfl⟩)
                  ·
                    refine sw_iconst (n := 184) F (5) (by decide) dX4_next_183 rfl ?_
                    refine sw_goto F (n := 188) dX4_next_184 (by decide) ?_
                    have e : nxI s c = 5 := by unfold nxI; (repeat' split) <;> omega
                    exact sw_iret F _ rfl (by first | rfl | exact jI_nz (by omega) | exact jI_nc (by omega)) dX4_next_188 (by rw [hPo]; exact ⟨(by rw [e]), rfl⟩)
                ·
                  refine sw_iconst (n := 175) F (4) (by decide) dX4_next_174 rfl ?_
                  refine sw_goto F (n := 188) dX4_next_175 (by decide) ?_
                  have e : nxI s c = 4 := by unfold nxI; (repeat' split) <;> omega
                  exact sw_iret F _ rfl (by first | rfl | exact jI_nz (by omega) | exact jI_nc (by omega)) dX4_next_188 (by rw [hPo]; exact ⟨(by rw [e]), rfl⟩)
              ·
                refine sw_iconst (n := 165) F (2) (by decide) dX4_next_164 rfl ?_
                refine sw_goto F (n := 188) dX4_next_165 (by decide) ?_
                have e : nxI s c = 2 := by unfold nxI; (repeat' split) <;> omega
                exact sw_iret F _ rfl (by first | rfl | exact jI_nz (by omega) | exact jI_nc (by omega)) dX4_next_188 (by rw [hPo]; exact ⟨(by rw [e]), rfl⟩)
            ·
              by_cases c_56_3 : s = 3
              ·
                refine sw_tableIn F (3) (133) (tgt := 189) (by omega) c_56_3 dX4_next_56 (by decide) (by decide) (by decide) (by decide) ?_
                refine sw_iload_n (n := 190) F 2 rfl rfl dX4_next_189 rfl ?_
                refine sw_if_eq (n := 193) F (by omega) (tgt := 198) dX4_next_190 (by decide) rfl (fun c_190 => ?_) (fun c_190 => ?_)
                ·
                  refine sw_iconst (n := 199) F (-1) (by decide) dX4_next_198 rfl ?_
                  have e : nxI s c = -1 := by unfold nxI; (repeat' split) <;> omega
                  exact sw_iret F _ rfl (by first | rfl | exact jI_nz (by omega) | exact jI_nc (by omega)) dX4_next_199 (by rw [hPo]; exact ⟨(by rw [e]), rfl⟩)
                ·
                  refine sw_bipush (n := 195) F (6) (by decide) dX4_next_193 rfl ?_
                  refine sw_goto F (n := 199) dX4_next_195 (by decide) ?_
                  have e : nxI s c = 6 := by unfold nxI; (repeat' split) <;> omega
                  exact sw_iret F _ rfl (by first | rfl | exact jI_nz (by omega) | exact jI_nc (by omega)) dX4_next_199 (by rw [hPo]; exact ⟨(by rw [e]), rfl⟩)
              ·
                by_cases c_56_4 : s = 4
                ·
                  refine sw_tableIn F (4) (144) (tgt := 200) (by omega) c_56_4 dX4_next_56 (by decide) (by decide) (by decide) (by decide) ?_
                  refine sw_iload_n (n := 201) F 2 rfl rfl dX4_next_200 rfl ?_
                  refine sw_if_eq (n := 204) F (by omega) (tgt := 209) dX4_next_201 (by decide) rfl (fun c_201 => ?_) (fun c_201 => ?_)
                  ·
                    refine sw_iload (n := 211) F 4 rfl dX4_next_209 rfl ?_
                    refine sw_if_eq (n := 214) F (by omega) (tgt := 218) dX4_next_211 (by decide) rfl (fun c_211 => ?_) (fun c_211 => ?_)
                    ·
                      refine sw_iconst (n := 219) F (-1) (by decide) dX4_next_218 rfl ?_
                      have e : nxI s c = -1 := by unfold nxI; (repeat' split) <;> omega
                      exact sw_iret F _ rfl (by first | rfl | exact jI_nz (by omega) | exact jI_nc (by omega)) dX4_next_219 (by rw [hPo]; exact ⟨(by rw [e]), rfl⟩)
                    ·
                      refine sw_iconst (n := 215) F (5) (by decide) dX4_next_214 rfl ?_
                      refine sw_goto F (n := 219) dX4_next_215 (by decide) ?_
                      have e : nxI s c = 5 := by unfold nxI; (repeat' split) <;> omega
                      exact sw_iret F _ rfl (by first | rfl | exact jI_nz (by omega) | exact jI_nc (by omega)) dX4_next_219 (by rw [hPo]; exact ⟨(by rw [e]), rfl⟩)
                  ·
                    refine sw_bipush (n := 206) F (6) (by decide) dX4_next_204 rfl ?_
                    refine sw_goto F (n := 219) dX4_next_206 (by decide) ?_
                    have e : nxI s c = 6 := by unfold nxI; (repeat' split) <;> omega
                    exact sw_iret F _ rfl (by first | rfl | exact jI_nz (by omega) | exact jI_nc (by omega)) dX4_next_219 (by rw [hPo]; exact ⟨(by rw [e]), rfl⟩)
                ·
                  by_cases c_56_5 : s = 5
                  ·
                    refine sw_tableIn F (5) (164) (tgt := 220) (by omega) c_56_5 dX4_next_56 (by decide) (by decide) (by decide) (by decide) ?_
                    refine sw_iload_n (n := 221) F 3 rfl rfl dX4_next_220 rfl ?_
                    refine sw_if_eq (n := 224) F (by omega) (tgt := 229) dX4_next_221 (by decide) rfl (fun c_221 => ?_) (fun c_221 => ?_)
                    ·
                      refine sw_iload_n (n := 230) F 2 rfl rfl dX4_next_229 rfl ?_
                      refine sw_if_eq (n := 233) F (by omega) (tgt := 238) dX4_next_230 (by decide) rfl (fun c_230 => ?_) (fun c_230 => ?_)
                      ·
                        refine sw_iconst (n := 239) F (-1) (by decide) dX4_next_238 rfl ?_
                        have e : nxI s c = -1 := by unfold nxI; (repeat' split) <;> omega
                        exact sw_iret F _ rfl (by first | rfl | exact jI_nz (by omega) | exact jI_nc (by omega)) dX4_next_239 (by rw [hPo]; exact ⟨(by rw [e]), rfl⟩)
                      ·
                        refine sw_bipush (n := 235) F (8) (by decide) dX4_next_233 rfl ?_
                        refine sw_goto F (n := 239) dX4_next_235 (by decide) ?_
                        have e : nxI s c = 8 := by unfold nxI; (repeat' split) <;> omega
                        exact sw_iret F _ rfl (by first | rfl | exact jI_nz (by omega) | exact jI_nc (by omega)) dX4_next_239 (by rw [hPo]; exact ⟨(by rw [e]), rfl⟩)
                    ·
                      refine sw_bipush (n := 226) F (7) (by decide) dX4_next_224 rfl ?_
                      refine sw_goto F (n := 239) dX4_next_226 (by decide) ?_
                      have e : nxI s c = 7 := by unfold nxI; (repeat' split) <;> omega
                      exact sw_iret F _ rfl (by first | rfl | exact jI_nz (by omega) | exact jI_nc (by omega)) dX4_next_239 (by rw [hPo]; exact ⟨(by rw [e]), rfl⟩)
                  ·
                    by_cases c_56_6 : s = 6
                    ·
                      refine sw_tableIn F (6) (144) (tgt := 200) (by omega) c_56_6 dX4_next_56 (by decide) (by decide) (by decide) (by decide) ?_
                      refine sw_iload_n (n := 201) F 2 rfl rfl dX4_next_200 rfl ?_
                      refine sw_if_eq (n := 204) F (by omega) (tgt := 209) dX4_next_201 (by decide) rfl (fun c_201 => ?_) (fun c_201 => ?_)
                      ·
                        refine sw_iload (n := 211) F 4 rfl dX4_next_209 rfl ?_
                        refine sw_if_eq (n := 214) F (by omega) (tgt := 218) dX4_next_211 (by decide) rfl (fun c_211 => ?_) (fun c_211 => ?_)
                        ·
                          refine sw_iconst (n := 219) F (-1) (by decide) dX4_next_218 rfl ?_
                          have e : nxI s c = -1 := by unfold nxI; (repeat' split) <;> omega
                          exact sw_iret F _ rfl (by first | rfl | exact jI_nz (by omega) | exact jI_nc (by omega)) dX4_next_219 (by rw [hPo]; exact ⟨(by rw [e]), rfl⟩)
                        ·
                          refine sw_iconst (n := 215) F (5) (by decide) dX4_next_214 rfl ?_
                          refine sw_goto F (n := 219) dX4_next_215 (by decide) ?_
                          have e : nxI s c = 5 := by unfold nxI; (repeat' split) <;> omega
                          exact sw_iret F _ rfl (by first | rfl | exact jI_nz (by omega) | exact jI_nc (by omega)) dX4_next_219 (by rw [hPo]; exact ⟨(by rw [e]), rfl⟩)
                      ·
                        refine sw_bipush (n := 206) F (6) (by decide) dX4_next_204 rfl ?_
                        refine sw_goto F (n := 219) dX4_next_206 (by decide) ?_
                        have e : nxI s c = 6 := by unfold nxI; (repeat' split) <;> omega
                        exact sw_iret F _ rfl (by first | rfl | exact jI_nz (by omega) | exact jI_nc (by omega)) dX4_next_219 (by rw [hPo]; exact ⟨(by rw [e]), rfl⟩)
                    ·
                      by_cases c_56_7 : s = 7
                      ·
                        refine sw_tableIn F (7) (184) (tgt := 240) (by omega) c_56_7 dX4_next_56 (by decide) (by decide) (by decide) (by decide) ?_
                        refine sw_iload_n (n := 241) F 2 rfl rfl dX4_next_240 rfl ?_
                        refine sw_if_eq (n := 244) F (by omega) (tgt := 249) dX4_next_241 (by decide) rfl (fun c_241 => ?_) (fun c_241 => ?_)
                        ·
                          refine sw_iconst (n := 250) F (-1) (by decide) dX4_next_249 rfl ?_
                          have e : nxI s c = -1 := by unfold nxI; (repeat' split) <;> omega
                          exact sw_iret F _ rfl (by first | rfl | exact jI_nz (by omega) | exact jI_nc (by omega)) dX4_next_250 (by rw [hPo]; exact ⟨(by rw [e]), rfl⟩)
                        ·
                          refine sw_bipush (n := 246) F (8) (by decide) dX4_next_244 rfl ?_
                          refine sw_goto F (n := 250) dX4_next_246 (by decide) ?_
                          have e : nxI s c = 8 := by unfold nxI; (repeat' split) <;> omega
                          exact sw_iret F _ rfl (by first | rfl | exact jI_nz (by omega) | exact jI_nc (by omega)) dX4_next_250 (by rw [hPo]; exact ⟨(by rw [e]), rfl⟩)
                      ·
                        by_cases c_56_8 : s = 8
                        ·
                          refine sw_tableIn F (8) (195) (tgt := 251) (by omega) c_56_8 dX4_next_56 (by decide) (by decide) (by decide) (by decide) ?_
                          refine sw_iload_n (n := 252) F 2 rfl rfl dX4_next_251 rfl ?_
                          refine sw_if_eq (n := 255) F (by omega) (tgt := 261) dX4_next_252 (by decide) rfl (fun c_252 => ?_) (fun c_252 => ?_)
                          ·
                            refine sw_iconst (n := 262) F (-1) (by decide) dX4_next_261 rfl ?_
                            have e : nxI s c = -1 := by unfold nxI; (repeat' split) <;> omega
                            exact sw_iret F _ rfl (by first | rfl | exact jI_nz (by omega) | exact jI_nc (by omega)) dX4_next_262 (by rw [hPo]; exact ⟨(by rw [e]), rfl⟩)
                          ·
                            refine sw_iload_n (n := 256) F 0 rfl rfl dX4_next_255 rfl ?_
                            refine sw_iconst (n := 257) F (1) (by decide) dX4_next_256 rfl ?_
                            refine sw_iadd (n := 258) F dX4_next_257 rfl ?_
                            refine sw_goto F (n := 262) dX4_next_258 (by decide) ?_
                            have e : nxI s c = s + 1 := by unfold nxI; (repeat' split) <;> omega
                            exact sw_iret F _ rfl (by first | rfl | exact jI_nz (by omega) | exact jI_nc (by omega)) dX4_next_262 (by rw [hPo]; exact ⟨(by rw [e]), rfl⟩)
                        ·
                          by_cases c_56_9 : s = 9
                          ·
                            refine sw_tableIn F (9) (195) (tgt := 251) (by omega) c_56_9 dX4_next_56 (by decide) (by decide) (by decide) (by decide) ?_
                            refine sw_iload_n (n := 252) F 2 rfl rfl dX4_next_251 rfl ?_
                            refine sw_if_eq (n := 255) F (by omega) (tgt := 261) dX4_next_252 (by decide) rfl (fun c_252 => ?_) (fun c_252 => ?_)
                            ·
                              refine sw_iconst (n := 262) F (-1) (by decide) dX4_next_261 rfl ?_
                              have e : nxI s c = -1 := by unfold nxI; (repeat' split) <;> omega
                              exact sw_iret F _ rfl (by first | rfl | exact jI_nz (by omega) | exact jI_nc (by omega)) dX4_next_262 (by rw [hPo]; exact ⟨(by rw [e]), rfl⟩)
                            ·
                              refine sw_iload_n (n := 256) F 0 rfl rfl dX4_next_255 rfl ?_
                              refine sw_iconst (n := 257) F (1) (by decide) dX4_next_256 rfl ?_
                              refine sw_iadd (n := 258) F dX4_next_257 rfl ?_
                              refine sw_goto F (n := 262) dX4_next_258 (by decide) ?_
                              have e : nxI s c = s + 1 := by unfold nxI; (repeat' split) <;> omega
                              exact sw_iret F _ rfl (by first | rfl | exact jI_nz (by omega) | exact jI_nc (by omega)) dX4_next_262 (by rw [hPo]; exact ⟨(by rw [e]), rfl⟩)
                          ·
                            refine sw_tableOut F (tgt := 263) (by omega) dX4_next_56 (by omega) (by decide) ?_
                            refine sw_iconst (n := 264) F (-1) (by decide) dX4_next_263 rfl ?_
                            have e : nxI s c = -1 := by unfold nxI; (repeat' split) <;> omega
                            exact sw_iret F _ rfl (by first | rfl | exact jI_nz (by omega) | exact jI_nc (by omega)) dX4_next_264 (by rw [hPo]; exact ⟨(by rw [e]), rfl⟩)
      refine sw_bipush (n := 39) F (101) (by decide) dX4_next_37 rfl ?_
      refine sw_icmp_eq (n := 42) F (by omega) (by decide) (tgt := 48) dX4_next_39 (by decide) rfl (fun c_39 => ?_) (fun c_39 => ?_)
      ·
        refine sw_iconst (n := 49) F (1) (by decide) dX4_next_48 rfl ?_
        refine sw_goto F (n := 53) dX4_next_49 (by decide) ?_
        refine sw_istore (n := 55) F (L2 := [(4, .int (jI 1)), (0, .int (jI s)), (1, .int (jI c)), (2, .int (jI d)), (3, .int (jI f))]) rfl (by decide) dX4_next_53 rfl ?_
        refine sw_loc [1, 2, 3, 4, 0] (L2 := [(0, .int (jI s)), (1, .int (jI c)), (2, .int (jI d)), (3, .int (jI f)), (4, .int (jI 1))]) rfl ?_
        exact K55 1 (by first | assumption | omega)
      ·
        refine sw_iload_n (n := 43) F 1 rfl rfl dX4_next_42 rfl ?_
        refine sw_bipush (n := 45) F (69) (by decide) dX4_next_43 rfl ?_
        refine sw_icmp_ne (n := 48) F (by omega) (by decide) (tgt := 52) dX4_next_45 (by decide) rfl (fun c_45 => ?_) (fun c_45 => ?_)
        ·
          refine sw_iconst (n := 53) F (0) (by decide) dX4_next_52 rfl ?_
          refine sw_istore (n := 55) F (L2 := [(4, .int (jI 0)), (0, .int (jI s)), (1, .int (jI c)), (2, .int (jI d)), (3, .int (jI f))]) rfl (by decide) dX4_next_53 rfl ?_
          refine sw_loc [1, 2, 3, 4, 0] (L2 := [(0, .int (jI s)), (1, .int (jI c)), (2, .int (jI d)), (3, .int (jI f)), (4, .int (jI 0))]) rfl ?_
          exact K55 0 (by first | assumption | omega)
        ·
          refine sw_iconst (n := 49) F (1) (by decide) dX4_next_48 rfl ?_
          refine sw_goto F (n := 53) dX4_next_49 (by decide) ?_
          refine sw_istore (n := 55) F (L2 := [(4, .int (jI 1)), (0, .int (jI s)), (1, .int (jI c)), (2, .int (jI d)), (3, .int (jI f))]) rfl (by decide) dX4_next_53 rfl ?_
          refine sw_loc [1, 2, 3, 4, 0] (L2 := [(0, .int (jI s)), (1, .int (jI c)), (2, .int (jI d)), (3, .int (jI f)), (4, .int (jI 1))]) rfl ?_
          exact K55 1 (by first | assumption | omega)
    refine sw_bipush (n := 21) F (43) (by decide) dX4_next_19 rfl ?_
    refine sw_icmp_eq (n := 24) F (by omega) (by decide) (tgt := 30) dX4_next_21 (by decide) rfl (fun c_21 => ?_) (fun c_21 => ?_)
    ·
      refine sw_iconst (n := 31) F (1) (by decide) dX4_next_30 rfl ?_
      refine sw_goto F (n := 35) dX4_next_31 (by decide) ?_
      refine sw_istore_n (n := 36) F (L2 := [(3, .int (jI 1)), (0, .int (jI s)), (1, .int (jI c)), (2, .int (jI d))]) rfl (by decide) rfl dX4_next_35 rfl ?_
      refine sw_loc [1, 2, 3, 0] (L2 := [(0, .int (jI s)), (1, .int (jI c)), (2, .int (jI d)), (3, .int (jI 1))]) rfl ?_
      exact K36 1 (by first | assumption | omega)
    ·
      refine sw_iload_n (n := 25) F 1 rfl rfl dX4_next_24 rfl ?_
      refine sw_bipush (n := 27) F (45) (by decide) dX4_next_25 rfl ?_
      refine sw_icmp_ne (n := 30) F (by omega) (by decide) (tgt := 34) dX4_next_27 (by decide) rfl (fun c_27 => ?_) (fun c_27 => ?_)
      ·
        refine sw_iconst (n := 35) F (0) (by decide) dX4_next_34 rfl ?_
        refine sw_istore_n (n := 36) F (L2 := [(3, .int (jI 0)), (0, .int (jI s)), (1, .int (jI c)), (2, .int (jI d))]) rfl (by decide) rfl dX4_next_35 rfl ?_
        refine sw_loc [1, 2, 3, 0] (L2 := [(0, .int (jI s)), (1, .int (jI c)), (2, .int (jI d)), (3, .int (jI 0))]) rfl ?_
        exact K36 0 (by first | assumption | omega)
      ·
        refine sw_iconst (n := 31) F (1) (by decide) dX4_next_30 rfl ?_
        refine sw_goto F (n := 35) dX4_next_31 (by decide) ?_
        refine sw_istore_n (n := 36) F (L2 := [(3, .int (jI 1)), (0, .int (jI s)), (1, .int (jI c)), (2, .int (jI d))]) rfl (by decide) rfl dX4_next_35 rfl ?_
        refine sw_loc [1, 2, 3, 0] (L2 := [(0, .int (jI s)), (1, .int (jI c)), (2, .int (jI d)), (3, .int (jI 1))]) rfl ?_
        exact K36 1 (by first | assumption | omega)
  refine sw_bipush (n := 3) F (48) (by decide) dX4_next_1 rfl ?_
  refine sw_icmp_lt (n := 6) F (by omega) (by decide) (tgt := 16) dX4_next_3 (by decide) rfl (fun c_3 => ?_) (fun c_3 => ?_)
  ·
    refine sw_iconst (n := 17) F (0) (by decide) dX4_next_16 rfl ?_
    refine sw_istore_n (n := 18) F (L2 := [(2, .int (jI 0)), (0, .int (jI s)), (1, .int (jI c))]) rfl (by decide) rfl dX4_next_17 rfl ?_
    refine sw_loc [1, 2, 0] (L2 := [(0, .int (jI s)), (1, .int (jI c)), (2, .int (jI 0))]) rfl ?_
    exact K18 0 (by first | assumption | omega)
  ·
    refine sw_iload_n (n := 7) F 1 rfl rfl dX4_next_6 rfl ?_
    refine sw_bipush (n := 9) F (57) (by decide) dX4_next_7 rfl ?_
    refine sw_icmp_gt (n := 12) F (by omega) (by decide) (tgt := 16) dX4_next_9 (by decide) rfl (fun c_9 => ?_) (fun c_9 => ?_)
    ·
      refine sw_iconst (n := 17) F (0) (by decide) dX4_next_16 rfl ?_
      refine sw_istore_n (n := 18) F (L2 := [(2, .int (jI 0)), (0, .int (jI s)), (1, .int (jI c))]) rfl (by decide) rfl dX4_next_17 rfl ?_
      refine sw_loc [1, 2, 0] (L2 := [(0, .int (jI s)), (1, .int (jI c)), (2, .int (jI 0))]) rfl ?_
      exact K18 0 (by first | assumption | omega)
    ·
      refine sw_iconst (n := 13) F (1) (by decide) dX4_next_12 rfl ?_
      refine sw_goto F (n := 17) dX4_next_13 (by decide) ?_
      refine sw_istore_n (n := 18) F (L2 := [(2, .int (jI 1)), (0, .int (jI s)), (1, .int (jI c))]) rfl (by decide) rfl dX4_next_17 rfl ?_
      refine sw_loc [1, 2, 0] (L2 := [(0, .int (jI s)), (1, .int (jI c)), (2, .int (jI 1))]) rfl ?_
      exact K18 1 (by first | assumption | omega)
theorem nd_X4_as : yX4_as.cls ≠ "java/lang/invoke/MethodHandle" ∧ yX4_as.cls ≠ "java/lang/invoke/VarHandle" ∧ (parseMethodDescriptor yX4_as.desc).map (fun d => d.parameters.length) = some 3 := by decide +kernel
set_option maxRecDepth 100000 in
set_option maxHeartbeats 1000000 in
theorem ct_X4_as {g : GG} {l : Launch} (o : Nat) (a : Nat → Nat) (z : Nat → Int) (D : Nat → Nat) (M : Nat → Nat) (N : Nat → Int) (Sc : Nat → Int) (Hs : Nat → Int) (row : Nat) (s : Nat) (sc : Int) (hr : row < 10) (hs12 : s < 12) (hA : Dok D M) (hN : NB N) (hSc : SB Sc) (hsc : -100 ≤ sc ∧ sc ≤ 100) (hS : smA N Sc s sc < big) : Ct g l yX4_as (ws_ yX4_as cX4_as 4 (Option.none : Option Jvm.ClassFile.FieldType)) 3 59 0 0 [.ref o, .int (jI (↑row)), .int (jI (↑s)), .int (jI sc)] [tmO g o a z, aN g 0 (a 0) 2400 D, aN g 0 (a 1) 10 M, aL g (a 3) 12 N, aI g 0 (a 4) 12 Sc, aI g 4 (a 5) 12 Hs] (fun v9 Ws9 => ∃ D1 : Nat → Nat, ∃ M1 : Nat → Nat, v9 = none ∧ (RV [row] D M D1 M1) ∧ (rok D1 M1 row (smA N Sc s sc)) ∧ Ws9 = [tmO g o a z, aN g 0 (a 0) 2400 D1, aN g 0 (a 1) 10 M1, aL g (a 3) 12 N, aI g 0 (a 4) 12 Sc, aI g 4 (a 5) 12 Hs]) (nox) := by
  refine Ct.of (cc := cX4_as) (nL := 4) (ret := (Option.none : Option Jvm.ClassFile.FieldType)) (by decide) rfl (Nat.le_of_ble_eq_true rfl) ?_
  intro x hg hl hPo hPx hmc hms F
  subst hg; subst hl
  refine SW.cast (L' := [(0, .ref o), (1, .int (jI (↑row))), (2, .int (jI (↑s))), (3, .int (jI sc))]) ?_ rfl rfl rfl
  have hn := hN s
  have hss := hSc s
  have hS9 : (N s).natAbs * 10 ^ (sc - Sc s).toNat < big := hS
  refine sw_aload_n (n := 1) F 0 (some o) rfl rfl rfl dX4_as_0 rfl ?_
  refine sw_iload_n (n := 2) F 1 rfl rfl dX4_as_1 rfl ?_
  refine sw_aload_n (n := 3) F 0 (some o) rfl rfl rfl dX4_as_2 rfl ?_
  refine sw_get (n := 6) F 0 rfl (k := 3) ⟨(RX4, TX4, 50), rfl, by decide, q3802, in_X4, Or.inl rfl⟩ (v := .ref (a 3)) rfl dX4_as_3 rfl ?_
  refine sw_iload_n (n := 7) F 2 rfl rfl dX4_as_6 rfl ?_
  refine sw_laloadL (n := 8) F 3 rfl (fun _ => rfl) s rfl (by omega) dX4_as_7 rfl ?_
  refine sw_callV (n := 11) F (ct_X4_lets (g := xg x) (l := xl x) o a z D M row (N s) hr hA (by first | assumption | omega)) (rcv_ob F 0 (ci := 3) rfl rfl) q4004 q4006 qs71 q120 q4007 nd_X4_lets rfl (by decide) [0, 1, 2, 3, 4, 5] rfl [aL (xg x) (a 3) 12 N, aI (xg x) 0 (a 4) 12 Sc, aI (xg x) 4 (a 5) 12 Hs] rfl 0 0 ⟨by omega, by omega⟩ [] rfl (Nat.le_of_ble_eq_true rfl) dX4_as_8 rfl (fun _ _ h => h.elim) (fun v Ws h => ?_)
  obtain ⟨D1_1, M1_2, rfl, hU_3, rfl⟩ := h
  show SW x [tmO (xg x) o a z, aN (xg x) 0 (a 0) 2400 D1_1, aN (xg x) 0 (a 1) 10 M1_2, aL (xg x) (a 3) 12 N, aI (xg x) 0 (a 4) 12 Sc, aI (xg x) 4 (a 5) 12 Hs] _ _ _ _ []
  have a_4 := hU_3.1
  have r_5 : rok D1_1 M1_2 row ((N s).natAbs) := hU_3.2.2.2
  have v_6 := hU_3.rv
  refine sw_aload_n (n := 12) F 0 (some o) rfl rfl rfl dX4_as_11 rfl ?_
  refine sw_iload_n (n := 13) F 1 rfl rfl dX4_as_12 rfl ?_
  refine sw_iload_n (n := 14) F 3 rfl rfl dX4_as_13 rfl ?_
  refine sw_aload_n (n := 15) F 0 (some o) rfl rfl rfl dX4_as_14 rfl ?_
  refine sw_get (n := 18) F 0 rfl (k := 4) ⟨(RX4, TX4, 50), rfl, by decide, q3803, in_X4, Or.inl rfl⟩ (v := .ref (a 4)) rfl dX4_as_15 rfl ?_
  refine sw_iload_n (n := 19) F 2 rfl rfl dX4_as_18 rfl ?_
  refine sw_ialoadI (n := 20) F 4 rfl (fun _ => rfl) s rfl (by omega) dX4_as_19 rfl ?_
  refine sw_isub (n := 21) F dX4_as_20 rfl ?_
  refine sw_callV (n := 24) F (ct_X4_shifts (g := xg x) (l := xl x) o a z D1_1 M1_2 row (sc - (Sc s)) ((N s).natAbs) hr a_4 r_5 (by first | assumption | omega) hS9) (rcv_ob F 0 (ci := 3) rfl rfl) q4000 q4002 qs70 q120 q4003 nd_X4_shifts rfl (by decide) [0, 1, 2, 3, 4, 5] rfl [aL (xg x) (a 3) 12 N, aI (xg x) 0 (a 4) 12 Sc, aI (xg x) 4 (a 5) 12 Hs] rfl 0 0 ⟨by omega, by omega⟩ [] rfl (Nat.le_of_ble_eq_true rfl) dX4_as_21 rfl (fun _ _ h => h.elim) (fun v Ws h => ?_)
  obtain ⟨D1_7, M1_8, rfl, hU_9, rfl⟩ := h
  show SW x [tmO (xg x) o a z, aN (xg x) 0 (a 0) 2400 D1_7, aN (xg x) 0 (a 1) 10 M1_8, aL (xg x) (a 3) 12 N, aI (xg x) 0 (a 4) 12 Sc, aI (xg x) 4 (a 5) 12 Hs] _ _ _ _ []
  have a_10 := hU_9.1
  have r_11 : rok D1_7 M1_8 row (((N s).natAbs) * 10 ^ (sc - (Sc s)).toNat) := hU_9.2.2.2
  have v_12 := (v_6.mono (T := [row]) (by simp)).trans hU_9.rv (by simp)
  exact sw_vret F rfl dX4_as_24 (by rw [hPo]; exact ⟨D1_7, M1_8, rfl, v_12, (by unfold smA; assumption), rfl⟩)
