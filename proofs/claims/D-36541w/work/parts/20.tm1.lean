theorem nd_X4_digit : yX4_digit.cls ≠ "java/lang/invoke/MethodHandle" ∧ yX4_digit.cls ≠ "java/lang/invoke/VarHandle" ∧ (parseMethodDescriptor yX4_digit.desc).map (fun d => d.parameters.length) = some 2 := by decide +kernel
set_option maxRecDepth 100000 in
set_option maxHeartbeats 1000000 in
theorem ct_X4_digit {g : GG} {l : Launch} (o : Nat) (a : Nat → Nat) (z : Nat → Int) (D : Nat → Nat) (M : Nat → Nat) (row : Nat) (k : Nat) (hr : row < 10) (hM : ∀ r, r < 10 → M r ≤ 240) (hD9 : ∀ q, D q < 10) (hk : k ≤ 2147483647) : Ct g l yX4_digit (ws_ yX4_digit cX4_digit 3 (Option.some Jvm.ClassFile.FieldType.int)) 1 12 0 0 [.ref o, .int (jI (↑row)), .int (jI (↑k))] [tmO g o a z, aN g 0 (a 0) 2400 D, aN g 0 (a 1) 10 M] (fun v9 Ws9 => v9 = some (.int (jI (↑(dg D M row k)))) ∧ (dg D M row k < 10) ∧ Ws9 = [tmO g o a z, aN g 0 (a 0) 2400 D, aN g 0 (a 1) 10 M]) (nox) := by
  refine Ct.of (cc := cX4_digit) (nL := 3) (ret := (Option.some Jvm.ClassFile.FieldType.int)) (by decide) rfl (Nat.le_of_ble_eq_true rfl) ?_
  intro x hg hl hPo hPx hmc hms F
  subst hg; subst hl
  refine SW.cast (L' := [(0, .ref o), (1, .int (jI (↑row))), (2, .int (jI (↑k)))]) ?_ rfl rfl rfl
  have hMr := hM row hr
  refine sw_iload_n (n := 1) F 2 rfl rfl dX4_digit_0 rfl ?_
  refine sw_aload_n (n := 2) F 0 (some o) rfl rfl rfl dX4_digit_1 rfl ?_
  refine sw_get (n := 5) F 0 rfl (k := 1) ⟨(RX4, TX4, 50), rfl, by decide, q3800, in_X4, Or.inl rfl⟩ (v := .ref (a 1)) rfl dX4_digit_2 rfl ?_
  refine sw_iload_n (n := 6) F 1 rfl rfl dX4_digit_5 rfl ?_
  refine sw_ialoadN (n := 7) F 2 rfl (fun _ => rfl) row rfl (by omega) dX4_digit_6 rfl ?_
  refine sw_icmp_ge (n := 10) F (by omega) (by omega) (tgt := 25) dX4_digit_7 (by decide) rfl (fun c_7 => ?_) (fun c_7 => ?_)
  ·
    refine sw_iconst (n := 26) F (0) (by decide) dX4_digit_25 rfl ?_
    exact sw_iret F _ rfl (by first | rfl | exact jI_nz (by omega) | exact jI_nc (by omega)) dX4_digit_26 (by rw [hPo]; exact ⟨(by first | (rw [dg_lt (by omega)]) | (rw [dg_ge (by omega)]; rfl)), (by exact dg_9 hD9 _ _), rfl⟩)
  ·
    refine sw_aload_n (n := 11) F 0 (some o) rfl rfl rfl dX4_digit_10 rfl ?_
    refine sw_get (n := 14) F 0 rfl (k := 0) ⟨(RX4, TX4, 50), rfl, by decide, q3799, in_X4, Or.inl rfl⟩ (v := .ref (a 0)) rfl dX4_digit_11 rfl ?_
    refine sw_sipush (n := 17) F (240) (by decide) dX4_digit_14 rfl ?_
    refine sw_iload_n (n := 18) F 1 rfl rfl dX4_digit_17 rfl ?_
    refine sw_imul (n := 19) F dX4_digit_18 rfl ?_
    refine sw_iload_n (n := 20) F 2 rfl rfl dX4_digit_19 rfl ?_
    refine sw_iadd (n := 21) F dX4_digit_20 rfl ?_
    refine sw_ialoadN (n := 22) F 1 rfl (fun _ => rfl) ((240 * (row)) + (k)) (by omega) (by omega) dX4_digit_21 rfl ?_
    refine sw_goto F (n := 26) dX4_digit_22 (by decide) ?_
    exact sw_iret F _ rfl (by first | rfl | exact jI_nz (by omega) | exact jI_nc (by omega)) dX4_digit_26 (by rw [hPo]; exact ⟨(by first | (rw [dg_lt (by omega)]) | (rw [dg_ge (by omega)]; rfl)), (by exact dg_9 hD9 _ _), rfl⟩)
theorem nd_X4_adds : yX4_adds.cls ≠ "java/lang/invoke/MethodHandle" ∧ yX4_adds.cls ≠ "java/lang/invoke/VarHandle" ∧ (parseMethodDescriptor yX4_adds.desc).map (fun d => d.parameters.length) = some 2 := by decide +kernel
set_option maxRecDepth 100000 in
set_option maxHeartbeats 1000000 in
theorem ct_X4_adds {g : GG} {l : Launch} (o : Nat) (a : Nat → Nat) (z : Nat → Int) (D : Nat → Nat) (M : Nat → Nat) (row : Nat) (d : Nat) (hr : row < 10) (h1 : M row < 240) : Ct g l yX4_adds (ws_ yX4_adds cX4_adds 3 (Option.none : Option Jvm.ClassFile.FieldType)) 1 12 0 0 [.ref o, .int (jI (↑row)), .int (jI (↑d))] [tmO g o a z, aN g 0 (a 0) 2400 D, aN g 0 (a 1) 10 M] (fun v9 Ws9 => v9 = none ∧ Ws9 = [tmO g o a z, aN g 0 (a 0) 2400 (va_up D (240 * row + M row) d), aN g 0 (a 1) 10 (va_up M row (M row + 1))]) (nox) := by
  refine Ct.of (cc := cX4_adds) (nL := 3) (ret := (Option.none : Option Jvm.ClassFile.FieldType)) (by decide) rfl (Nat.le_of_ble_eq_true rfl) ?_
  intro x hg hl hPo hPx hmc hms F
  subst hg; subst hl
  refine SW.cast (L' := [(0, .ref o), (1, .int (jI (↑row))), (2, .int (jI (↑d)))]) ?_ rfl rfl rfl
  refine sw_aload_n (n := 1) F 0 (some o) rfl rfl rfl dX4_adds_0 rfl ?_
  refine sw_get (n := 4) F 0 rfl (k := 0) ⟨(RX4, TX4, 50), rfl, by decide, q3799, in_X4, Or.inl rfl⟩ (v := .ref (a 0)) rfl dX4_adds_1 rfl ?_
  refine sw_sipush (n := 7) F (240) (by decide) dX4_adds_4 rfl ?_
  refine sw_iload_n (n := 8) F 1 rfl rfl dX4_adds_7 rfl ?_
  refine sw_imul (n := 9) F dX4_adds_8 rfl ?_
  refine sw_aload_n (n := 10) F 0 (some o) rfl rfl rfl dX4_adds_9 rfl ?_
  refine sw_get (n := 13) F 0 rfl (k := 1) ⟨(RX4, TX4, 50), rfl, by decide, q3800, in_X4, Or.inl rfl⟩ (v := .ref (a 1)) rfl dX4_adds_10 rfl ?_
  refine sw_iload_n (n := 14) F 1 rfl rfl dX4_adds_13 rfl ?_
  refine sw_ialoadN (n := 15) F 2 rfl (fun _ => rfl) row rfl (by omega) dX4_adds_14 rfl ?_
  refine sw_iadd (n := 16) F dX4_adds_15 rfl ?_
  refine sw_iload_n (n := 17) F 2 rfl rfl dX4_adds_16 rfl ?_
  refine sw_iastoreN (n := 18) F 1 rfl (fun _ => rfl) ((240 * (row)) + ((M row))) (by omega) (by omega) d (by first | omega | rfl) [tmO (xg x) o a z, aN (xg x) 0 (a 0) 2400 (va_up D ((240 * (row)) + ((M row))) d), aN (xg x) 0 (a 1) 10 M] (by rfl) dX4_adds_17 rfl ?_
  refine sw_aload_n (n := 19) F 0 (some o) rfl rfl rfl dX4_adds_18 rfl ?_
  refine sw_get (n := 22) F 0 rfl (k := 1) ⟨(RX4, TX4, 50), rfl, by decide, q3800, in_X4, Or.inl rfl⟩ (v := .ref (a 1)) rfl dX4_adds_19 rfl ?_
  refine sw_iload_n (n := 23) F 1 rfl rfl dX4_adds_22 rfl ?_
  refine sw_dup2_1 (n := 24) F rfl rfl dX4_adds_23 rfl ?_
  refine sw_ialoadN (n := 25) F 2 rfl (fun _ => rfl) row rfl (by omega) dX4_adds_24 rfl ?_
  refine sw_iconst (n := 26) F (1) (by decide) dX4_adds_25 rfl ?_
  refine sw_iadd (n := 27) F dX4_adds_26 rfl ?_
  refine sw_iastoreN (n := 28) F 2 rfl (fun _ => rfl) row rfl (by omega) (((M row)) + 1) (by first | omega | rfl) [tmO (xg x) o a z, aN (xg x) 0 (a 0) 2400 (va_up D ((240 * (row)) + ((M row))) d), aN (xg x) 0 (a 1) 10 (va_up M row (((M row)) + 1))] (by rfl) dX4_adds_27 rfl ?_
  exact sw_vret F rfl dX4_adds_28 (by rw [hPo]; exact ⟨rfl, (by rfl)⟩)
theorem nd_X4_trims : yX4_trims.cls ≠ "java/lang/invoke/MethodHandle" ∧ yX4_trims.cls ≠ "java/lang/invoke/VarHandle" ∧ (parseMethodDescriptor yX4_trims.desc).map (fun d => d.parameters.length) = some 1 := by decide +kernel
set_option maxRecDepth 100000 in
set_option maxHeartbeats 1000000 in
theorem ct_X4_trims {g : GG} {l : Launch} (o : Nat) (a : Nat → Nat) (z : Nat → Int) (D : Nat → Nat) (M : Nat → Nat) (row : Nat) (hr : row < 10) (hM : ∀ r, r < 10 → M r ≤ 240) (hD9 : ∀ q, D q < 10) : Ct g l yX4_trims (ws_ yX4_trims cX4_trims 2 (Option.none : Option Jvm.ClassFile.FieldType)) 2 34 0 0 [.ref o, .int (jI (↑row))] [tmO g o a z, aN g 0 (a 0) 2400 D, aN g 0 (a 1) 10 M] (fun v9 Ws9 => ∃ M1 : Nat → Nat, v9 = none ∧ (∀ q, q ≠ row → M1 q = M q) ∧ (M1 row ≤ M row) ∧ (∀ k, M1 row ≤ k → k < M row → D (240 * row + k) = 0) ∧ (0 < M1 row → D (240 * row + M1 row - 1) ≠ 0) ∧ Ws9 = [tmO g o a z, aN g 0 (a 0) 2400 D, aN g 0 (a 1) 10 M1]) (nox) := by
  refine Ct.of (cc := cX4_trims) (nL := 2) (ret := (Option.none : Option Jvm.ClassFile.FieldType)) (by decide) rfl (Nat.le_of_ble_eq_true rfl) ?_
  intro x hg hl hPo hPx hmc hms F
  subst hg; subst hl
  refine SW.cast (L' := [(0, .ref o), (1, .int (jI (↑row)))]) ?_ rfl rfl rfl
  have K0 : ∀ N0 : Nat, ∀ (M1 : Nat → Nat), (∀ q, q ≠ row → M1 q = M q) → (M1 row ≤ M row) → (∀ k, M1 row ≤ k → k < M row → D (240 * row + k) = 0) → ((M1 row) < N0) → SW x [tmO (xg x) o a z, aN (xg x) 0 (a 0) 2400 D, aN (xg x) 0 (a 1) 10 M1] 0 0 0 [(0, .ref o), (1, .int (jI (↑row)))] [] := by
    intro N0; induction N0 with
    | zero => intro M1 hq hle hz hmu0; omega
    | succ N0 ih0 =>
      intro M1 hq hle hz hmu0
      refine sw_aload_n (n := 1) F 0 (some o) rfl rfl rfl dX4_trims_0 rfl ?_
      have hM1 := Mq_le hM hq (by have := hM row hr; omega); have hMr := hM1 row hr
      refine sw_get (n := 4) F 0 rfl (k := 1) ⟨(RX4, TX4, 50), rfl, by decide, q3800, in_X4, Or.inl rfl⟩ (v := .ref (a 1)) rfl dX4_trims_1 rfl ?_
      refine sw_iload_n (n := 5) F 1 rfl rfl dX4_trims_4 rfl ?_
      refine sw_ialoadN (n := 6) F 2 rfl (fun _ => rfl) row rfl (by omega) dX4_trims_5 rfl ?_
      refine sw_if_le (n := 9) F (by omega) (tgt := 38) dX4_trims_6 (by decide) rfl (fun c_6 => ?_) (fun c_6 => ?_)
      ·
        exact sw_vret F rfl dX4_trims_38 (by rw [hPo]; exact ⟨M1, rfl, (by first | exact hq | exact up_q hq | exact fun _ _ => rfl), hle, hz, (by first | (intro h; omega) | (intro h; rw [dg_lt (by omega)] at c_22; rw [show 240 * row + M1 row - 1 = 240 * row + (M1 row - 1) by omega]; omega)), rfl⟩)
      ·
        refine sw_aload_n (n := 10) F 0 (some o) rfl rfl rfl dX4_trims_9 rfl ?_
        refine sw_iload_n (n := 11) F 1 rfl rfl dX4_trims_10 rfl ?_
        refine sw_aload_n (n := 12) F 0 (some o) rfl rfl rfl dX4_trims_11 rfl ?_
        refine sw_get (n := 15) F 0 rfl (k := 1) ⟨(RX4, TX4, 50), rfl, by decide, q3800, in_X4, Or.inl rfl⟩ (v := .ref (a 1)) rfl dX4_trims_12 rfl ?_
        refine sw_iload_n (n := 16) F 1 rfl rfl dX4_trims_15 rfl ?_
        refine sw_ialoadN (n := 17) F 2 rfl (fun _ => rfl) row rfl (by omega) dX4_trims_16 rfl ?_
        refine sw_iconst (n := 18) F (1) (by decide) dX4_trims_17 rfl ?_
        refine sw_isub (n := 19) F dX4_trims_18 rfl ?_
        rw [show ((↑(M1 row)) - 1 : Int) = ↑(((M1 row)) - 1) by omega]
        refine sw_callV (n := 22) F (ct_X4_digit (g := xg x) (l := xl x) o a z D M1 row (((M1 row)) - 1) hr (by first | assumption | omega) hD9 (by first | assumption | omega)) (rcv_ob F 0 (ci := 3) rfl rfl) q4016 q4018 qs74 q120 q4019 nd_X4_digit rfl (by decide) [0, 1, 2] rfl [] rfl 0 0 ⟨by omega, by omega⟩ [] rfl (Nat.le_of_ble_eq_true rfl) dX4_trims_19 rfl (fun _ _ h => h.elim) (fun v Ws h => ?_)
        obtain ⟨rfl, hdg_1, rfl⟩ := h
        show SW x [tmO (xg x) o a z, aN (xg x) 0 (a 0) 2400 D, aN (xg x) 0 (a 1) 10 M1] _ _ _ _ [.int (jI (↑(dg D M1 row (((M1 row)) - 1))))]
        refine sw_if_ne (n := 25) F (by omega) (tgt := 38) dX4_trims_22 (by decide) rfl (fun c_22 => ?_) (fun c_22 => ?_)
        ·
          exact sw_vret F rfl dX4_trims_38 (by rw [hPo]; exact ⟨M1, rfl, (by first | exact hq | exact up_q hq | exact fun _ _ => rfl), hle, hz, (by first | (intro h; omega) | (intro h; rw [dg_lt (by omega)] at c_22; rw [show 240 * row + M1 row - 1 = 240 * row + (M1 row - 1) by omega]; omega)), rfl⟩)
        ·
          refine sw_aload_n (n := 26) F 0 (some o) rfl rfl rfl dX4_trims_25 rfl ?_
          refine sw_get (n := 29) F 0 rfl (k := 1) ⟨(RX4, TX4, 50), rfl, by decide, q3800, in_X4, Or.inl rfl⟩ (v := .ref (a 1)) rfl dX4_trims_26 rfl ?_
          refine sw_iload_n (n := 30) F 1 rfl rfl dX4_trims_29 rfl ?_
          refine sw_dup2_1 (n := 31) F rfl rfl dX4_trims_30 rfl ?_
          refine sw_ialoadN (n := 32) F 2 rfl (fun _ => rfl) row rfl (by omega) dX4_trims_31 rfl ?_
          refine sw_iconst (n := 33) F (1) (by decide) dX4_trims_32 rfl ?_
          refine sw_isub (n := 34) F dX4_trims_33 rfl ?_
          refine sw_iastoreN (n := 35) F 2 rfl (fun _ => rfl) row rfl (by omega) (((M1 row)) - 1) (by first | omega | rfl) [tmO (xg x) o a z, aN (xg x) 0 (a 0) 2400 D, aN (xg x) 0 (a 1) 10 (va_up M1 row (((M1 row)) - 1))] (by rfl) dX4_trims_34 rfl ?_
          refine sw_goto F (n := 0) dX4_trims_35 (by decide) ?_
          exact ih0 (va_up M1 row (((M1 row)) - 1)) (by first | exact hq | exact up_q hq | exact fun _ _ => rfl) (by rw [up_s]; omega) (by intro k h1 h2; rw [up_s] at h1; by_cases e : k = M1 row - 1; (rw [e]; rw [dg_lt (by omega)] at c_22; omega); (exact hz k (by omega) h2)) (by rw [up_s]; omega)
  exact K0 _ M (by first | exact hq | exact up_q hq | exact fun _ _ => rfl) (by first | assumption | omega) (by intro k h1 h2; omega) (Nat.lt_succ_self _)
theorem nd_X4_lets : yX4_lets.cls ≠ "java/lang/invoke/MethodHandle" ∧ yX4_lets.cls ≠ "java/lang/invoke/VarHandle" ∧ (parseMethodDescriptor yX4_lets.desc).map (fun d => d.parameters.length) = some 2 := by decide +kernel
set_option maxRecDepth 100000 in
set_option maxHeartbeats 1000000 in
theorem ct_X4_lets {g : GG} {l : Launch} (o : Nat) (a : Nat → Nat) (z : Nat → Int) (D : Nat → Nat) (M : Nat → Nat) (row : Nat) (v : Int) (hr : row < 10) (hA : Dok D M) (hv : -9223372036854775807 ≤ v ∧ v ≤ 9223372036854775807) : Ct g l yX4_lets (ws_ yX4_lets cX4_lets 6 (Option.none : Option Jvm.ClassFile.FieldType)) 2 34 0 0 [.ref o, .int (jI (↑row)), .long (jL v)] [tmO g o a z, aN g 0 (a 0) 2400 D, aN g 0 (a 1) 10 M] (fun v9 Ws9 => ∃ D1 : Nat → Nat, ∃ M1 : Nat → Nat, v9 = none ∧ (RU row D M D1 M1 v.natAbs) ∧ Ws9 = [tmO g o a z, aN g 0 (a 0) 2400 D1, aN g 0 (a 1) 10 M1]) (nox) := by
  refine Ct.of (cc := cX4_lets) (nL := 6) (ret := (Option.none : Option Jvm.ClassFile.FieldType)) (by decide) rfl (Nat.le_of_ble_eq_true rfl) ?_
  intro x hg hl hPo hPx hmc hms F
  subst hg; subst hl
  refine SW.cast (L' := [(0, .ref o), (1, .int (jI (↑row))), (2, .long (jL v))]) ?_ rfl rfl rfl
  have hM := hA.2
  have hMr := hM row hr
  have hN : v.natAbs < 10 ^ 19 := by rw [show (10:Nat)^19 = 10000000000000000000 from by decide]; omega
  refine sw_aload_n (n := 1) F 0 (some o) rfl rfl rfl dX4_lets_0 rfl ?_
  refine sw_get (n := 4) F 0 rfl (k := 1) ⟨(RX4, TX4, 50), rfl, by decide, q3800, in_X4, Or.inl rfl⟩ (v := .ref (a 1)) rfl dX4_lets_1 rfl ?_
  refine sw_iload_n (n := 5) F 1 rfl rfl dX4_lets_4 rfl ?_
  refine sw_iconst (n := 6) F (0) (by decide) dX4_lets_5 rfl ?_
  refine sw_iastoreN (n := 7) F 2 rfl (fun _ => rfl) row rfl (by omega) 0 (by first | omega | rfl) [tmO (xg x) o a z, aN (xg x) 0 (a 0) 2400 D, aN (xg x) 0 (a 1) 10 (va_up M row 0)] (by rfl) dX4_lets_6 rfl ?_
  have K21 : ∀ N21 : Nat, ∀ (D1 : Nat → Nat) (M1 : Nat → Nat) (t : Nat), (t ≤ 9223372036854775807) → (LI D M row v.natAbs D1 M1 t) → ((t) < N21) → SW x [tmO (xg x) o a z, aN (xg x) 0 (a 0) 2400 D1, aN (xg x) 0 (a 1) 10 M1] 0 0 21 [(0, .ref o), (1, .int (jI (↑row))), (4, .long (jL (↑t)))] [] := by
    intro N21; induction N21 with
    | zero => intro D1 M1 t ht hLI hmu21; omega
    | succ N21 ih21 =>
      intro D1 M1 t ht hLI hmu21
      refine sw_lload (n := 23) F 2 rfl dX4_lets_21 rfl ?_
      have hlt := hLI.lt hN
      refine sw_lconst (n := 24) F 0 (by decide) dX4_lets_23 rfl ?_
      refine sw_lcmp (n := 25) F (by omega) (by decide) dX4_lets_24 rfl ?_
      refine sw_if_le (n := 28) F (by omega) (tgt := 51) dX4_lets_25 (by decide) rfl (fun c_25 => ?_) (fun c_25 => ?_)
      ·
        have c_25 : ↑t ≤ 0 := by revert c_25; (repeat' split) <;> omega
        exact sw_vret F rfl dX4_lets_51 (by rw [hPo]; exact ⟨D1, M1, rfl, (by exact LI.done hA (by rw [show t = 0 by omega] at hLI; exact hLI) hN), rfl⟩)
      ·
        have c_25 : ↑t > 0 := by revert c_25; (repeat' split) <;> omega
        refine sw_aload_n (n := 29) F 0 (some o) rfl rfl rfl dX4_lets_28 rfl ?_
        refine sw_iload_n (n := 30) F 1 rfl rfl dX4_lets_29 rfl ?_
        refine sw_lload (n := 32) F 2 rfl dX4_lets_30 rfl ?_
        refine sw_ldc2 (n := 35) F (10) q3980 (by decide) dX4_lets_32 rfl ?_
        refine sw_lremP (n := 36) F (by omega) (by decide) (by decide) dX4_lets_35 rfl ?_
        refine sw_l2i (n := 37) F dX4_lets_36 rfl ?_
        rw [show ((↑t) % 10 : Int) = ↑((t) % 10) by omega]
        refine sw_callV (n := 40) F (ct_X4_adds (g := xg x) (l := xl x) o a z D1 M1 row ((t) % 10) hr (by first | assumption | omega)) (rcv_ob F 0 (ci := 3) rfl rfl) q4008 q4010 qs72 q120 q4011 nd_X4_adds rfl (by decide) [0, 1, 2] rfl [] rfl 0 0 ⟨by omega, by omega⟩ [] rfl (Nat.le_of_ble_eq_true rfl) dX4_lets_37 rfl (fun _ _ h => h.elim) (fun v Ws h => ?_)
        obtain ⟨rfl, rfl⟩ := h
        show SW x [tmO (xg x) o a z, aN (xg x) 0 (a 0) 2400 (va_up D1 (240 * row + M1 row) ((t) % 10)), aN (xg x) 0 (a 1) 10 (va_up M1 row (M1 row + 1))] _ _ _ _ []
        refine sw_lload (n := 42) F 2 rfl dX4_lets_40 rfl ?_
        refine sw_ldc2 (n := 45) F (10) q3980 (by decide) dX4_lets_42 rfl ?_
        refine sw_ldivP (n := 46) F (by omega) (by decide) (by decide) dX4_lets_45 rfl ?_
        refine sw_lstore (n := 48) F (L2 := [(4, .long (jL ((↑t) / 10))), (0, .ref o), (1, .int (jI (↑row)))]) rfl (by decide) dX4_lets_46 rfl ?_
        refine sw_goto F (n := 21) dX4_lets_48 (by decide) ?_
        refine sw_loc [1, 2, 0] (L2 := [(0, .ref o), (1, .int (jI (↑row))), (4, .long (jL ((↑t) / 10)))]) rfl ?_
        exact ih21 (va_up D1 (240 * row + M1 row) ((t) % 10)) (va_up M1 row (M1 row + 1)) ((t) / 10) (by first | assumption | omega) (by first | exact hLI.step hN (by omega) | exact LI.start2 hA.1 (by omega)) (by omega)
  refine sw_lload_n (n := 8) F 2 rfl rfl dX4_lets_7 rfl ?_
  refine sw_lconst (n := 9) F 0 (by decide) dX4_lets_8 rfl ?_
  refine sw_lcmp (n := 10) F (by omega) (by decide) dX4_lets_9 rfl ?_
  refine sw_if_ge (n := 13) F (by omega) (tgt := 18) dX4_lets_10 (by decide) rfl (fun c_10 => ?_) (fun c_10 => ?_)
  ·
    have c_10 : v ≥ 0 := by revert c_10; (repeat' split) <;> omega
    refine sw_lload_n (n := 19) F 2 rfl rfl dX4_lets_18 rfl ?_
    refine sw_lstore (n := 21) F (L2 := [(4, .long (jL v)), (0, .ref o), (1, .int (jI (↑row))), (2, .long (jL v))]) rfl (by decide) dX4_lets_19 rfl ?_
    refine sw_loc [1, 2, 0] (L2 := [(0, .ref o), (1, .int (jI (↑row))), (4, .long (jL v))]) rfl ?_
    rw [show (v : Int) = ↑((v : Int).toNat) by omega]
    exact K21 _ D (va_up M row 0) ((v : Int).toNat) (by first | assumption | omega) (by first | exact hLI.step hN (by omega) | exact LI.start2 hA.1 (by omega)) (Nat.lt_succ_self _)
  ·
    have c_10 : v < 0 := by revert c_10; (repeat' split) <;> omega
    refine sw_lload_n (n := 14) F 2 rfl rfl dX4_lets_13 rfl ?_
    refine sw_lneg (n := 15) F dX4_lets_14 rfl ?_
    refine sw_goto F (n := 19) dX4_lets_15 (by decide) ?_
    refine sw_lstore (n := 21) F (L2 := [(4, .long (jL (-v))), (0, .ref o), (1, .int (jI (↑row))), (2, .long (jL v))]) rfl (by decide) dX4_lets_19 rfl ?_
    refine sw_loc [1, 2, 0] (L2 := [(0, .ref o), (1, .int (jI (↑row))), (4, .long (jL (-v)))]) rfl ?_
    rw [show (-v : Int) = ↑((-v : Int).toNat) by omega]
    exact K21 _ D (va_up M row 0) ((-v : Int).toNat) (by first | assumption | omega) (by first | exact hLI.step hN (by omega) | exact LI.start2 hA.1 (by omega)) (Nat.lt_succ_self _)
theorem nd_X4_copies : yX4_copies.cls ≠ "java/lang/invoke/MethodHandle" ∧ yX4_copies.cls ≠ "java/lang/invoke/VarHandle" ∧ (parseMethodDescriptor yX4_copies.desc).map (fun d => d.parameters.length) = some 2 := by decide +kernel
set_option maxRecDepth 100000 in
set_option maxHeartbeats 1000000 in
theorem ct_X4_copies {g : GG} {l : Launch} (o : Nat) (a : Nat → Nat) (z : Nat → Int) (D : Nat → Nat) (M : Nat → Nat) (fr : Nat) (to : Nat) (u : Nat) (hfr : fr < 10) (hto : to < 10) (hne : fr ≠ to) (hA : Dok D M) (hx : rok D M fr u) : Ct g l yX4_copies (ws_ yX4_copies cX4_copies 4 (Option.none : Option Jvm.ClassFile.FieldType)) 2 34 0 0 [.ref o, .int (jI (↑fr)), .int (jI (↑to))] [tmO g o a z, aN g 0 (a 0) 2400 D, aN g 0 (a 1) 10 M] (fun v9 Ws9 => ∃ D1 : Nat → Nat, ∃ M1 : Nat → Nat, v9 = none ∧ (RU to D M D1 M1 u) ∧ Ws9 = [tmO g o a z, aN g 0 (a 0) 2400 D1, aN g 0 (a 1) 10 M1]) (nox) := by
  refine Ct.of (cc := cX4_copies) (nL := 4) (ret := (Option.none : Option Jvm.ClassFile.FieldType)) (by decide) rfl (Nat.le_of_ble_eq_true rfl) ?_
  intro x hg hl hPo hPx hmc hms F
  subst hg; subst hl
  refine SW.cast (L' := [(0, .ref o), (1, .int (jI (↑fr))), (2, .int (jI (↑to)))]) ?_ rfl rfl rfl
  have hM := hA.2
  have hMf := hM fr hfr
  refine sw_aload_n (n := 1) F 0 (some o) rfl rfl rfl dX4_copies_0 rfl ?_
  refine sw_get (n := 4) F 0 rfl (k := 1) ⟨(RX4, TX4, 50), rfl, by decide, q3800, in_X4, Or.inl rfl⟩ (v := .ref (a 1)) rfl dX4_copies_1 rfl ?_
  refine sw_iload_n (n := 5) F 2 rfl rfl dX4_copies_4 rfl ?_
  refine sw_iconst (n := 6) F (0) (by decide) dX4_copies_5 rfl ?_
  refine sw_iastoreN (n := 7) F 2 rfl (fun _ => rfl) to rfl (by omega) 0 (by first | omega | rfl) [tmO (xg x) o a z, aN (xg x) 0 (a 0) 2400 D, aN (xg x) 0 (a 1) 10 (va_up M to 0)] (by rfl) dX4_copies_6 rfl ?_
  refine sw_iconst (n := 8) F (0) (by decide) dX4_copies_7 rfl ?_
  refine sw_istore_n (n := 9) F (L2 := [(3, .int (jI 0)), (0, .ref o), (1, .int (jI (↑fr))), (2, .int (jI (↑to)))]) rfl (by decide) rfl dX4_copies_8 rfl ?_
  have K9 : ∀ N9 : Nat, ∀ (D1 : Nat → Nat) (M1 : Nat → Nat) (k : Nat), (CI D M fr to D1 M1 k) → ((M fr - k) < N9) → SW x [tmO (xg x) o a z, aN (xg x) 0 (a 0) 2400 D1, aN (xg x) 0 (a 1) 10 M1] 0 0 9 [(0, .ref o), (1, .int (jI (↑fr))), (2, .int (jI (↑to))), (3, .int (jI (↑k)))] [] := by
    intro N9; induction N9 with
    | zero => intro D1 M1 k hCI hmu9; omega
    | succ N9 ih9 =>
      intro D1 M1 k hCI hmu9
      refine sw_iload_n (n := 10) F 3 rfl rfl dX4_copies_9 rfl ?_
      have hM1 := Mq_le hM hCI.2.2.1 (by have := hCI.2.2.2.1; have := hCI.2.2.2.2.1; omega)
      have hM1f := hM1 fr hfr
      have hM1t := hM1 to hto
      have hkk := hCI.2.2.2.2.1
      have hMe := hCI.2.2.1 fr hne
      have hkt := hCI.2.2.2.1
      refine sw_aload_n (n := 11) F 0 (some o) rfl rfl rfl dX4_copies_10 rfl ?_
      refine sw_get (n := 14) F 0 rfl (k := 1) ⟨(RX4, TX4, 50), rfl, by decide, q3800, in_X4, Or.inl rfl⟩ (v := .ref (a 1)) rfl dX4_copies_11 rfl ?_
      refine sw_iload_n (n := 15) F 1 rfl rfl dX4_copies_14 rfl ?_
      refine sw_ialoadN (n := 16) F 2 rfl (fun _ => rfl) fr rfl (by omega) dX4_copies_15 rfl ?_
      refine sw_icmp_ge (n := 19) F (by omega) (by omega) (tgt := 36) dX4_copies_16 (by decide) rfl (fun c_16 => ?_) (fun c_16 => ?_)
      ·
        exact sw_vret F rfl dX4_copies_36 (by rw [hPo]; exact ⟨D1, M1, rfl, (by exact hCI.done hA hx (by omega) hne), rfl⟩)
      ·
        refine sw_aload_n (n := 20) F 0 (some o) rfl rfl rfl dX4_copies_19 rfl ?_
        refine sw_iload_n (n := 21) F 2 rfl rfl dX4_copies_20 rfl ?_
        refine sw_aload_n (n := 22) F 0 (some o) rfl rfl rfl dX4_copies_21 rfl ?_
        refine sw_iload_n (n := 23) F 1 rfl rfl dX4_copies_22 rfl ?_
        refine sw_iload_n (n := 24) F 3 rfl rfl dX4_copies_23 rfl ?_
        refine sw_callV (n := 27) F (ct_X4_digit (g := xg x) (l := xl x) o a z D1 M1 fr k hfr (by first | assumption | omega) (by exact hCI.1) (by first | assumption | omega)) (rcv_ob F 0 (ci := 3) rfl rfl) q4016 q4018 qs74 q120 q4019 nd_X4_digit rfl (by decide) [0, 1, 2] rfl [] rfl 0 0 ⟨by omega, by omega⟩ [.int (jI (↑to)), .ref o] rfl (Nat.le_of_ble_eq_true rfl) dX4_copies_24 rfl (fun _ _ h => h.elim) (fun v Ws h => ?_)
        obtain ⟨rfl, hdg_1, rfl⟩ := h
        show SW x [tmO (xg x) o a z, aN (xg x) 0 (a 0) 2400 D1, aN (xg x) 0 (a 1) 10 M1] _ _ _ _ [.int (jI (↑(dg D1 M1 fr k))), .int (jI (↑to)), .ref o]
        refine sw_callV (n := 30) F (ct_X4_adds (g := xg x) (l := xl x) o a z D1 M1 to (dg D1 M1 fr k) hto (by first | assumption | omega)) (rcv_ob F 0 (ci := 3) rfl rfl) q4008 q4010 qs72 q120 q4011 nd_X4_adds rfl (by decide) [0, 1, 2] rfl [] rfl 0 0 ⟨by omega, by omega⟩ [] rfl (Nat.le_of_ble_eq_true rfl) dX4_copies_27 rfl (fun _ _ h => h.elim) (fun v Ws h => ?_)
        obtain ⟨rfl, rfl⟩ := h
        show SW x [tmO (xg x) o a z, aN (xg x) 0 (a 0) 2400 (va_up D1 (240 * to + M1 to) (dg D1 M1 fr k)), aN (xg x) 0 (a 1) 10 (va_up M1 to (M1 to + 1))] _ _ _ _ []
        refine sw_iinc (n := 33) F 3 (L2 := [(3, .int (jI (↑k + 1))), (0, .ref o), (1, .int (jI (↑fr))), (2, .int (jI (↑to)))]) rfl rfl (by decide) dX4_copies_30 rfl ?_
        refine sw_goto F (n := 9) dX4_copies_33 (by decide) ?_
        refine sw_loc [1, 2, 3, 0] (L2 := [(0, .ref o), (1, .int (jI (↑fr))), (2, .int (jI (↑to))), (3, .int (jI (↑k + 1)))]) rfl ?_
        exact ih9 (va_up D1 (240 * to + M1 to) (dg D1 M1 fr k)) (va_up M1 to (M1 to + 1)) (k + 1) (by first | exact hCI.step hA hfr hne (by omega) | exact CI.start hA.1) (by omega)
  refine sw_loc [1, 2, 3, 0] (L2 := [(0, .ref o), (1, .int (jI (↑fr))), (2, .int (jI (↑to))), (3, .int (jI 0))]) rfl ?_
  exact K9 _ D (va_up M to 0) 0 (by first | exact hCI.step hA hfr hne (by omega) | exact CI.start hA.1) (Nat.lt_succ_self _)
theorem nd_X4_shifts : yX4_shifts.cls ≠ "java/lang/invoke/MethodHandle" ∧ yX4_shifts.cls ≠ "java/lang/invoke/VarHandle" ∧ (parseMethodDescriptor yX4_shifts.desc).map (fun d => d.parameters.length) = some 2 := by decide +kernel
set_option maxRecDepth 100000 in
set_option maxHeartbeats 1000000 in
theorem ct_X4_shifts {g : GG} {l : Launch} (o : Nat) (a : Nat → Nat) (z : Nat → Int) (D : Nat → Nat) (M : Nat → Nat) (row : Nat) (s : Int) (u : Nat) (hr : row < 10) (hA : Dok D M) (hx : rok D M row u) (hs : -2147483648 ≤ s ∧ s ≤ 2147483647) (hS : u * 10 ^ s.toNat < big) : Ct g l yX4_shifts (ws_ yX4_shifts cX4_shifts 4 (Option.none : Option Jvm.ClassFile.FieldType)) 1 12 0 0 [.ref o, .int (jI (↑row)), .int (jI s)] [tmO g o a z, aN g 0 (a 0) 2400 D, aN g 0 (a 1) 10 M] (fun v9 Ws9 => ∃ D1 : Nat → Nat, ∃ M1 : Nat → Nat, v9 = none ∧ (RU row D M D1 M1 (u * 10 ^ s.toNat)) ∧ Ws9 = [tmO g o a z, aN g 0 (a 0) 2400 D1, aN g 0 (a 1) 10 M1]) (nox) := by
  refine Ct.of (cc := cX4_shifts) (nL := 4) (ret := (Option.none : Option Jvm.ClassFile.FieldType)) (by decide) rfl (Nat.le_of_ble_eq_true rfl) ?_
  intro x hg hl hPo hPx hmc hms F
  subst hg; subst hl
  refine SW.cast (L' := [(0, .ref o), (1, .int (jI (↑row))), (2, .int (jI s))]) ?_ rfl rfl rfl
  have hM := hA.2
  have hMr := hM row hr
  refine sw_iload_n (n := 1) F 2 rfl rfl dX4_shifts_0 rfl ?_
  refine sw_if_le (n := 4) F (by omega) (tgt := 13) dX4_shifts_1 (by decide) rfl (fun c_1 => ?_) (fun c_1 => ?_)
  ·
    exact sw_vret F rfl dX4_shifts_13 (by rw [hPo]; exact ⟨D, M, rfl, (by exact RU.shift0 hA hx (by omega)), rfl⟩)
  ·
    refine sw_aload_n (n := 5) F 0 (some o) rfl rfl rfl dX4_shifts_4 rfl ?_
    refine sw_get (n := 8) F 0 rfl (k := 1) ⟨(RX4, TX4, 50), rfl, by decide, q3800, in_X4, Or.inl rfl⟩ (v := .ref (a 1)) rfl dX4_shifts_5 rfl ?_
    refine sw_iload_n (n := 9) F 1 rfl rfl dX4_shifts_8 rfl ?_
    refine sw_ialoadN (n := 10) F 2 rfl (fun _ => rfl) row rfl (by omega) dX4_shifts_9 rfl ?_
    refine sw_if_ne (n := 13) F (by omega) (tgt := 14) dX4_shifts_10 (by decide) rfl (fun c_10 => ?_) (fun c_10 => ?_)
    ·
      have h0 : 0 < M row := by omega
      have hrm := shift_room hx hS h0
      refine sw_aload_n (n := 15) F 0 (some o) rfl rfl rfl dX4_shifts_14 rfl ?_
      refine sw_get (n := 18) F 0 rfl (k := 1) ⟨(RX4, TX4, 50), rfl, by decide, q3800, in_X4, Or.inl rfl⟩ (v := .ref (a 1)) rfl dX4_shifts_15 rfl ?_
      refine sw_iload_n (n := 19) F 1 rfl rfl dX4_shifts_18 rfl ?_
      refine sw_ialoadN (n := 20) F 2 rfl (fun _ => rfl) row rfl (by omega) dX4_shifts_19 rfl ?_
      refine sw_iconst (n := 21) F (1) (by decide) dX4_shifts_20 rfl ?_
      refine sw_isub (n := 22) F dX4_shifts_21 rfl ?_
      refine sw_istore_n (n := 23) F (L2 := [(3, .int (jI ((↑(M row)) - 1))), (0, .ref o), (1, .int (jI (↑row))), (2, .int (jI s))]) rfl (by decide) rfl dX4_shifts_22 rfl ?_
      have K23 : ∀ N23 : Nat, ∀ (D1 : Nat → Nat) (n : Nat), (SI D (240 * row) (M row) s.toNat D1 n) → ((n) < N23) → SW x [tmO (xg x) o a z, aN (xg x) 0 (a 0) 2400 D1, aN (xg x) 0 (a 1) 10 M] 0 0 23 [(0, .ref o), (1, .int (jI (↑row))), (2, .int (jI s)), (3, .int (jI (↑n - 1)))] [] := by
        intro N23; induction N23 with
        | zero => intro D1 n hSI hmu23; omega
        | succ N23 ih23 =>
          intro D1 n hSI hmu23
          have hnm := hSI.2.1
          refine sw_iload_n (n := 24) F 3 rfl rfl dX4_shifts_23 rfl ?_
          refine sw_if_lt (n := 27) F (by omega) (tgt := 59) dX4_shifts_24 (by decide) rfl (fun c_24 => ?_) (fun c_24 => ?_)
          ·
            refine sw_iconst (n := 60) F (0) (by decide) dX4_shifts_59 rfl ?_
            refine sw_istore_n (n := 61) F (L2 := [(3, .int (jI 0)), (0, .ref o), (1, .int (jI (↑row))), (2, .int (jI s))]) rfl (by decide) rfl dX4_shifts_60 rfl ?_
            have K61 : ∀ N61 : Nat, ∀ (D2 : Nat → Nat) (k : Nat), (SZ D (240 * row) (M row) s.toNat D2 k) → ((s.toNat - k) < N61) → SW x [tmO (xg x) o a z, aN (xg x) 0 (a 0) 2400 D2, aN (xg x) 0 (a 1) 10 M] 0 0 61 [(0, .ref o), (1, .int (jI (↑row))), (2, .int (jI s)), (3, .int (jI (↑k)))] [] := by
              intro N61; induction N61 with
              | zero => intro D2 k hSZ hmu61; omega
              | succ N61 ih61 =>
                intro D2 k hSZ hmu61
                have hkm := hSZ.2.1
                refine sw_iload_n (n := 62) F 3 rfl rfl dX4_shifts_61 rfl ?_
                refine sw_iload_n (n := 63) F 2 rfl rfl dX4_shifts_62 rfl ?_
                refine sw_icmp_ge (n := 66) F (by omega) (by omega) (tgt := 85) dX4_shifts_63 (by decide) rfl (fun c_63 => ?_) (fun c_63 => ?_)
                ·
                  refine sw_aload_n (n := 86) F 0 (some o) rfl rfl rfl dX4_shifts_85 rfl ?_
                  refine sw_get (n := 89) F 0 rfl (k := 1) ⟨(RX4, TX4, 50), rfl, by decide, q3800, in_X4, Or.inl rfl⟩ (v := .ref (a 1)) rfl dX4_shifts_86 rfl ?_
                  refine sw_iload_n (n := 90) F 1 rfl rfl dX4_shifts_89 rfl ?_
                  refine sw_dup2_1 (n := 91) F rfl rfl dX4_shifts_90 rfl ?_
                  refine sw_ialoadN (n := 92) F 2 rfl (fun _ => rfl) row rfl (by omega) dX4_shifts_91 rfl ?_
                  refine sw_iload_n (n := 93) F 2 rfl rfl dX4_shifts_92 rfl ?_
                  refine sw_iadd (n := 94) F dX4_shifts_93 rfl ?_
                  refine sw_iastoreN (n := 95) F 2 rfl (fun _ => rfl) row rfl (by omega) (M row + s.toNat) (by first | omega | rfl) [tmO (xg x) o a z, aN (xg x) 0 (a 0) 2400 D2, aN (xg x) 0 (a 1) 10 (va_up M row (M row + s.toNat))] (by simp [List.set]) dX4_shifts_94 rfl ?_
                  exact sw_vret F rfl dX4_shifts_95 (by rw [hPo]; exact ⟨D2, va_up M row (M row + s.toNat), rfl, (by rw [show k = s.toNat by omega] at hSZ; exact hSZ.done hA hx hS h0), rfl⟩)
                ·
                  refine sw_aload_n (n := 67) F 0 (some o) rfl rfl rfl dX4_shifts_66 rfl ?_
                  refine sw_get (n := 70) F 0 rfl (k := 0) ⟨(RX4, TX4, 50), rfl, by decide, q3799, in_X4, Or.inl rfl⟩ (v := .ref (a 0)) rfl dX4_shifts_67 rfl ?_
                  refine sw_sipush (n := 73) F (240) (by decide) dX4_shifts_70 rfl ?_
                  refine sw_iload_n (n := 74) F 1 rfl rfl dX4_shifts_73 rfl ?_
                  refine sw_imul (n := 75) F dX4_shifts_74 rfl ?_
                  refine sw_iload_n (n := 76) F 3 rfl rfl dX4_shifts_75 rfl ?_
                  refine sw_iadd (n := 77) F dX4_shifts_76 rfl ?_
                  refine sw_iconst (n := 78) F (0) (by decide) dX4_shifts_77 rfl ?_
                  refine sw_iastoreN (n := 79) F 1 rfl (fun _ => rfl) ((240 * (row)) + (k)) (by omega) (by omega) 0 (by first | omega | rfl) [tmO (xg x) o a z, aN (xg x) 0 (a 0) 2400 (va_up D2 ((240 * (row)) + (k)) 0), aN (xg x) 0 (a 1) 10 M] (by rfl) dX4_shifts_78 rfl ?_
                  refine sw_iinc (n := 82) F 3 (L2 := [(3, .int (jI (↑k + 1))), (0, .ref o), (1, .int (jI (↑row))), (2, .int (jI s))]) rfl rfl (by decide) dX4_shifts_79 rfl ?_
                  refine sw_goto F (n := 61) dX4_shifts_82 (by decide) ?_
                  refine sw_loc [1, 2, 3, 0] (L2 := [(0, .ref o), (1, .int (jI (↑row))), (2, .int (jI s)), (3, .int (jI (↑k + 1)))]) rfl ?_
                  exact ih61 (va_up D2 ((240 * (row)) + (k)) 0) (k + 1) (by first | exact hSZ.step (by omega) | exact SZ.start (by rw [show n = 0 by omega] at hSI; exact hSI)) (by omega)
            refine sw_loc [1, 2, 3, 0] (L2 := [(0, .ref o), (1, .int (jI (↑row))), (2, .int (jI s)), (3, .int (jI 0))]) rfl ?_
            exact K61 _ D1 0 (by first | exact hSZ.step (by omega) | exact SZ.start (by rw [show n = 0 by omega] at hSI; exact hSI)) (Nat.lt_succ_self _)
          ·
            refine sw_aload_n (n := 28) F 0 (some o) rfl rfl rfl dX4_shifts_27 rfl ?_
            refine sw_get (n := 31) F 0 rfl (k := 0) ⟨(RX4, TX4, 50), rfl, by decide, q3799, in_X4, Or.inl rfl⟩ (v := .ref (a 0)) rfl dX4_shifts_28 rfl ?_
            refine sw_sipush (n := 34) F (240) (by decide) dX4_shifts_31 rfl ?_
            refine sw_iload_n (n := 35) F 1 rfl rfl dX4_shifts_34 rfl ?_
            refine sw_imul (n := 36) F dX4_shifts_35 rfl ?_
            refine sw_iload_n (n := 37) F 3 rfl rfl dX4_shifts_36 rfl ?_
            refine sw_iadd (n := 38) F dX4_shifts_37 rfl ?_
            refine sw_iload_n (n := 39) F 2 rfl rfl dX4_shifts_38 rfl ?_
            refine sw_iadd (n := 40) F dX4_shifts_39 rfl ?_
            refine sw_aload_n (n := 41) F 0 (some o) rfl rfl rfl dX4_shifts_40 rfl ?_
            refine sw_get (n := 44) F 0 rfl (k := 0) ⟨(RX4, TX4, 50), rfl, by decide, q3799, in_X4, Or.inl rfl⟩ (v := .ref (a 0)) rfl dX4_shifts_41 rfl ?_
            refine sw_sipush (n := 47) F (240) (by decide) dX4_shifts_44 rfl ?_
            refine sw_iload_n (n := 48) F 1 rfl rfl dX4_shifts_47 rfl ?_
            refine sw_imul (n := 49) F dX4_shifts_48 rfl ?_
            refine sw_iload_n (n := 50) F 3 rfl rfl dX4_shifts_49 rfl ?_
            refine sw_iadd (n := 51) F dX4_shifts_50 rfl ?_
            refine sw_ialoadN (n := 52) F 1 rfl (fun _ => rfl) (240 * row + (n - 1)) (by omega) (by omega) dX4_shifts_51 rfl ?_
            refine sw_iastoreN (n := 53) F 1 rfl (fun _ => rfl) (240 * row + (n - 1) + s.toNat) (by omega) (by omega) (D1 (240 * row + (n - 1))) (by first | omega | rfl) [tmO (xg x) o a z, aN (xg x) 0 (a 0) 2400 (va_up D1 (240 * row + (n - 1) + s.toNat) (D1 (240 * row + (n - 1)))), aN (xg x) 0 (a 1) 10 M] (by simp [List.set]) dX4_shifts_52 rfl ?_
            refine sw_iinc (n := 56) F 3 (L2 := [(3, .int (jI (↑n - 1 + (-1)))), (0, .ref o), (1, .int (jI (↑row))), (2, .int (jI s))]) rfl rfl (by decide) dX4_shifts_53 rfl ?_
            refine sw_goto F (n := 23) dX4_shifts_56 (by decide) ?_
            refine sw_loc [1, 2, 3, 0] (L2 := [(0, .ref o), (1, .int (jI (↑row))), (2, .int (jI s)), (3, .int (jI (↑n - 1 + (-1))))]) rfl ?_
            rw [show (↑n - 1 + (-1) : Int) = ↑(n - 1) - 1 by omega]
            exact ih23 (va_up D1 (240 * row + (n - 1) + s.toNat) (D1 (240 * row + (n - 1)))) (n - 1) (by first | exact hSI.step (by omega) (by omega) | exact SI.start hA.1) (by omega)
      refine sw_loc [1, 2, 3, 0] (L2 := [(0, .ref o), (1, .int (jI (↑row))), (2, .int (jI s)), (3, .int (jI ((↑(M row)) - 1)))]) rfl ?_
      exact K23 _ D (M row) (by first | exact hSI.step (by omega) (by omega) | exact SI.start hA.1) (Nat.lt_succ_self _)
    ·
      exact sw_vret F rfl dX4_shifts_13 (by rw [hPo]; exact ⟨D, M, rfl, (by exact RU.shift0 hA hx (by omega)), rfl⟩)
theorem nd_X4_compares : yX4_compares.cls ≠ "java/lang/invoke/MethodHandle" ∧ yX4_compares.cls ≠ "java/lang/invoke/VarHandle" ∧ (parseMethodDescriptor yX4_compares.desc).map (fun d => d.parameters.length) = some 2 := by decide +kernel
set_option maxRecDepth 100000 in
set_option maxHeartbeats 1000000 in
theorem ct_X4_compares {g : GG} {l : Launch} (o : Nat) (a : Nat → Nat) (z : Nat → Int) (D : Nat → Nat) (M : Nat → Nat) (p : Nat) (q : Nat) (u : Nat) (v : Nat) (hp : p < 10) (hq : q < 10) (hA : Dok D M) (hx : rok D M p u) (hy : rok D M q v) : Ct g l yX4_compares (ws_ yX4_compares cX4_compares 4 (Option.some Jvm.ClassFile.FieldType.int)) 2 34 0 0 [.ref o, .int (jI (↑p)), .int (jI (↑q))] [tmO g o a z, aN g 0 (a 0) 2400 D, aN g 0 (a 1) 10 M] (fun v9 Ws9 => v9 = some (.int (jI (cmpI u v))) ∧ Ws9 = [tmO g o a z, aN g 0 (a 0) 2400 D, aN g 0 (a 1) 10 M]) (nox) := by
  refine Ct.of (cc := cX4_compares) (nL := 4) (ret := (Option.some Jvm.ClassFile.FieldType.int)) (by decide) rfl (Nat.le_of_ble_eq_true rfl) ?_
  intro x hg hl hPo hPx hmc hms F
  subst hg; subst hl
  refine SW.cast (L' := [(0, .ref o), (1, .int (jI (↑p))), (2, .int (jI (↑q)))]) ?_ rfl rfl rfl
  have hM := hA.2
  have hMp := hM p hp
  have hMq := hM q hq
  have hD9 := hA.1
  refine sw_aload_n (n := 1) F 0 (some o) rfl rfl rfl dX4_compares_0 rfl ?_
  refine sw_get (n := 4) F 0 rfl (k := 1) ⟨(RX4, TX4, 50), rfl, by decide, q3800, in_X4, Or.inl rfl⟩ (v := .ref (a 1)) rfl dX4_compares_1 rfl ?_
  refine sw_iload_n (n := 5) F 1 rfl rfl dX4_compares_4 rfl ?_
  refine sw_ialoadN (n := 6) F 2 rfl (fun _ => rfl) p rfl (by omega) dX4_compares_5 rfl ?_
  refine sw_aload_n (n := 7) F 0 (some o) rfl rfl rfl dX4_compares_6 rfl ?_
  refine sw_get (n := 10) F 0 rfl (k := 1) ⟨(RX4, TX4, 50), rfl, by decide, q3800, in_X4, Or.inl rfl⟩ (v := .ref (a 1)) rfl dX4_compares_7 rfl ?_
  refine sw_iload_n (n := 11) F 2 rfl rfl dX4_compares_10 rfl ?_
  refine sw_ialoadN (n := 12) F 2 rfl (fun _ => rfl) q rfl (by omega) dX4_compares_11 rfl ?_
  refine sw_icmp_eq (n := 15) F (by omega) (by omega) (tgt := 36) dX4_compares_12 (by decide) rfl (fun c_12 => ?_) (fun c_12 => ?_)
  ·
    have hMM : M p = M q := by omega
    refine sw_aload_n (n := 37) F 0 (some o) rfl rfl rfl dX4_compares_36 rfl ?_
    refine sw_get (n := 40) F 0 rfl (k := 1) ⟨(RX4, TX4, 50), rfl, by decide, q3800, in_X4, Or.inl rfl⟩ (v := .ref (a 1)) rfl dX4_compares_37 rfl ?_
    refine sw_iload_n (n := 41) F 1 rfl rfl dX4_compares_40 rfl ?_
    refine sw_ialoadN (n := 42) F 2 rfl (fun _ => rfl) p rfl (by omega) dX4_compares_41 rfl ?_
    refine sw_iconst (n := 43) F (1) (by decide) dX4_compares_42 rfl ?_
    refine sw_isub (n := 44) F dX4_compares_43 rfl ?_
    refine sw_istore_n (n := 45) F (L2 := [(3, .int (jI ((↑(M p)) - 1))), (0, .ref o), (1, .int (jI (↑p))), (2, .int (jI (↑q)))]) rfl (by decide) rfl dX4_compares_44 rfl ?_
    have K45 : ∀ N45 : Nat, ∀ (n : Nat), (n ≤ M p) → (∀ j, n ≤ j → j < M p → D (240 * p + j) = D (240 * q + j)) → ((n) < N45) → SW x [tmO (xg x) o a z, aN (xg x) 0 (a 0) 2400 D, aN (xg x) 0 (a 1) 10 M] 0 0 45 [(0, .ref o), (1, .int (jI (↑p))), (2, .int (jI (↑q))), (3, .int (jI (↑n - 1)))] [] := by
      intro N45; induction N45 with
      | zero => intro n hn he hmu45; omega
      | succ N45 ih45 =>
        intro n hn he hmu45
        refine sw_iload_n (n := 46) F 3 rfl rfl dX4_compares_45 rfl ?_
        refine sw_if_lt (n := 49) F (by omega) (tgt := 91) dX4_compares_46 (by decide) rfl (fun c_46 => ?_) (fun c_46 => ?_)
        ·
          refine sw_iconst (n := 92) F (0) (by decide) dX4_compares_91 rfl ?_
          exact sw_iret F _ rfl (by first | rfl | exact jI_nz (by omega) | exact jI_nc (by omega)) dX4_compares_92 (by rw [hPo]; exact ⟨(by rw [cmpI_eq (cm_all hx hy hMM (by rw [show n = 0 by omega] at he; exact he))]), rfl⟩)
        ·
          refine sw_aload_n (n := 50) F 0 (some o) rfl rfl rfl dX4_compares_49 rfl ?_
          refine sw_iload_n (n := 51) F 1 rfl rfl dX4_compares_50 rfl ?_
          refine sw_iload_n (n := 52) F 3 rfl rfl dX4_compares_51 rfl ?_
          rw [show (↑n - 1 : Int) = ↑(n - 1) by omega]
          refine sw_callV (n := 55) F (ct_X4_digit (g := xg x) (l := xl x) o a z D M p (n - 1) hp (by first | assumption | omega) (by first | assumption | omega) (by first | assumption | omega)) (rcv_ob F 0 (ci := 3) rfl rfl) q4016 q4018 qs74 q120 q4019 nd_X4_digit rfl (by decide) [0, 1, 2] rfl [] rfl 0 0 ⟨by omega, by omega⟩ [] rfl (Nat.le_of_ble_eq_true rfl) dX4_compares_52 rfl (fun _ _ h => h.elim) (fun v Ws h => ?_)
          obtain ⟨rfl, hdg_1, rfl⟩ := h
          show SW x [tmO (xg x) o a z, aN (xg x) 0 (a 0) 2400 D, aN (xg x) 0 (a 1) 10 M] _ _ _ _ [.int (jI (↑(dg D M p (n - 1))))]
          refine sw_aload_n (n := 56) F 0 (some o) rfl rfl rfl dX4_compares_55 rfl ?_
          refine sw_iload_n (n := 57) F 2 rfl rfl dX4_compares_56 rfl ?_
          refine sw_iload_n (n := 58) F 3 rfl rfl dX4_compares_57 rfl ?_
          refine sw_callV (n := 61) F (ct_X4_digit (g := xg x) (l := xl x) o a z D M q (n - 1) hq (by first | assumption | omega) (by first | assumption | omega) (by first | assumption | omega)) (rcv_ob F 0 (ci := 3) rfl rfl) q4016 q4018 qs74 q120 q4019 nd_X4_digit rfl (by decide) [0, 1, 2] rfl [] rfl 0 0 ⟨by omega, by omega⟩ [.int (jI (↑(dg D M p (n - 1))))] rfl (Nat.le_of_ble_eq_true rfl) dX4_compares_58 rfl (fun _ _ h => h.elim) (fun v Ws h => ?_)
          obtain ⟨rfl, hdg_2, rfl⟩ := h
          show SW x [tmO (xg x) o a z, aN (xg x) 0 (a 0) 2400 D, aN (xg x) 0 (a 1) 10 M] _ _ _ _ [.int (jI (↑(dg D M q (n - 1)))), .int (jI (↑(dg D M p (n - 1))))]
          refine sw_icmp_eq (n := 64) F (by omega) (by omega) (tgt := 85) dX4_compares_61 (by decide) rfl (fun c_61 => ?_) (fun c_61 => ?_)
          ·
            have d1 : dg D M p (n - 1) = D (240 * p + (n - 1)) := dg_lt (by omega)
            have d2 : dg D M q (n - 1) = D (240 * q + (n - 1)) := dg_lt (by omega)
            refine sw_iinc (n := 88) F 3 (L2 := [(3, .int (jI (↑(n - 1) + (-1)))), (0, .ref o), (1, .int (jI (↑p))), (2, .int (jI (↑q)))]) rfl rfl (by decide) dX4_compares_85 rfl ?_
            refine sw_goto F (n := 45) dX4_compares_88 (by decide) ?_
            refine sw_loc [1, 2, 3, 0] (L2 := [(0, .ref o), (1, .int (jI (↑p))), (2, .int (jI (↑q))), (3, .int (jI (↑(n - 1) + (-1))))]) rfl ?_
            rw [show (↑(n - 1) + (-1) : Int) = ↑(n - 1) - 1 by omega]
            exact ih45 (n - 1) (by first | assumption | omega) (by intro j h1 h2; by_cases e : j = n - 1; (rw [e]; omega); (exact he j (by omega) h2)) (by omega)
          ·
            have d1 : dg D M p (n - 1) = D (240 * p + (n - 1)) := dg_lt (by omega)
            have d2 : dg D M q (n - 1) = D (240 * q + (n - 1)) := dg_lt (by omega)
            refine sw_aload_n (n := 65) F 0 (some o) rfl rfl rfl dX4_compares_64 rfl ?_
            refine sw_iload_n (n := 66) F 1 rfl rfl dX4_compares_65 rfl ?_
            refine sw_iload_n (n := 67) F 3 rfl rfl dX4_compares_66 rfl ?_
            refine sw_callV (n := 70) F (ct_X4_digit (g := xg x) (l := xl x) o a z D M p (n - 1) hp (by first | assumption | omega) (by first | assumption | omega) (by first | assumption | omega)) (rcv_ob F 0 (ci := 3) rfl rfl) q4016 q4018 qs74 q120 q4019 nd_X4_digit rfl (by decide) [0, 1, 2] rfl [] rfl 0 0 ⟨by omega, by omega⟩ [] rfl (Nat.le_of_ble_eq_true rfl) dX4_compares_67 rfl (fun _ _ h => h.elim) (fun v Ws h => ?_)
            obtain ⟨rfl, hdg_3, rfl⟩ := h
            show SW x [tmO (xg x) o a z, aN (xg x) 0 (a 0) 2400 D, aN (xg x) 0 (a 1) 10 M] _ _ _ _ [.int (jI (↑(dg D M p (n - 1))))]
            refine sw_aload_n (n := 71) F 0 (some o) rfl rfl rfl dX4_compares_70 rfl ?_
            refine sw_iload_n (n := 72) F 2 rfl rfl dX4_compares_71 rfl ?_
            refine sw_iload_n (n := 73) F 3 rfl rfl dX4_compares_72 rfl ?_
            refine sw_callV (n := 76) F (ct_X4_digit (g := xg x) (l := xl x) o a z D M q (n - 1) hq (by first | assumption | omega) (by first | assumption | omega) (by first | assumption | omega)) (rcv_ob F 0 (ci := 3) rfl rfl) q4016 q4018 qs74 q120 q4019 nd_X4_digit rfl (by decide) [0, 1, 2] rfl [] rfl 0 0 ⟨by omega, by omega⟩ [.int (jI (↑(dg D M p (n - 1))))] rfl (Nat.le_of_ble_eq_true rfl) dX4_compares_73 rfl (fun _ _ h => h.elim) (fun v Ws h => ?_)
            obtain ⟨rfl, hdg_4, rfl⟩ := h
            show SW x [tmO (xg x) o a z, aN (xg x) 0 (a 0) 2400 D, aN (xg x) 0 (a 1) 10 M] _ _ _ _ [.int (jI (↑(dg D M q (n - 1)))), .int (jI (↑(dg D M p (n - 1))))]
            refine sw_icmp_ge (n := 79) F (by omega) (by omega) (tgt := 83) dX4_compares_76 (by decide) rfl (fun c_76 => ?_) (fun c_76 => ?_)
            ·
              refine sw_iconst (n := 84) F (1) (by decide) dX4_compares_83 rfl ?_
              exact sw_iret F _ rfl (by first | rfl | exact jI_nz (by omega) | exact jI_nc (by omega)) dX4_compares_84 (by rw [hPo]; exact ⟨(by first | rw [cmpI_lt (cm_dig hA hx hy hMM (by omega) hn he (by omega))] | rw [cmpI_gt (cm_dig hA hy hx hMM.symm (by omega) (by omega) (fun j h1 h2 => (he j h1 (by omega)).symm) (by omega))]), rfl⟩)
            ·
              refine sw_iconst (n := 80) F (-1) (by decide) dX4_compares_79 rfl ?_
              refine sw_goto F (n := 84) dX4_compares_80 (by decide) ?_
              exact sw_iret F _ rfl (by first | rfl | exact jI_nz (by omega) | exact jI_nc (by omega)) dX4_compares_84 (by rw [hPo]; exact ⟨(by first | rw [cmpI_lt (cm_dig hA hx hy hMM (by omega) hn he (by omega))] | rw [cmpI_gt (cm_dig hA hy hx hMM.symm (by omega) (by omega) (fun j h1 h2 => (he j h1 (by omega)).symm) (by omega))]), rfl⟩)
    refine sw_loc [1, 2, 3, 0] (L2 := [(0, .ref o), (1, .int (jI (↑p))), (2, .int (jI (↑q))), (3, .int (jI ((↑(M p)) - 1)))]) rfl ?_
    exact K45 _ (M p) (by first | assumption | omega) (by intro j h1 h2; omega) (Nat.lt_succ_self _)
  ·
    refine sw_aload_n (n := 16) F 0 (some o) rfl rfl rfl dX4_compares_15 rfl ?_
    refine sw_get (n := 19) F 0 rfl (k := 1) ⟨(RX4, TX4, 50), rfl, by decide, q3800, in_X4, Or.inl rfl⟩ (v := .ref (a 1)) rfl dX4_compares_16 rfl ?_
    refine sw_iload_n (n := 20) F 1 rfl rfl dX4_compares_19 rfl ?_
    refine sw_ialoadN (n := 21) F 2 rfl (fun _ => rfl) p rfl (by omega) dX4_compares_20 rfl ?_
    refine sw_aload_n (n := 22) F 0 (some o) rfl rfl rfl dX4_compares_21 rfl ?_
    refine sw_get (n := 25) F 0 rfl (k := 1) ⟨(RX4, TX4, 50), rfl, by decide, q3800, in_X4, Or.inl rfl⟩ (v := .ref (a 1)) rfl dX4_compares_22 rfl ?_
    refine sw_iload_n (n := 26) F 2 rfl rfl dX4_compares_25 rfl ?_
    refine sw_ialoadN (n := 27) F 2 rfl (fun _ => rfl) q rfl (by omega) dX4_compares_26 rfl ?_
    refine sw_icmp_ge (n := 30) F (by omega) (by omega) (tgt := 34) dX4_compares_27 (by decide) rfl (fun c_27 => ?_) (fun c_27 => ?_)
    ·
      refine sw_iconst (n := 35) F (1) (by decide) dX4_compares_34 rfl ?_
      exact sw_iret F _ rfl (by first | rfl | exact jI_nz (by omega) | exact jI_nc (by omega)) dX4_compares_35 (by rw [hPo]; exact ⟨(by first | rw [cmpI_lt (cm_len hx hy (by omega))] | rw [cmpI_gt (cm_len hy hx (by omega))]), rfl⟩)
    ·
      refine sw_iconst (n := 31) F (-1) (by decide) dX4_compares_30 rfl ?_
      refine sw_goto F (n := 35) dX4_compares_31 (by decide) ?_
      exact sw_iret F _ rfl (by first | rfl | exact jI_nz (by omega) | exact jI_nc (by omega)) dX4_compares_35 (by rw [hPo]; exact ⟨(by first | rw [cmpI_lt (cm_len hx hy (by omega))] | rw [cmpI_gt (cm_len hy hx (by omega))]), rfl⟩)
theorem nd_X4_plus : yX4_plus.cls ≠ "java/lang/invoke/MethodHandle" ∧ yX4_plus.cls ≠ "java/lang/invoke/VarHandle" ∧ (parseMethodDescriptor yX4_plus.desc).map (fun d => d.parameters.length) = some 2 := by decide +kernel
set_option maxRecDepth 100000 in
set_option maxHeartbeats 1000000 in
theorem ct_X4_plus {g : GG} {l : Launch} (o : Nat) (a : Nat → Nat) (z : Nat → Int) (D : Nat → Nat) (M : Nat → Nat) (p : Nat) (q : Nat) (u : Nat) (v : Nat) (hp : p < 10) (hq : q < 10) (hne : p ≠ q) (hA : Dok D M) (hx : rok D M p u) (hy : rok D M q v) (hS : u + v < big) : Ct g l yX4_plus (ws_ yX4_plus cX4_plus 7 (Option.none : Option Jvm.ClassFile.FieldType)) 2 34 0 0 [.ref o, .int (jI (↑p)), .int (jI (↑q))] [tmO g o a z, aN g 0 (a 0) 2400 D, aN g 0 (a 1) 10 M] (fun v9 Ws9 => ∃ D1 : Nat → Nat, ∃ M1 : Nat → Nat, v9 = none ∧ (RU p D M D1 M1 (u + v)) ∧ Ws9 = [tmO g o a z, aN g 0 (a 0) 2400 D1, aN g 0 (a 1) 10 M1]) (nox) := by
  refine Ct.of (cc := cX4_plus) (nL := 7) (ret := (Option.none : Option Jvm.ClassFile.FieldType)) (by decide) rfl (Nat.le_of_ble_eq_true rfl) ?_
  intro x hg hl hPo hPx hmc hms F
  subst hg; subst hl
  refine SW.cast (L' := [(0, .ref o), (1, .int (jI (↑p))), (2, .int (jI (↑q)))]) ?_ rfl rfl rfl
  have hM := hA.2
  have hMp := hM p hp
  have hMq := hM q hq
  refine sw_aload_n (n := 1) F 0 (some o) rfl rfl rfl dX4_plus_0 rfl ?_
  have K37 : ∀ N37 : Nat, ∀ (D1 : Nat → Nat) (M1 : Nat → Nat) (k : Nat) (c : Nat), (PI D M p q D1 M1 k c) → ((241 - k) < N37) → SW x [tmO (xg x) o a z, aN (xg x) 0 (a 0) 2400 D1, aN (xg x) 0 (a 1) 10 M1] 0 0 37 [(0, .ref o), (1, .int (jI (↑p))), (2, .int (jI (↑q))), (3, .int (jI (↑(max (M p) (M q))))), (4, .int (jI (↑c))), (5, .int (jI (↑k)))] [] := by
    intro N37; induction N37 with
    | zero => intro D1 M1 k c hPI hmu37; omega
    | succ N37 ih37 =>
      intro D1 M1 k c hPI hmu37
      have hc1 := hPI.2.2.2.2.2.1
      have hk8 : k ≤ max (M p) (M q) + 1 := by have := hPI.2.2.2.2.2.2.2; omega
      refine sw_iload (n := 39) F 5 rfl dX4_plus_37 rfl ?_
      have K48 : (k < max (M p) (M q) ∨ 0 < c) → SW x [tmO (xg x) o a z, aN (xg x) 0 (a 0) 2400 D1, aN (xg x) 0 (a 1) 10 M1] 0 0 48 [(0, .ref o), (1, .int (jI (↑p))), (2, .int (jI (↑q))), (3, .int (jI (↑(max (M p) (M q))))), (4, .int (jI (↑c))), (5, .int (jI (↑k)))] [] := by
        intro hk
        have hlt := hPI.lt hx hy hS hk
        have hM1 := Mq_le hM hPI.2.2.1 hlt.2.2
        have hd := hPI.dgs hne hq hM
        have hD9 := hPI.1
        have d1 := dg_dv hx k
        have d2 := dg_dv hy k
        have hMk := hPI.2.2.2.1
        refine sw_iload (n := 50) F 4 rfl dX4_plus_48 rfl ?_
        refine sw_aload_n (n := 51) F 0 (some o) rfl rfl rfl dX4_plus_50 rfl ?_
        refine sw_iload_n (n := 52) F 1 rfl rfl dX4_plus_51 rfl ?_
        refine sw_iload (n := 54) F 5 rfl dX4_plus_52 rfl ?_
        refine sw_callV (n := 57) F (ct_X4_digit (g := xg x) (l := xl x) o a z D1 M1 p k hp (by first | assumption | omega) (by first | assumption | omega) (by omega)) (rcv_ob F 0 (ci := 3) rfl rfl) q4016 q4018 qs74 q120 q4019 nd_X4_digit rfl (by decide) [0, 1, 2] rfl [] rfl 0 0 ⟨by omega, by omega⟩ [.int (jI (↑c))] rfl (Nat.le_of_ble_eq_true rfl) dX4_plus_54 rfl (fun _ _ h => h.elim) (fun v Ws h => ?_)
        obtain ⟨rfl, hdg_1, rfl⟩ := h
        show SW x [tmO (xg x) o a z, aN (xg x) 0 (a 0) 2400 D1, aN (xg x) 0 (a 1) 10 M1] _ _ _ _ [.int (jI (↑(dg D1 M1 p k))), .int (jI (↑c))]
        refine sw_iadd (n := 58) F dX4_plus_57 rfl ?_
        refine sw_aload_n (n := 59) F 0 (some o) rfl rfl rfl dX4_plus_58 rfl ?_
        refine sw_iload_n (n := 60) F 2 rfl rfl dX4_plus_59 rfl ?_
        refine sw_iload (n := 62) F 5 rfl dX4_plus_60 rfl ?_
        refine sw_callV (n := 65) F (ct_X4_digit (g := xg x) (l := xl x) o a z D1 M1 q k hq (by first | assumption | omega) (by first | assumption | omega) (by omega)) (rcv_ob F 0 (ci := 3) rfl rfl) q4016 q4018 qs74 q120 q4019 nd_X4_digit rfl (by decide) [0, 1, 2] rfl [] rfl 0 0 ⟨by omega, by omega⟩ [.int (jI ((↑c) + (↑(dg D1 M1 p k))))] rfl (Nat.le_of_ble_eq_true rfl) dX4_plus_62 rfl (fun _ _ h => h.elim) (fun v Ws h => ?_)
        obtain ⟨rfl, hdg_2, rfl⟩ := h
        show SW x [tmO (xg x) o a z, aN (xg x) 0 (a 0) 2400 D1, aN (xg x) 0 (a 1) 10 M1] _ _ _ _ [.int (jI (↑(dg D1 M1 q k))), .int (jI ((↑c) + (↑(dg D1 M1 p k))))]
        refine sw_iadd (n := 66) F dX4_plus_65 rfl ?_
        refine sw_istore (n := 68) F (L2 := [(6, .int (jI (((↑c) + (↑(dg D1 M1 p k))) + (↑(dg D1 M1 q k))))), (0, .ref o), (1, .int (jI (↑p))), (2, .int (jI (↑q))), (3, .int (jI (↑(max (M p) (M q))))), (4, .int (jI (↑c))), (5, .int (jI (↑k)))]) rfl (by decide) dX4_plus_66 rfl ?_
        refine sw_iload (n := 70) F 6 rfl dX4_plus_68 rfl ?_
        refine sw_aload_n (n := 71) F 1 (some o) rfl rfl rfl dX4_plus_70 rfl ?_
        refine sw_get (n := 74) F 0 rfl (k := 1) ⟨(RX4, TX4, 50), rfl, by decide, q3800, in_X4, Or.inl rfl⟩ (v := .ref (a 1)) rfl dX4_plus_71 rfl ?_
        refine sw_iload_n (n := 75) F 2 rfl rfl dX4_plus_74 rfl ?_
        refine sw_ialoadN (n := 76) F 2 rfl (fun _ => rfl) p rfl (by omega) dX4_plus_75 rfl ?_
        refine sw_icmp_ne (n := 79) F (by omega) (by omega) (tgt := 85) dX4_plus_76 (by decide) rfl (fun c_76 => ?_) (fun c_76 => ?_)
        ·
          refine sw_aload_n (n := 86) F 1 (some o) rfl rfl rfl dX4_plus_85 rfl ?_
          refine sw_get (n := 89) F 0 rfl (k := 0) ⟨(RX4, TX4, 50), rfl, by decide, q3799, in_X4, Or.inl rfl⟩ (v := .ref (a 0)) rfl dX4_plus_86 rfl ?_
          refine sw_sipush (n := 92) F (240) (by decide) dX4_plus_89 rfl ?_
          refine sw_iload_n (n := 93) F 2 rfl rfl dX4_plus_92 rfl ?_
          refine sw_imul (n := 94) F dX4_plus_93 rfl ?_
          refine sw_iload (n := 96) F 6 rfl dX4_plus_94 rfl ?_
          refine sw_iadd (n := 97) F dX4_plus_96 rfl ?_
          refine sw_iload (n := 99) F 0 rfl dX4_plus_97 rfl ?_
          refine sw_bipush (n := 101) F (10) (by decide) dX4_plus_99 rfl ?_
          refine sw_iremP (n := 102) F (by omega) (by decide) (by decide) dX4_plus_101 rfl ?_
          refine sw_iastoreN (n := 103) F 1 rfl (fun _ => rfl) ((240 * (p)) + (k)) (by omega) (by omega) ((((c) + ((dg D1 M1 p k))) + ((dg D1 M1 q k))) % 10) (by first | omega | rfl) [tmO (xg x) o a z, aN (xg x) 0 (a 0) 2400 (va_up D1 ((240 * (p)) + (k)) ((((c) + ((dg D1 M1 p k))) + ((dg D1 M1 q k))) % 10)), aN (xg x) 0 (a 1) 10 M1] (by rfl) dX4_plus_102 rfl ?_
          refine sw_iload (n := 105) F 0 rfl dX4_plus_103 rfl ?_
          refine sw_bipush (n := 107) F (10) (by decide) dX4_plus_105 rfl ?_
          refine sw_idivP (n := 108) F (by omega) (by decide) (by decide) dX4_plus_107 rfl ?_
          refine sw_istore (n := 110) F (L2 := [(4, .int (jI ((((↑c) + (↑(dg D1 M1 p k))) + (↑(dg D1 M1 q k))) / 10))), (6, .int (jI (((↑c) + (↑(dg D1 M1 p k))) + (↑(dg D1 M1 q k))))), (0, .ref o), (1, .int (jI (↑p))), (2, .int (jI (↑q))), (3, .int (jI (↑(max (M p) (M q))))), (5, .int (jI (↑k)))]) rfl (by decide) dX4_plus_108 rfl ?_
          refine sw_iinc (n := 113) F 6 (L2 := [(5, .int (jI (↑k + 1))), (4, .int (jI ((((↑c) + (↑(dg D1 M1 p k))) + (↑(dg D1 M1 q k))) / 10))), (6, .int (jI (((↑c) + (↑(dg D1 M1 p k))) + (↑(dg D1 M1 q k))))), (0, .ref o), (1, .int (jI (↑p))), (2, .int (jI (↑q))), (3, .int (jI (↑(max (M p) (M q)))))]) rfl rfl (by decide) dX4_plus_110 rfl ?_
          refine sw_goto F (n := 37) dX4_plus_113 (by decide) ?_
          refine sw_loc [3, 4, 5, 6, 1, 0] (L2 := [(0, .ref o), (1, .int (jI (↑p))), (2, .int (jI (↑q))), (3, .int (jI (↑(max (M p) (M q))))), (4, .int (jI ((((↑c) + (↑(dg D1 M1 p k))) + (↑(dg D1 M1 q k))) / 10))), (5, .int (jI (↑k + 1)))]) rfl ?_
          rw [show ((((↑c) + (↑(dg D1 M1 p k))) + (↑(dg D1 M1 q k))) / 10 : Int) = ↑((((c) + ((dg D1 M1 p k))) + ((dg D1 M1 q k))) / 10) by omega]
          exact ih37 (va_up D1 ((240 * (p)) + (k)) ((((c) + ((dg D1 M1 p k))) + ((dg D1 M1 q k))) % 10)) M1 (k + 1) ((((c) + ((dg D1 M1 p k))) + ((dg D1 M1 q k))) / 10) (by exact hPI.step hx hy hS hk (by omega) (fun r hr => by rw [up_ne hr]; try exact up_ne (by omega)) up_s (fun r hr => by first | rfl | exact up_ne hr) (by first | rw [up_s, if_pos (by omega)] | rw [if_neg (by omega)])) (by omega)
        ·
          refine sw_aload_n (n := 80) F 1 (some o) rfl rfl rfl dX4_plus_79 rfl ?_
          refine sw_iload_n (n := 81) F 2 rfl rfl dX4_plus_80 rfl ?_
          refine sw_iconst (n := 82) F (0) (by decide) dX4_plus_81 rfl ?_
          refine sw_callV (n := 85) F (ct_X4_adds (g := xg x) (l := xl x) o a z D1 M1 p 0 hp (by first | assumption | omega)) (rcv_ob F 0 (ci := 3) rfl rfl) q4008 q4010 qs72 q120 q4011 nd_X4_adds rfl (by decide) [0, 1, 2] rfl [] rfl 0 0 ⟨by omega, by omega⟩ [] rfl (Nat.le_of_ble_eq_true rfl) dX4_plus_82 rfl (fun _ _ h => h.elim) (fun v Ws h => ?_)
          obtain ⟨rfl, rfl⟩ := h
          show SW x [tmO (xg x) o a z, aN (xg x) 0 (a 0) 2400 (va_up D1 (240 * p + M1 p) 0), aN (xg x) 0 (a 1) 10 (va_up M1 p (M1 p + 1))] _ _ _ _ []
          refine sw_aload_n (n := 86) F 1 (some o) rfl rfl rfl dX4_plus_85 rfl ?_
          refine sw_get (n := 89) F 0 rfl (k := 0) ⟨(RX4, TX4, 50), rfl, by decide, q3799, in_X4, Or.inl rfl⟩ (v := .ref (a 0)) rfl dX4_plus_86 rfl ?_
          refine sw_sipush (n := 92) F (240) (by decide) dX4_plus_89 rfl ?_
          refine sw_iload_n (n := 93) F 2 rfl rfl dX4_plus_92 rfl ?_
          refine sw_imul (n := 94) F dX4_plus_93 rfl ?_
          refine sw_iload (n := 96) F 6 rfl dX4_plus_94 rfl ?_
          refine sw_iadd (n := 97) F dX4_plus_96 rfl ?_
          refine sw_iload (n := 99) F 0 rfl dX4_plus_97 rfl ?_
          refine sw_bipush (n := 101) F (10) (by decide) dX4_plus_99 rfl ?_
          refine sw_iremP (n := 102) F (by omega) (by decide) (by decide) dX4_plus_101 rfl ?_
          refine sw_iastoreN (n := 103) F 1 rfl (fun _ => rfl) ((240 * (p)) + (k)) (by omega) (by omega) ((((c) + ((dg D1 M1 p k))) + ((dg D1 M1 q k))) % 10) (by first | omega | rfl) [tmO (xg x) o a z, aN (xg x) 0 (a 0) 2400 (va_up (va_up D1 (240 * p + M1 p) 0) ((240 * (p)) + (k)) ((((c) + ((dg D1 M1 p k))) + ((dg D1 M1 q k))) % 10)), aN (xg x) 0 (a 1) 10 (va_up M1 p (M1 p + 1))] (by rfl) dX4_plus_102 rfl ?_
          refine sw_iload (n := 105) F 0 rfl dX4_plus_103 rfl ?_
          refine sw_bipush (n := 107) F (10) (by decide) dX4_plus_105 rfl ?_
          refine sw_idivP (n := 108) F (by omega) (by decide) (by decide) dX4_plus_107 rfl ?_
          refine sw_istore (n := 110) F (L2 := [(4, .int (jI ((((↑c) + (↑(dg D1 M1 p k))) + (↑(dg D1 M1 q k))) / 10))), (6, .int (jI (((↑c) + (↑(dg D1 M1 p k))) + (↑(dg D1 M1 q k))))), (0, .ref o), (1, .int (jI (↑p))), (2, .int (jI (↑q))), (3, .int (jI (↑(max (M p) (M q))))), (5, .int (jI (↑k)))]) rfl (by decide) dX4_plus_108 rfl ?_
          refine sw_iinc (n := 113) F 6 (L2 := [(5, .int (jI (↑k + 1))), (4, .int (jI ((((↑c) + (↑(dg D1 M1 p k))) + (↑(dg D1 M1 q k))) / 10))), (6, .int (jI (((↑c) + (↑(dg D1 M1 p k))) + (↑(dg D1 M1 q k))))), (0, .ref o), (1, .int (jI (↑p))), (2, .int (jI (↑q))), (3, .int (jI (↑(max (M p) (M q)))))]) rfl rfl (by decide) dX4_plus_110 rfl ?_
          refine sw_goto F (n := 37) dX4_plus_113 (by decide) ?_
          refine sw_loc [3, 4, 5, 6, 1, 0] (L2 := [(0, .ref o), (1, .int (jI (↑p))), (2, .int (jI (↑q))), (3, .int (jI (↑(max (M p) (M q))))), (4, .int (jI ((((↑c) + (↑(dg D1 M1 p k))) + (↑(dg D1 M1 q k))) / 10))), (5, .int (jI (↑k + 1)))]) rfl ?_
          rw [show ((((↑c) + (↑(dg D1 M1 p k))) + (↑(dg D1 M1 q k))) / 10 : Int) = ↑((((c) + ((dg D1 M1 p k))) + ((dg D1 M1 q k))) / 10) by omega]
          exact ih37 (va_up (va_up D1 (240 * p + M1 p) 0) ((240 * (p)) + (k)) ((((c) + ((dg D1 M1 p k))) + ((dg D1 M1 q k))) % 10)) (va_up M1 p (M1 p + 1)) (k + 1) ((((c) + ((dg D1 M1 p k))) + ((dg D1 M1 q k))) / 10) (by exact hPI.step hx hy hS hk (by omega) (fun r hr => by rw [up_ne hr]; try exact up_ne (by omega)) up_s (fun r hr => by first | rfl | exact up_ne hr) (by first | rw [up_s, if_pos (by omega)] | rw [if_neg (by omega)])) (by omega)
      refine sw_iload_n (n := 40) F 3 rfl rfl dX4_plus_39 rfl ?_
      refine sw_icmp_lt (n := 43) F (by omega) (by omega) (tgt := 48) dX4_plus_40 (by decide) rfl (fun c_40 => ?_) (fun c_40 => ?_)
      ·
        exact K48  (by omega)
      ·
        refine sw_iload (n := 45) F 4 rfl dX4_plus_43 rfl ?_
        refine sw_if_le (n := 48) F (by omega) (tgt := 116) dX4_plus_45 (by decide) rfl (fun c_45 => ?_) (fun c_45 => ?_)
        ·
          exact sw_vret F rfl dX4_plus_116 (by rw [hPo]; exact ⟨D1, M1, rfl, (by exact hPI.done hA hx hy hS (by omega) (by omega)), rfl⟩)
        ·
          exact K48  (by omega)
  refine sw_get (n := 4) F 0 rfl (k := 1) ⟨(RX4, TX4, 50), rfl, by decide, q3800, in_X4, Or.inl rfl⟩ (v := .ref (a 1)) rfl dX4_plus_1 rfl ?_
  refine sw_iload_n (n := 5) F 1 rfl rfl dX4_plus_4 rfl ?_
  refine sw_ialoadN (n := 6) F 2 rfl (fun _ => rfl) p rfl (by omega) dX4_plus_5 rfl ?_
  refine sw_aload_n (n := 7) F 0 (some o) rfl rfl rfl dX4_plus_6 rfl ?_
  refine sw_get (n := 10) F 0 rfl (k := 1) ⟨(RX4, TX4, 50), rfl, by decide, q3800, in_X4, Or.inl rfl⟩ (v := .ref (a 1)) rfl dX4_plus_7 rfl ?_
  refine sw_iload_n (n := 11) F 2 rfl rfl dX4_plus_10 rfl ?_
  refine sw_ialoadN (n := 12) F 2 rfl (fun _ => rfl) q rfl (by omega) dX4_plus_11 rfl ?_
  refine sw_icmp_le (n := 15) F (by omega) (by omega) (tgt := 24) dX4_plus_12 (by decide) rfl (fun c_12 => ?_) (fun c_12 => ?_)
  ·
    refine sw_aload_n (n := 25) F 0 (some o) rfl rfl rfl dX4_plus_24 rfl ?_
    refine sw_get (n := 28) F 0 rfl (k := 1) ⟨(RX4, TX4, 50), rfl, by decide, q3800, in_X4, Or.inl rfl⟩ (v := .ref (a 1)) rfl dX4_plus_25 rfl ?_
    refine sw_iload_n (n := 29) F 2 rfl rfl dX4_plus_28 rfl ?_
    refine sw_ialoadN (n := 30) F 2 rfl (fun _ => rfl) q rfl (by omega) dX4_plus_29 rfl ?_
    refine sw_istore_n (n := 31) F (L2 := [(3, .int (jI (↑(M q)))), (0, .ref o), (1, .int (jI (↑p))), (2, .int (jI (↑q)))]) rfl (by decide) rfl dX4_plus_30 rfl ?_
    refine sw_iconst (n := 32) F (0) (by decide) dX4_plus_31 rfl ?_
    refine sw_istore (n := 34) F (L2 := [(4, .int (jI 0)), (3, .int (jI (↑(M q)))), (0, .ref o), (1, .int (jI (↑p))), (2, .int (jI (↑q)))]) rfl (by decide) dX4_plus_32 rfl ?_
    refine sw_iconst (n := 35) F (0) (by decide) dX4_plus_34 rfl ?_
    refine sw_istore (n := 37) F (L2 := [(5, .int (jI 0)), (4, .int (jI 0)), (3, .int (jI (↑(M q)))), (0, .ref o), (1, .int (jI (↑p))), (2, .int (jI (↑q)))]) rfl (by decide) dX4_plus_35 rfl ?_
    refine sw_loc [3, 4, 5, 2, 1, 0] (L2 := [(0, .ref o), (1, .int (jI (↑p))), (2, .int (jI (↑q))), (3, .int (jI (↑(M q)))), (4, .int (jI 0)), (5, .int (jI 0))]) rfl ?_
    rw [show (↑(M q) : Int) = ↑(max (M p) (M q)) by omega]
    exact K37 _ D M 0 0 (by exact PI.start hA.1) (Nat.lt_succ_self _)
  ·
    refine sw_aload_n (n := 16) F 0 (some o) rfl rfl rfl dX4_plus_15 rfl ?_
    refine sw_get (n := 19) F 0 rfl (k := 1) ⟨(RX4, TX4, 50), rfl, by decide, q3800, in_X4, Or.inl rfl⟩ (v := .ref (a 1)) rfl dX4_plus_16 rfl ?_
    refine sw_iload_n (n := 20) F 1 rfl rfl dX4_plus_19 rfl ?_
    refine sw_ialoadN (n := 21) F 2 rfl (fun _ => rfl) p rfl (by omega) dX4_plus_20 rfl ?_
    refine sw_goto F (n := 30) dX4_plus_21 (by decide) ?_
    refine sw_istore_n (n := 31) F (L2 := [(3, .int (jI (↑(M p)))), (0, .ref o), (1, .int (jI (↑p))), (2, .int (jI (↑q)))]) rfl (by decide) rfl dX4_plus_30 rfl ?_
    refine sw_iconst (n := 32) F (0) (by decide) dX4_plus_31 rfl ?_
    refine sw_istore (n := 34) F (L2 := [(4, .int (jI 0)), (3, .int (jI (↑(M p)))), (0, .ref o), (1, .int (jI (↑p))), (2, .int (jI (↑q)))]) rfl (by decide) dX4_plus_32 rfl ?_
    refine sw_iconst (n := 35) F (0) (by decide) dX4_plus_34 rfl ?_
    refine sw_istore (n := 37) F (L2 := [(5, .int (jI 0)), (4, .int (jI 0)), (3, .int (jI (↑(M p)))), (0, .ref o), (1, .int (jI (↑p))), (2, .int (jI (↑q)))]) rfl (by decide) dX4_plus_35 rfl ?_
    refine sw_loc [3, 4, 5, 2, 1, 0] (L2 := [(0, .ref o), (1, .int (jI (↑p))), (2, .int (jI (↑q))), (3, .int (jI (↑(M p)))), (4, .int (jI 0)), (5, .int (jI 0))]) rfl ?_
    rw [show (↑(M p) : Int) = ↑(max (M p) (M q)) by omega]
    exact K37 _ D M 0 0 (by exact PI.start hA.1) (Nat.lt_succ_self _)
theorem nd_X4_less : yX4_less.cls ≠ "java/lang/invoke/MethodHandle" ∧ yX4_less.cls ≠ "java/lang/invoke/VarHandle" ∧ (parseMethodDescriptor yX4_less.desc).map (fun d => d.parameters.length) = some 2 := by decide +kernel
set_option maxRecDepth 100000 in
set_option maxHeartbeats 1000000 in
theorem ct_X4_less {g : GG} {l : Launch} (o : Nat) (a : Nat → Nat) (z : Nat → Int) (D : Nat → Nat) (M : Nat → Nat) (p : Nat) (q : Nat) (u : Nat) (v : Nat) (hp : p < 10) (hq : q < 10) (hne : p ≠ q) (hA : Dok D M) (hx : rok D M p u) (hy : rok D M q v) (hle : v ≤ u) : Ct g l yX4_less (ws_ yX4_less cX4_less 6 (Option.none : Option Jvm.ClassFile.FieldType)) 3 55 0 0 [.ref o, .int (jI (↑p)), .int (jI (↑q))] [tmO g o a z, aN g 0 (a 0) 2400 D, aN g 0 (a 1) 10 M] (fun v9 Ws9 => ∃ D1 : Nat → Nat, ∃ M1 : Nat → Nat, v9 = none ∧ (RU p D M D1 M1 (u - v)) ∧ Ws9 = [tmO g o a z, aN g 0 (a 0) 2400 D1, aN g 0 (a 1) 10 M1]) (nox) := by
  refine Ct.of (cc := cX4_less) (nL := 6) (ret := (Option.none : Option Jvm.ClassFile.FieldType)) (by decide) rfl (Nat.le_of_ble_eq_true rfl) ?_
  intro x hg hl hPo hPx hmc hms F
  subst hg; subst hl
  refine SW.cast (L' := [(0, .ref o), (1, .int (jI (↑p))), (2, .int (jI (↑q)))]) ?_ rfl rfl rfl
  have hM := hA.2
  have hMp := hM p hp
  have hMq := hM q hq
  refine sw_iconst (n := 1) F (0) (by decide) dX4_less_0 rfl ?_
  refine sw_istore_n (n := 2) F (L2 := [(3, .int (jI 0)), (0, .ref o), (1, .int (jI (↑p))), (2, .int (jI (↑q)))]) rfl (by decide) rfl dX4_less_1 rfl ?_
  refine sw_iconst (n := 3) F (0) (by decide) dX4_less_2 rfl ?_
  refine sw_istore (n := 5) F (L2 := [(4, .int (jI 0)), (3, .int (jI 0)), (0, .ref o), (1, .int (jI (↑p))), (2, .int (jI (↑q)))]) rfl (by decide) dX4_less_3 rfl ?_
  have K5 : ∀ N5 : Nat, ∀ (D1 : Nat → Nat) (k : Nat) (c : Nat), (LE D M p q D1 k c) → ((M p - k) < N5) → SW x [tmO (xg x) o a z, aN (xg x) 0 (a 0) 2400 D1, aN (xg x) 0 (a 1) 10 M] 0 0 5 [(0, .ref o), (1, .int (jI (↑p))), (2, .int (jI (↑q))), (3, .int (jI (↑c))), (4, .int (jI (↑k)))] [] := by
    intro N5; induction N5 with
    | zero => intro D1 k c hLE hmu5; omega
    | succ N5 ih5 =>
      intro D1 k c hLE hmu5
      have hw1 := hLE.2.2.2.1
      have hkM := hLE.2.2.2.2.1
      have hD9 := hLE.1
      refine sw_iload (n := 7) F 4 rfl dX4_less_5 rfl ?_
      refine sw_aload_n (n := 8) F 0 (some o) rfl rfl rfl dX4_less_7 rfl ?_
      refine sw_get (n := 11) F 0 rfl (k := 1) ⟨(RX4, TX4, 50), rfl, by decide, q3800, in_X4, Or.inl rfl⟩ (v := .ref (a 1)) rfl dX4_less_8 rfl ?_
      refine sw_iload_n (n := 12) F 1 rfl rfl dX4_less_11 rfl ?_
      refine sw_ialoadN (n := 13) F 2 rfl (fun _ => rfl) p rfl (by omega) dX4_less_12 rfl ?_
      refine sw_icmp_ge (n := 16) F (by omega) (by omega) (tgt := 80) dX4_less_13 (by decide) rfl (fun c_13 => ?_) (fun c_13 => ?_)
      ·
        refine sw_aload_n (n := 81) F 0 (some o) rfl rfl rfl dX4_less_80 rfl ?_
        refine sw_iload_n (n := 82) F 1 rfl rfl dX4_less_81 rfl ?_
        refine sw_callV (n := 85) F (ct_X4_trims (g := xg x) (l := xl x) o a z D1 M p hp (by first | assumption | omega) (by first | assumption | omega)) (rcv_ob F 0 (ci := 3) rfl rfl) q4075 q4077 qs83 q120 q4078 nd_X4_trims rfl (by decide) [0, 1, 2] rfl [] rfl 0 0 ⟨by omega, by omega⟩ [] rfl (Nat.le_of_ble_eq_true rfl) dX4_less_82 rfl (fun _ _ h => h.elim) (fun v Ws h => ?_)
        obtain ⟨M1_1, rfl, hq_2, hle_3, hz_4, ht_5, rfl⟩ := h
        show SW x [tmO (xg x) o a z, aN (xg x) 0 (a 0) 2400 D1, aN (xg x) 0 (a 1) 10 M1_1] _ _ _ _ []
        exact sw_vret F rfl dX4_less_85 (by rw [hPo]; exact ⟨D1, M1_1, rfl, (by exact hLE.done hA hx hy hle (by omega) ‹_› ‹_› ‹_› ‹_›), rfl⟩)
      ·
        have hd := hLE.dgs hne hM hq (by omega)
        have d1 := dg_dv hx k
        have d2 := dg_dv hy k
        refine sw_aload_n (n := 17) F 0 (some o) rfl rfl rfl dX4_less_16 rfl ?_
        refine sw_iload_n (n := 18) F 1 rfl rfl dX4_less_17 rfl ?_
        refine sw_iload (n := 20) F 4 rfl dX4_less_18 rfl ?_
        refine sw_callV (n := 23) F (ct_X4_digit (g := xg x) (l := xl x) o a z D1 M p k hp (by first | assumption | omega) (by first | assumption | omega) (by first | assumption | omega)) (rcv_ob F 0 (ci := 3) rfl rfl) q4016 q4018 qs74 q120 q4019 nd_X4_digit rfl (by decide) [0, 1, 2] rfl [] rfl 0 0 ⟨by omega, by omega⟩ [] rfl (Nat.le_of_ble_eq_true rfl) dX4_less_20 rfl (fun _ _ h => h.elim) (fun v Ws h => ?_)
        obtain ⟨rfl, hdg_6, rfl⟩ := h
        show SW x [tmO (xg x) o a z, aN (xg x) 0 (a 0) 2400 D1, aN (xg x) 0 (a 1) 10 M] _ _ _ _ [.int (jI (↑(dg D1 M p k)))]
        refine sw_iload_n (n := 24) F 3 rfl rfl dX4_less_23 rfl ?_
        refine sw_isub (n := 25) F dX4_less_24 rfl ?_
        refine sw_aload_n (n := 26) F 0 (some o) rfl rfl rfl dX4_less_25 rfl ?_
        refine sw_iload_n (n := 27) F 2 rfl rfl dX4_less_26 rfl ?_
        refine sw_iload (n := 29) F 4 rfl dX4_less_27 rfl ?_
        refine sw_callV (n := 32) F (ct_X4_digit (g := xg x) (l := xl x) o a z D1 M q k hq (by first | assumption | omega) (by first | assumption | omega) (by first | assumption | omega)) (rcv_ob F 0 (ci := 3) rfl rfl) q4016 q4018 qs74 q120 q4019 nd_X4_digit rfl (by decide) [0, 1, 2] rfl [] rfl 0 0 ⟨by omega, by omega⟩ [.int (jI ((↑(dg D1 M p k)) - (↑c)))] rfl (Nat.le_of_ble_eq_true rfl) dX4_less_29 rfl (fun _ _ h => h.elim) (fun v Ws h => ?_)
        obtain ⟨rfl, hdg_7, rfl⟩ := h
        show SW x [tmO (xg x) o a z, aN (xg x) 0 (a 0) 2400 D1, aN (xg x) 0 (a 1) 10 M] _ _ _ _ [.int (jI (↑(dg D1 M q k))), .int (jI ((↑(dg D1 M p k)) - (↑c)))]
        refine sw_isub (n := 33) F dX4_less_32 rfl ?_
        refine sw_istore (n := 35) F (L2 := [(5, .int (jI (((↑(dg D1 M p k)) - (↑c)) - (↑(dg D1 M q k))))), (0, .ref o), (1, .int (jI (↑p))), (2, .int (jI (↑q))), (3, .int (jI (↑c))), (4, .int (jI (↑k)))]) rfl (by decide) dX4_less_33 rfl ?_
        refine sw_iload (n := 37) F 0 rfl dX4_less_35 rfl ?_
        refine sw_if_ge (n := 40) F (by omega) (tgt := 44) dX4_less_37 (by decide) rfl (fun c_37 => ?_) (fun c_37 => ?_)
        ·
          refine sw_iconst (n := 45) F (0) (by decide) dX4_less_44 rfl ?_
          refine sw_istore_n (n := 46) F (L2 := [(3, .int (jI 0)), (5, .int (jI (((↑(dg D1 M p k)) - (↑c)) - (↑(dg D1 M q k))))), (0, .ref o), (1, .int (jI (↑p))), (2, .int (jI (↑q))), (4, .int (jI (↑k)))]) rfl (by decide) rfl dX4_less_45 rfl ?_
          refine sw_aload_n (n := 47) F 2 (some o) rfl rfl rfl dX4_less_46 rfl ?_
          refine sw_get (n := 50) F 0 rfl (k := 0) ⟨(RX4, TX4, 50), rfl, by decide, q3799, in_X4, Or.inl rfl⟩ (v := .ref (a 0)) rfl dX4_less_47 rfl ?_
          refine sw_sipush (n := 53) F (240) (by decide) dX4_less_50 rfl ?_
          refine sw_iload_n (n := 54) F 3 rfl rfl dX4_less_53 rfl ?_
          refine sw_imul (n := 55) F dX4_less_54 rfl ?_
          refine sw_iload (n := 57) F 5 rfl dX4_less_55 rfl ?_
          refine sw_iadd (n := 58) F dX4_less_57 rfl ?_
          refine sw_iload (n := 60) F 1 rfl dX4_less_58 rfl ?_
          refine sw_if_ge (n := 63) F (by omega) (tgt := 71) dX4_less_60 (by decide) rfl (fun c_60 => ?_) (fun c_60 => ?_)
          ·
            refine sw_iload (n := 73) F 1 rfl dX4_less_71 rfl ?_
            refine sw_iastoreN (n := 74) F 1 rfl (fun _ => rfl) ((240 * (p)) + (k)) (by omega) (by omega) ((((↑(dg D1 M p k)) - (↑c)) - (↑(dg D1 M q k)) : Int).toNat) (by first | omega | rfl) [tmO (xg x) o a z, aN (xg x) 0 (a 0) 2400 (va_up D1 ((240 * (p)) + (k)) ((((↑(dg D1 M p k)) - (↑c)) - (↑(dg D1 M q k)) : Int).toNat)), aN (xg x) 0 (a 1) 10 M] (by simp [List.set]) dX4_less_73 rfl ?_
            refine sw_iinc (n := 77) F 5 (L2 := [(4, .int (jI (↑k + 1))), (3, .int (jI 0)), (5, .int (jI (((↑(dg D1 M p k)) - (↑c)) - (↑(dg D1 M q k))))), (0, .ref o), (1, .int (jI (↑p))), (2, .int (jI (↑q)))]) rfl rfl (by decide) dX4_less_74 rfl ?_
            refine sw_goto F (n := 5) dX4_less_77 (by decide) ?_
            refine sw_loc [3, 4, 5, 1, 0] (L2 := [(0, .ref o), (1, .int (jI (↑p))), (2, .int (jI (↑q))), (3, .int (jI 0)), (4, .int (jI (↑k + 1)))]) rfl ?_
            exact ih5 (va_up D1 ((240 * (p)) + (k)) ((((↑(dg D1 M p k)) - (↑c)) - (↑(dg D1 M q k)) : Int).toNat)) (k + 1) 0 (by exact hLE.step (by omega) (by omega) (by omega) (by omega) (by omega)) (by omega)
          ·
            refine sw_iload (n := 65) F 1 rfl dX4_less_63 rfl ?_
            refine sw_bipush (n := 67) F (10) (by decide) dX4_less_65 rfl ?_
            refine sw_iadd (n := 68) F dX4_less_67 rfl ?_
            refine sw_goto F (n := 73) dX4_less_68 (by decide) ?_
            refine sw_iastoreN (n := 74) F 1 rfl (fun _ => rfl) ((240 * (p)) + (k)) (by omega) (by omega) (((((↑(dg D1 M p k)) - (↑c)) - (↑(dg D1 M q k))) + 10 : Int).toNat) (by first | omega | rfl) [tmO (xg x) o a z, aN (xg x) 0 (a 0) 2400 (va_up D1 ((240 * (p)) + (k)) (((((↑(dg D1 M p k)) - (↑c)) - (↑(dg D1 M q k))) + 10 : Int).toNat)), aN (xg x) 0 (a 1) 10 M] (by simp [List.set]) dX4_less_73 rfl ?_
            refine sw_iinc (n := 77) F 5 (L2 := [(4, .int (jI (↑k + 1))), (3, .int (jI 0)), (5, .int (jI (((↑(dg D1 M p k)) - (↑c)) - (↑(dg D1 M q k))))), (0, .ref o), (1, .int (jI (↑p))), (2, .int (jI (↑q)))]) rfl rfl (by decide) dX4_less_74 rfl ?_
            refine sw_goto F (n := 5) dX4_less_77 (by decide) ?_
            refine sw_loc [3, 4, 5, 1, 0] (L2 := [(0, .ref o), (1, .int (jI (↑p))), (2, .int (jI (↑q))), (3, .int (jI 0)), (4, .int (jI (↑k + 1)))]) rfl ?_
            exact ih5 (va_up D1 ((240 * (p)) + (k)) (((((↑(dg D1 M p k)) - (↑c)) - (↑(dg D1 M q k))) + 10 : Int).toNat)) (k + 1) 0 (by exact hLE.step (by omega) (by omega) (by omega) (by omega) (by omega)) (by omega)
        ·
          refine sw_iconst (n := 41) F (1) (by decide) dX4_less_40 rfl ?_
          refine sw_goto F (n := 45) dX4_less_41 (by decide) ?_
          refine sw_istore_n (n := 46) F (L2 := [(3, .int (jI 1)), (5, .int (jI (((↑(dg D1 M p k)) - (↑c)) - (↑(dg D1 M q k))))), (0, .ref o), (1, .int (jI (↑p))), (2, .int (jI (↑q))), (4, .int (jI (↑k)))]) rfl (by decide) rfl dX4_less_45 rfl ?_
          refine sw_aload_n (n := 47) F 2 (some o) rfl rfl rfl dX4_less_46 rfl ?_
          refine sw_get (n := 50) F 0 rfl (k := 0) ⟨(RX4, TX4, 50), rfl, by decide, q3799, in_X4, Or.inl rfl⟩ (v := .ref (a 0)) rfl dX4_less_47 rfl ?_
          refine sw_sipush (n := 53) F (240) (by decide) dX4_less_50 rfl ?_
          refine sw_iload_n (n := 54) F 3 rfl rfl dX4_less_53 rfl ?_
          refine sw_imul (n := 55) F dX4_less_54 rfl ?_
          refine sw_iload (n := 57) F 5 rfl dX4_less_55 rfl ?_
          refine sw_iadd (n := 58) F dX4_less_57 rfl ?_
          refine sw_iload (n := 60) F 1 rfl dX4_less_58 rfl ?_
          refine sw_if_ge (n := 63) F (by omega) (tgt := 71) dX4_less_60 (by decide) rfl (fun c_60 => ?_) (fun c_60 => ?_)
          ·
            refine sw_iload (n := 73) F 1 rfl dX4_less_71 rfl ?_
            refine sw_iastoreN (n := 74) F 1 rfl (fun _ => rfl) ((240 * (p)) + (k)) (by omega) (by omega) ((((↑(dg D1 M p k)) - (↑c)) - (↑(dg D1 M q k)) : Int).toNat) (by first | omega | rfl) [tmO (xg x) o a z, aN (xg x) 0 (a 0) 2400 (va_up D1 ((240 * (p)) + (k)) ((((↑(dg D1 M p k)) - (↑c)) - (↑(dg D1 M q k)) : Int).toNat)), aN (xg x) 0 (a 1) 10 M] (by simp [List.set]) dX4_less_73 rfl ?_
            refine sw_iinc (n := 77) F 5 (L2 := [(4, .int (jI (↑k + 1))), (3, .int (jI 1)), (5, .int (jI (((↑(dg D1 M p k)) - (↑c)) - (↑(dg D1 M q k))))), (0, .ref o), (1, .int (jI (↑p))), (2, .int (jI (↑q)))]) rfl rfl (by decide) dX4_less_74 rfl ?_
            refine sw_goto F (n := 5) dX4_less_77 (by decide) ?_
            refine sw_loc [3, 4, 5, 1, 0] (L2 := [(0, .ref o), (1, .int (jI (↑p))), (2, .int (jI (↑q))), (3, .int (jI 1)), (4, .int (jI (↑k + 1)))]) rfl ?_
            exact ih5 (va_up D1 ((240 * (p)) + (k)) ((((↑(dg D1 M p k)) - (↑c)) - (↑(dg D1 M q k)) : Int).toNat)) (k + 1) 1 (by exact hLE.step (by omega) (by omega) (by omega) (by omega) (by omega)) (by omega)
          ·
            refine sw_iload (n := 65) F 1 rfl dX4_less_63 rfl ?_
            refine sw_bipush (n := 67) F (10) (by decide) dX4_less_65 rfl ?_
            refine sw_iadd (n := 68) F dX4_less_67 rfl ?_
            refine sw_goto F (n := 73) dX4_less_68 (by decide) ?_
            refine sw_iastoreN (n := 74) F 1 rfl (fun _ => rfl) ((240 * (p)) + (k)) (by omega) (by omega) (((((↑(dg D1 M p k)) - (↑c)) - (↑(dg D1 M q k))) + 10 : Int).toNat) (by first | omega | rfl) [tmO (xg x) o a z, aN (xg x) 0 (a 0) 2400 (va_up D1 ((240 * (p)) + (k)) (((((↑(dg D1 M p k)) - (↑c)) - (↑(dg D1 M q k))) + 10 : Int).toNat)), aN (xg x) 0 (a 1) 10 M] (by simp [List.set]) dX4_less_73 rfl ?_
            refine sw_iinc (n := 77) F 5 (L2 := [(4, .int (jI (↑k + 1))), (3, .int (jI 1)), (5, .int (jI (((↑(dg D1 M p k)) - (↑c)) - (↑(dg D1 M q k))))), (0, .ref o), (1, .int (jI (↑p))), (2, .int (jI (↑q)))]) rfl rfl (by decide) dX4_less_74 rfl ?_
            refine sw_goto F (n := 5) dX4_less_77 (by decide) ?_
            refine sw_loc [3, 4, 5, 1, 0] (L2 := [(0, .ref o), (1, .int (jI (↑p))), (2, .int (jI (↑q))), (3, .int (jI 1)), (4, .int (jI (↑k + 1)))]) rfl ?_
            exact ih5 (va_up D1 ((240 * (p)) + (k)) (((((↑(dg D1 M p k)) - (↑c)) - (↑(dg D1 M q k))) + 10 : Int).toNat)) (k + 1) 1 (by exact hLE.step (by omega) (by omega) (by omega) (by omega) (by omega)) (by omega)
  refine sw_loc [2, 3, 4, 1, 0] (L2 := [(0, .ref o), (1, .int (jI (↑p))), (2, .int (jI (↑q))), (3, .int (jI 0)), (4, .int (jI 0))]) rfl ?_
  exact K5 _ D 0 0 (by exact LE.start hA.1) (Nat.lt_succ_self _)
theorem nd_X4_value : yX4_value.cls ≠ "java/lang/invoke/MethodHandle" ∧ yX4_value.cls ≠ "java/lang/invoke/VarHandle" ∧ (parseMethodDescriptor yX4_value.desc).map (fun d => d.parameters.length) = some 1 := by decide +kernel
set_option maxRecDepth 100000 in
set_option maxHeartbeats 1000000 in
theorem ct_X4_value {g : GG} {l : Launch} (o : Nat) (a : Nat → Nat) (z : Nat → Int) (D : Nat → Nat) (M : Nat → Nat) (row : Nat) (u : Nat) (hr : row < 10) (hA : Dok D M) (hx : rok D M row u) : Ct g l yX4_value (ws_ yX4_value cX4_value 5 (Option.some Jvm.ClassFile.FieldType.long)) 2 34 0 0 [.ref o, .int (jI (↑row))] [tmO g o a z, aN g 0 (a 0) 2400 D, aN g 0 (a 1) 10 M] (fun v9 Ws9 => v9 = some (.long (jL (↑u))) ∧ Ws9 = [tmO g o a z, aN g 0 (a 0) 2400 D, aN g 0 (a 1) 10 M]) (nox) := by
  refine Ct.of (cc := cX4_value) (nL := 5) (ret := (Option.some Jvm.ClassFile.FieldType.long)) (by decide) rfl (Nat.le_of_ble_eq_true rfl) ?_
  intro x hg hl hPo hPx hmc hms F
  subst hg; subst hl
  refine SW.cast (L' := [(0, .ref o), (1, .int (jI (↑row)))]) ?_ rfl rfl rfl
  have hM := hA.2
  have hMr := hM row hr
  have hD9 := hA.1
  refine sw_lconst (n := 1) F 0 (by decide) dX4_value_0 rfl ?_
  refine sw_lstore_n (n := 2) F (L2 := [(2, .long (jL 0)), (0, .ref o), (1, .int (jI (↑row)))]) rfl (by decide) rfl dX4_value_1 rfl ?_
  refine sw_aload_n (n := 3) F 1 (some o) rfl rfl rfl dX4_value_2 rfl ?_
  refine sw_get (n := 6) F 0 rfl (k := 1) ⟨(RX4, TX4, 50), rfl, by decide, q3800, in_X4, Or.inl rfl⟩ (v := .ref (a 1)) rfl dX4_value_3 rfl ?_
  refine sw_iload_n (n := 7) F 2 rfl rfl dX4_value_6 rfl ?_
  refine sw_ialoadN (n := 8) F 2 rfl (fun _ => rfl) row rfl (by omega) dX4_value_7 rfl ?_
  refine sw_iconst (n := 9) F (1) (by decide) dX4_value_8 rfl ?_
  refine sw_isub (n := 10) F dX4_value_9 rfl ?_
  refine sw_istore (n := 12) F (L2 := [(4, .int (jI ((↑(M row)) - 1))), (2, .long (jL 0)), (0, .ref o), (1, .int (jI (↑row)))]) rfl (by decide) dX4_value_10 rfl ?_
  have K12 : ∀ N12 : Nat, ∀ (n : Nat) (w : Nat), (n ≤ M row) → (w * 10 ^ n + dv D (240 * row) n = u) → ((n) < N12) → SW x [tmO (xg x) o a z, aN (xg x) 0 (a 0) 2400 D, aN (xg x) 0 (a 1) 10 M] 0 0 12 [(0, .ref o), (1, .int (jI (↑row))), (2, .long (jL (↑w))), (4, .int (jI (↑n - 1)))] [] := by
    intro N12; induction N12 with
    | zero => intro n w hn hw hmu12; omega
    | succ N12 ih12 =>
      intro n w hn hw hmu12
      refine sw_iload (n := 14) F 3 rfl dX4_value_12 rfl ?_
      refine sw_if_lt (n := 17) F (by omega) (tgt := 38) dX4_value_14 (by decide) rfl (fun c_14 => ?_) (fun c_14 => ?_)
      ·
        refine sw_lload_n (n := 39) F 2 rfl rfl dX4_value_38 rfl ?_
        exact sw_lret F rfl dX4_value_39 (by rw [hPo]; exact ⟨(by rw [val_end (by omega) hw]), rfl⟩)
      ·
        refine sw_ldc2 (n := 20) F (10) q3980 (by decide) dX4_value_17 rfl ?_
        refine sw_lload_n (n := 21) F 2 rfl rfl dX4_value_20 rfl ?_
        refine sw_lmul (n := 22) F dX4_value_21 rfl ?_
        refine sw_aload_n (n := 23) F 0 (some o) rfl rfl rfl dX4_value_22 rfl ?_
        refine sw_iload_n (n := 24) F 1 rfl rfl dX4_value_23 rfl ?_
        refine sw_iload (n := 26) F 3 rfl dX4_value_24 rfl ?_
        rw [show (↑n - 1 : Int) = ↑(n - 1) by omega]
        refine sw_callV (n := 29) F (ct_X4_digit (g := xg x) (l := xl x) o a z D M row (n - 1) hr (by first | assumption | omega) (by first | assumption | omega) (by first | assumption | omega)) (rcv_ob F 0 (ci := 3) rfl rfl) q4016 q4018 qs74 q120 q4019 nd_X4_digit rfl (by decide) [0, 1, 2] rfl [] rfl 0 0 ⟨by omega, by omega⟩ [.long (jL (10 * (↑w)))] rfl (Nat.le_of_ble_eq_true rfl) dX4_value_26 rfl (fun _ _ h => h.elim) (fun v Ws h => ?_)
        obtain ⟨rfl, hdg_1, rfl⟩ := h
        show SW x [tmO (xg x) o a z, aN (xg x) 0 (a 0) 2400 D, aN (xg x) 0 (a 1) 10 M] _ _ _ _ [.int (jI (↑(dg D M row (n - 1)))), .long (jL (10 * (↑w)))]
        refine sw_i2l (n := 30) F (by omega) dX4_value_29 rfl ?_
        refine sw_ladd (n := 31) F dX4_value_30 rfl ?_
        refine sw_lstore_n (n := 32) F (L2 := [(2, .long (jL ((10 * (↑w)) + (↑(dg D M row (n - 1)))))), (0, .ref o), (1, .int (jI (↑row))), (4, .int (jI (↑(n - 1))))]) rfl (by decide) rfl dX4_value_31 rfl ?_
        refine sw_iinc (n := 35) F 3 (L2 := [(4, .int (jI (↑(n - 1) + (-1)))), (2, .long (jL ((10 * (↑w)) + (↑(dg D M row (n - 1)))))), (0, .ref o), (1, .int (jI (↑row)))]) rfl rfl (by decide) dX4_value_32 rfl ?_
        refine sw_goto F (n := 12) dX4_value_35 (by decide) ?_
        refine sw_loc [2, 3, 1, 0] (L2 := [(0, .ref o), (1, .int (jI (↑row))), (2, .long (jL ((10 * (↑w)) + (↑(dg D M row (n - 1)))))), (4, .int (jI (↑(n - 1) + (-1))))]) rfl ?_
        rw [show ((10 * (↑w)) + (↑(dg D M row (n - 1))) : Int) = ↑((10 * (w)) + ((dg D M row (n - 1)))) by omega]
        rw [show (↑(n - 1) + (-1) : Int) = ↑(n - 1) - 1 by omega]
        exact ih12 (n - 1) ((10 * (w)) + ((dg D M row (n - 1)))) (by first | assumption | omega) (by exact val_step (by omega) hn hw) (by omega)
  refine sw_loc [2, 3, 1, 0] (L2 := [(0, .ref o), (1, .int (jI (↑row))), (2, .long (jL 0)), (4, .int (jI ((↑(M row)) - 1)))]) rfl ?_
  exact K12 _ (M row) 0 (by first | assumption | omega) (by exact val_start hx) (Nat.lt_succ_self _)
