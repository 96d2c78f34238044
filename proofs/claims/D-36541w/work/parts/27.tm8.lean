theorem nd_X4_order : yX4_order.cls ≠ "java/lang/invoke/MethodHandle" ∧ yX4_order.cls ≠ "java/lang/invoke/VarHandle" ∧ (parseMethodDescriptor yX4_order.desc).map (fun d => d.parameters.length) = some 2 := by decide +kernel
set_option maxRecDepth 100000 in
set_option maxHeartbeats 1000000 in
theorem ct_X4_order {g : GG} {l : Launch} (o : Nat) (a : Nat → Nat) (z : Nat → Int) (D : Nat → Nat) (M : Nat → Nat) (N : Nat → Int) (Sc : Nat → Int) (Hs : Nat → Int) (s : Nat) (s2 : Nat) (hs : s < 12) (hs2 : s2 < 12) (hA : Dok D M) (hN : NB N) (hSc : SB Sc) : Ct g l yX4_order (ws_ yX4_order cX4_order 6 (Option.some Jvm.ClassFile.FieldType.int)) 4 82 0 0 [.ref o, .int (jI (↑s)), .int (jI (↑s2))] [tmO g o a z, aN g 0 (a 0) 2400 D, aN g 0 (a 1) 10 M, aL g (a 3) 12 N, aI g 0 (a 4) 12 Sc, aI g 4 (a 5) 12 Hs] (fun v9 Ws9 => ∃ D1 : Nat → Nat, ∃ M1 : Nat → Nat, v9 = some (.int (jI (ordI N Sc s s2))) ∧ (RV [4, 5] D M D1 M1) ∧ Ws9 = [tmO g o a z, aN g 0 (a 0) 2400 D1, aN g 0 (a 1) 10 M1, aL g (a 3) 12 N, aI g 0 (a 4) 12 Sc, aI g 4 (a 5) 12 Hs]) (nox) := by
  refine Ct.of (cc := cX4_order) (nL := 6) (ret := (Option.some Jvm.ClassFile.FieldType.int)) (by decide) rfl (Nat.le_of_ble_eq_true rfl) ?_
  intro x hg hl hPo hPx hmc hms F
  subst hg; subst hl
  refine SW.cast (L' := [(0, .ref o), (1, .int (jI (↑s))), (2, .int (jI (↑s2)))]) ?_ rfl rfl rfl
  have hn := hN s
  have hss := hSc s
  have hn2 := hN s2
  have hss2 := hSc s2
  have hgc := grI_cases (Sc s) (Sc s2)
  have hu72 : smA N Sc s (grI (Sc s) (Sc s2)) < 10 ^ 72 := smA_72 hN hSc s (by omega)
  have hv72 : smA N Sc s2 (grI (Sc s) (Sc s2)) < 10 ^ 72 := smA_72 hN hSc s2 (by omega)
  have hub : smA N Sc s (grI (Sc s) (Sc s2)) < big := b72 hu72
  have hvb : smA N Sc s2 (grI (Sc s) (Sc s2)) < big := b72 hv72
  have huv : smA N Sc s (grI (Sc s) (Sc s2)) + smA N Sc s2 (grI (Sc s) (Sc s2)) < big := big_add hu72 hv72 (by decide)
  have hcr := cmpI_rng (smA N Sc s (grI (Sc s) (Sc s2))) (smA N Sc s2 (grI (Sc s) (Sc s2)))
  refine sw_aload_n (n := 1) F 0 (some o) rfl rfl rfl dX4_order_0 rfl ?_
  refine sw_get (n := 4) F 0 rfl (k := 4) ⟨(RX4, TX4, 50), rfl, by decide, q3803, in_X4, Or.inl rfl⟩ (v := .ref (a 4)) rfl dX4_order_1 rfl ?_
  refine sw_iload_n (n := 5) F 1 rfl rfl dX4_order_4 rfl ?_
  refine sw_ialoadI (n := 6) F 4 rfl (fun _ => rfl) s rfl (by omega) dX4_order_5 rfl ?_
  refine sw_aload_n (n := 7) F 0 (some o) rfl rfl rfl dX4_order_6 rfl ?_
  refine sw_get (n := 10) F 0 rfl (k := 4) ⟨(RX4, TX4, 50), rfl, by decide, q3803, in_X4, Or.inl rfl⟩ (v := .ref (a 4)) rfl dX4_order_7 rfl ?_
  refine sw_iload_n (n := 11) F 2 rfl rfl dX4_order_10 rfl ?_
  refine sw_ialoadI (n := 12) F 4 rfl (fun _ => rfl) s2 rfl (by omega) dX4_order_11 rfl ?_
  refine sw_callS (n := 15) F (ct_X4_greater (g := xg x) (l := xl x) (Sc s) (Sc s2) (by first | assumption | omega) (by first | assumption | omega)) q4060 q4061 q120 q4062 nd_X4_greater rfl (by decide) [0, 1, 2, 3, 4, 5] rfl [tmO (xg x) o a z, aN (xg x) 0 (a 0) 2400 D, aN (xg x) 0 (a 1) 10 M, aL (xg x) (a 3) 12 N, aI (xg x) 0 (a 4) 12 Sc, aI (xg x) 4 (a 5) 12 Hs] rfl 0 0 ⟨by omega, by omega⟩ [] rfl (Nat.le_of_ble_eq_true rfl) dX4_order_12 rfl (fun _ _ h => h.elim) (fun v Ws h => ?_)
  obtain ⟨rfl, hgr_1, rfl⟩ := h
  show SW x [tmO (xg x) o a z, aN (xg x) 0 (a 0) 2400 D, aN (xg x) 0 (a 1) 10 M, aL (xg x) (a 3) 12 N, aI (xg x) 0 (a 4) 12 Sc, aI (xg x) 4 (a 5) 12 Hs] _ _ _ _ [.int (jI (grI (Sc s) (Sc s2)))]
  refine sw_istore_n (n := 16) F (L2 := [(3, .int (jI (grI (Sc s) (Sc s2)))), (0, .ref o), (1, .int (jI (↑s))), (2, .int (jI (↑s2)))]) rfl (by decide) rfl dX4_order_15 rfl ?_
  refine sw_aload_n (n := 17) F 1 (some o) rfl rfl rfl dX4_order_16 rfl ?_
  refine sw_get (n := 20) F 0 rfl (k := 3) ⟨(RX4, TX4, 50), rfl, by decide, q3802, in_X4, Or.inl rfl⟩ (v := .ref (a 3)) rfl dX4_order_17 rfl ?_
  refine sw_iload_n (n := 21) F 2 rfl rfl dX4_order_20 rfl ?_
  refine sw_laloadL (n := 22) F 3 rfl (fun _ => rfl) s rfl (by omega) dX4_order_21 rfl ?_
  refine sw_callS (n := 25) F (ct_X4_signOf (g := xg x) (l := xl x) (N s) (by first | assumption | omega)) q4095 q4096 q120 q4097 nd_X4_signOf rfl (by decide) [0, 1, 2, 3, 4, 5] rfl [tmO (xg x) o a z, aN (xg x) 0 (a 0) 2400 D, aN (xg x) 0 (a 1) 10 M, aL (xg x) (a 3) 12 N, aI (xg x) 0 (a 4) 12 Sc, aI (xg x) 4 (a 5) 12 Hs] rfl 0 0 ⟨by omega, by omega⟩ [] rfl (Nat.le_of_ble_eq_true rfl) dX4_order_22 rfl (fun _ _ h => h.elim) (fun v Ws h => ?_)
  obtain ⟨rfl, hsg_2, rfl⟩ := h
  show SW x [tmO (xg x) o a z, aN (xg x) 0 (a 0) 2400 D, aN (xg x) 0 (a 1) 10 M, aL (xg x) (a 3) 12 N, aI (xg x) 0 (a 4) 12 Sc, aI (xg x) 4 (a 5) 12 Hs] _ _ _ _ [.int (jI (sgI (N s)))]
  refine sw_istore (n := 27) F (L2 := [(4, .int (jI (sgI (N s)))), (3, .int (jI (grI (Sc s) (Sc s2)))), (0, .ref o), (1, .int (jI (↑s))), (2, .int (jI (↑s2)))]) rfl (by decide) dX4_order_25 rfl ?_
  refine sw_aload_n (n := 28) F 2 (some o) rfl rfl rfl dX4_order_27 rfl ?_
  refine sw_get (n := 31) F 0 rfl (k := 3) ⟨(RX4, TX4, 50), rfl, by decide, q3802, in_X4, Or.inl rfl⟩ (v := .ref (a 3)) rfl dX4_order_28 rfl ?_
  refine sw_iload_n (n := 32) F 4 rfl rfl dX4_order_31 rfl ?_
  refine sw_laloadL (n := 33) F 3 rfl (fun _ => rfl) s2 rfl (by omega) dX4_order_32 rfl ?_
  refine sw_callS (n := 36) F (ct_X4_signOf (g := xg x) (l := xl x) (N s2) (by first | assumption | omega)) q4095 q4096 q120 q4097 nd_X4_signOf rfl (by decide) [0, 1, 2, 3, 4, 5] rfl [tmO (xg x) o a z, aN (xg x) 0 (a 0) 2400 D, aN (xg x) 0 (a 1) 10 M, aL (xg x) (a 3) 12 N, aI (xg x) 0 (a 4) 12 Sc, aI (xg x) 4 (a 5) 12 Hs] rfl 0 0 ⟨by omega, by omega⟩ [] rfl (Nat.le_of_ble_eq_true rfl) dX4_order_33 rfl (fun _ _ h => h.elim) (fun v Ws h => ?_)
  obtain ⟨rfl, hsg_3, rfl⟩ := h
  show SW x [tmO (xg x) o a z, aN (xg x) 0 (a 0) 2400 D, aN (xg x) 0 (a 1) 10 M, aL (xg x) (a 3) 12 N, aI (xg x) 0 (a 4) 12 Sc, aI (xg x) 4 (a 5) 12 Hs] _ _ _ _ [.int (jI (sgI (N s2)))]
  refine sw_istore (n := 38) F (L2 := [(5, .int (jI (sgI (N s2)))), (4, .int (jI (sgI (N s)))), (3, .int (jI (grI (Sc s) (Sc s2)))), (0, .ref o), (1, .int (jI (↑s))), (2, .int (jI (↑s2)))]) rfl (by decide) dX4_order_36 rfl ?_
  refine sw_iload (n := 40) F 1 rfl dX4_order_38 rfl ?_
  refine sw_iload (n := 42) F 0 rfl dX4_order_40 rfl ?_
  refine sw_icmp_eq (n := 45) F (by omega) (by omega) (tgt := 58) dX4_order_42 (by decide) rfl (fun c_42 => ?_) (fun c_42 => ?_)
  ·
    refine sw_aload_n (n := 59) F 3 (some o) rfl rfl rfl dX4_order_58 rfl ?_
    refine sw_iconst (n := 60) F (4) (by decide) dX4_order_59 rfl ?_
    refine sw_iload_n (n := 61) F 4 rfl rfl dX4_order_60 rfl ?_
    refine sw_iload_n (n := 62) F 2 rfl rfl dX4_order_61 rfl ?_
    refine sw_callV (n := 65) F (ct_X4_as (g := xg x) (l := xl x) o a z D M N Sc Hs 4 s (grI (Sc s) (Sc s2)) (by first | assumption | omega) hs hA hN hSc (by first | assumption | omega) hub) (rcv_ob F 0 (ci := 3) rfl rfl) q4063 q4065 qs80 q120 q4066 nd_X4_as rfl (by decide) [0, 1, 2, 3, 4, 5] rfl [] rfl 0 0 ⟨by omega, by omega⟩ [] rfl (Nat.le_of_ble_eq_true rfl) dX4_order_62 rfl (fun _ _ h => h.elim) (fun v Ws h => ?_)
    obtain ⟨D1_4, M1_5, rfl, hV_6, hr_7, rfl⟩ := h
    show SW x [tmO (xg x) o a z, aN (xg x) 0 (a 0) 2400 D1_4, aN (xg x) 0 (a 1) 10 M1_5, aL (xg x) (a 3) 12 N, aI (xg x) 0 (a 4) 12 Sc, aI (xg x) 4 (a 5) 12 Hs] _ _ _ _ []
    have a_8 := hV_6.1
    refine sw_aload_n (n := 66) F 3 (some o) rfl rfl rfl dX4_order_65 rfl ?_
    refine sw_iconst (n := 67) F (5) (by decide) dX4_order_66 rfl ?_
    refine sw_iload_n (n := 68) F 5 rfl rfl dX4_order_67 rfl ?_
    refine sw_iload_n (n := 69) F 2 rfl rfl dX4_order_68 rfl ?_
    refine sw_callV (n := 72) F (ct_X4_as (g := xg x) (l := xl x) o a z D1_4 M1_5 N Sc Hs 5 s2 (grI (Sc s) (Sc s2)) (by first | assumption | omega) hs2 a_8 hN hSc (by first | assumption | omega) hvb) (rcv_ob F 0 (ci := 3) rfl rfl) q4063 q4065 qs80 q120 q4066 nd_X4_as rfl (by decide) [0, 1, 2, 3, 4, 5] rfl [] rfl 0 0 ⟨by omega, by omega⟩ [] rfl (Nat.le_of_ble_eq_true rfl) dX4_order_69 rfl (fun _ _ h => h.elim) (fun v Ws h => ?_)
    obtain ⟨D1_9, M1_10, rfl, hV_11, hr_12, rfl⟩ := h
    show SW x [tmO (xg x) o a z, aN (xg x) 0 (a 0) 2400 D1_9, aN (xg x) 0 (a 1) 10 M1_10, aL (xg x) (a 3) 12 N, aI (xg x) 0 (a 4) 12 Sc, aI (xg x) 4 (a 5) 12 Hs] _ _ _ _ []
    have a_13 := hV_11.1
    have k_14 := hV_11.keep (r := 4) (by first | omega | simp | (simp; omega)) hr_7
    have v_15 := (hV_6.mono (T := [4, 5]) (by simp)).trans hV_11 (by simp)
    refine sw_iload (n := 74) F 1 rfl dX4_order_72 rfl ?_
    refine sw_aload_n (n := 75) F 3 (some o) rfl rfl rfl dX4_order_74 rfl ?_
    refine sw_iconst (n := 76) F (4) (by decide) dX4_order_75 rfl ?_
    refine sw_iconst (n := 77) F (5) (by decide) dX4_order_76 rfl ?_
    refine sw_callV (n := 80) F (ct_X4_compares (g := xg x) (l := xl x) o a z D1_9 M1_10 4 5 (smA N Sc s (grI (Sc s) (Sc s2))) (smA N Sc s2 (grI (Sc s) (Sc s2))) (by first | assumption | omega) (by first | assumption | omega) a_13 k_14 hr_12) (rcv_ob F 0 (ci := 3) rfl rfl) q4067 q4069 qs81 q120 q4070 nd_X4_compares rfl (by decide) [0, 1, 2, 3, 4, 5] rfl [aL (xg x) (a 3) 12 N, aI (xg x) 0 (a 4) 12 Sc, aI (xg x) 4 (a 5) 12 Hs] rfl 0 0 ⟨by omega, by omega⟩ [.int (jI (sgI (N s)))] rfl (Nat.le_of_ble_eq_true rfl) dX4_order_77 rfl (fun _ _ h => h.elim) (fun v Ws h => ?_)
    obtain ⟨rfl, rfl⟩ := h
    show SW x [tmO (xg x) o a z, aN (xg x) 0 (a 0) 2400 D1_9, aN (xg x) 0 (a 1) 10 M1_10, aL (xg x) (a 3) 12 N, aI (xg x) 0 (a 4) 12 Sc, aI (xg x) 4 (a 5) 12 Hs] _ _ _ _ [.int (jI (cmpI (smA N Sc s (grI (Sc s) (Sc s2))) (smA N Sc s2 (grI (Sc s) (Sc s2))))), .int (jI (sgI (N s)))]
    refine sw_imul (n := 81) F dX4_order_80 rfl ?_
    exact sw_iret F _ rfl (by first | rfl | exact jI_nz (by omega) | exact jI_nc (by omega)) dX4_order_81 (by rw [hPo]; exact ⟨D1_9, M1_10, (by rw [ord_e (by omega)]), v_15, rfl⟩)
  ·
    refine sw_iload (n := 47) F 1 rfl dX4_order_45 rfl ?_
    refine sw_iload (n := 49) F 0 rfl dX4_order_47 rfl ?_
    refine sw_icmp_ge (n := 52) F (by omega) (by omega) (tgt := 56) dX4_order_49 (by decide) rfl (fun c_49 => ?_) (fun c_49 => ?_)
    ·
      refine sw_iconst (n := 57) F (1) (by decide) dX4_order_56 rfl ?_
      exact sw_iret F _ rfl (by first | rfl | exact jI_nz (by omega) | exact jI_nc (by omega)) dX4_order_57 (by rw [hPo]; exact ⟨D, M, (by first | rw [ord_m (by omega)] | rw [ord_p (by omega)]), (by exact RV.rf hA |>.mono (S := []) (by simp)), rfl⟩)
    ·
      refine sw_iconst (n := 53) F (-1) (by decide) dX4_order_52 rfl ?_
      refine sw_goto F (n := 57) dX4_order_53 (by decide) ?_
      exact sw_iret F _ rfl (by first | rfl | exact jI_nz (by omega) | exact jI_nc (by omega)) dX4_order_57 (by rw [hPo]; exact ⟨D, M, (by first | rw [ord_m (by omega)] | rw [ord_p (by omega)]), (by exact RV.rf hA |>.mono (S := []) (by simp)), rfl⟩)
theorem nd_X4_sums : yX4_sums.cls ≠ "java/lang/invoke/MethodHandle" ∧ yX4_sums.cls ≠ "java/lang/invoke/VarHandle" ∧ (parseMethodDescriptor yX4_sums.desc).map (fun d => d.parameters.length) = some 4 := by decide +kernel
set_option maxRecDepth 100000 in
set_option maxHeartbeats 1000000 in
theorem ct_X4_sums {g : GG} {l : Launch} (o : Nat) (a : Nat → Nat) (z : Nat → Int) (D : Nat → Nat) (M : Nat → Nat) (N : Nat → Int) (Sc : Nat → Int) (Hs : Nat → Int) (s : Nat) (s2 : Nat) (tn : Int) (t : Nat) (hs : s < 12) (hs2 : s2 < 12) (htn : tn = 0 ∨ tn = 1) (ht : t < 12) (hA : Dok D M) (hN : NB N) (hSc : SB Sc) : Ct g l yX4_sums (ws_ yX4_sums cX4_sums 8 (Option.some Jvm.ClassFile.FieldType.boolean)) 4 82 0 0 [.ref o, .int (jI (↑s)), .int (jI (↑s2)), .int (jI tn), .int (jI (↑t))] [tmO g o a z, aN g 0 (a 0) 2400 D, aN g 0 (a 1) 10 M, aL g (a 3) 12 N, aI g 0 (a 4) 12 Sc, aI g 4 (a 5) 12 Hs] (fun v9 Ws9 => ∃ D1 : Nat → Nat, ∃ M1 : Nat → Nat, v9 = some (.int (jI (laI (smV N Sc s s2 tn).natAbs (grI (Sc s) (Sc s2))))) ∧ (RV [4, 5] D M D1 M1) ∧ Ws9 = [tmO g o a z, aN g 0 (a 0) 2400 D1, aN g 0 (a 1) 10 M1, aL g (a 3) 12 (up1 (laI (smV N Sc s s2 tn).natAbs (grI (Sc s) (Sc s2))) N t (smV N Sc s s2 tn)), aI g 0 (a 4) 12 (up1 (laI (smV N Sc s s2 tn).natAbs (grI (Sc s) (Sc s2))) Sc t (grI (Sc s) (Sc s2))), aI g 4 (a 5) 12 (up1 (laI (smV N Sc s s2 tn).natAbs (grI (Sc s) (Sc s2))) Hs t 1)]) (nox) := by
  refine Ct.of (cc := cX4_sums) (nL := 8) (ret := (Option.some Jvm.ClassFile.FieldType.boolean)) (by decide) rfl (Nat.le_of_ble_eq_true rfl) ?_
  intro x hg hl hPo hPx hmc hms F
  subst hg; subst hl
  refine SW.cast (L' := [(0, .ref o), (1, .int (jI (↑s))), (2, .int (jI (↑s2))), (3, .int (jI tn)), (4, .int (jI (↑t)))]) ?_ rfl rfl rfl
  have hn := hN s
  have hss := hSc s
  have hn2 := hN s2
  have hss2 := hSc s2
  have hgc := grI_cases (Sc s) (Sc s2)
  have hu72 : smA N Sc s (grI (Sc s) (Sc s2)) < 10 ^ 72 := smA_72 hN hSc s (by omega)
  have hv72 : smA N Sc s2 (grI (Sc s) (Sc s2)) < 10 ^ 72 := smA_72 hN hSc s2 (by omega)
  have hub : smA N Sc s (grI (Sc s) (Sc s2)) < big := b72 hu72
  have hvb : smA N Sc s2 (grI (Sc s) (Sc s2)) < big := b72 hv72
  have huv : smA N Sc s (grI (Sc s) (Sc s2)) + smA N Sc s2 (grI (Sc s) (Sc s2)) < big := big_add hu72 hv72 (by decide)
  have hcr := cmpI_rng (smA N Sc s (grI (Sc s) (Sc s2))) (smA N Sc s2 (grI (Sc s) (Sc s2)))
  refine sw_aload_n (n := 1) F 0 (some o) rfl rfl rfl dX4_sums_0 rfl ?_
  refine sw_get (n := 4) F 0 rfl (k := 4) ⟨(RX4, TX4, 50), rfl, by decide, q3803, in_X4, Or.inl rfl⟩ (v := .ref (a 4)) rfl dX4_sums_1 rfl ?_
  refine sw_iload_n (n := 5) F 1 rfl rfl dX4_sums_4 rfl ?_
  refine sw_ialoadI (n := 6) F 4 rfl (fun _ => rfl) s rfl (by omega) dX4_sums_5 rfl ?_
  refine sw_aload_n (n := 7) F 0 (some o) rfl rfl rfl dX4_sums_6 rfl ?_
  refine sw_get (n := 10) F 0 rfl (k := 4) ⟨(RX4, TX4, 50), rfl, by decide, q3803, in_X4, Or.inl rfl⟩ (v := .ref (a 4)) rfl dX4_sums_7 rfl ?_
  refine sw_iload_n (n := 11) F 2 rfl rfl dX4_sums_10 rfl ?_
  refine sw_ialoadI (n := 12) F 4 rfl (fun _ => rfl) s2 rfl (by omega) dX4_sums_11 rfl ?_
  refine sw_callS (n := 15) F (ct_X4_greater (g := xg x) (l := xl x) (Sc s) (Sc s2) (by first | assumption | omega) (by first | assumption | omega)) q4060 q4061 q120 q4062 nd_X4_greater rfl (by decide) [0, 1, 2, 3, 4, 5] rfl [tmO (xg x) o a z, aN (xg x) 0 (a 0) 2400 D, aN (xg x) 0 (a 1) 10 M, aL (xg x) (a 3) 12 N, aI (xg x) 0 (a 4) 12 Sc, aI (xg x) 4 (a 5) 12 Hs] rfl 0 0 ⟨by omega, by omega⟩ [] rfl (Nat.le_of_ble_eq_true rfl) dX4_sums_12 rfl (fun _ _ h => h.elim) (fun v Ws h => ?_)
  obtain ⟨rfl, hgr_1, rfl⟩ := h
  show SW x [tmO (xg x) o a z, aN (xg x) 0 (a 0) 2400 D, aN (xg x) 0 (a 1) 10 M, aL (xg x) (a 3) 12 N, aI (xg x) 0 (a 4) 12 Sc, aI (xg x) 4 (a 5) 12 Hs] _ _ _ _ [.int (jI (grI (Sc s) (Sc s2)))]
  refine sw_istore (n := 17) F (L2 := [(5, .int (jI (grI (Sc s) (Sc s2)))), (0, .ref o), (1, .int (jI (↑s))), (2, .int (jI (↑s2))), (3, .int (jI tn)), (4, .int (jI (↑t)))]) rfl (by decide) dX4_sums_15 rfl ?_
  refine sw_aload_n (n := 18) F 1 (some o) rfl rfl rfl dX4_sums_17 rfl ?_
  refine sw_iconst (n := 19) F (4) (by decide) dX4_sums_18 rfl ?_
  refine sw_iload_n (n := 20) F 2 rfl rfl dX4_sums_19 rfl ?_
  refine sw_iload (n := 22) F 0 rfl dX4_sums_20 rfl ?_
  refine sw_callV (n := 25) F (ct_X4_as (g := xg x) (l := xl x) o a z D M N Sc Hs 4 s (grI (Sc s) (Sc s2)) (by first | assumption | omega) hs hA hN hSc (by first | assumption | omega) hub) (rcv_ob F 0 (ci := 3) rfl rfl) q4063 q4065 qs80 q120 q4066 nd_X4_as rfl (by decide) [0, 1, 2, 3, 4, 5] rfl [] rfl 0 0 ⟨by omega, by omega⟩ [] rfl (Nat.le_of_ble_eq_true rfl) dX4_sums_22 rfl (fun _ _ h => h.elim) (fun v Ws h => ?_)
  obtain ⟨D1_2, M1_3, rfl, hV_4, hr_5, rfl⟩ := h
  show SW x [tmO (xg x) o a z, aN (xg x) 0 (a 0) 2400 D1_2, aN (xg x) 0 (a 1) 10 M1_3, aL (xg x) (a 3) 12 N, aI (xg x) 0 (a 4) 12 Sc, aI (xg x) 4 (a 5) 12 Hs] _ _ _ _ []
  have a_6 := hV_4.1
  refine sw_aload_n (n := 26) F 1 (some o) rfl rfl rfl dX4_sums_25 rfl ?_
  refine sw_iconst (n := 27) F (5) (by decide) dX4_sums_26 rfl ?_
  refine sw_iload_n (n := 28) F 3 rfl rfl dX4_sums_27 rfl ?_
  refine sw_iload (n := 30) F 0 rfl dX4_sums_28 rfl ?_
  refine sw_callV (n := 33) F (ct_X4_as (g := xg x) (l := xl x) o a z D1_2 M1_3 N Sc Hs 5 s2 (grI (Sc s) (Sc s2)) (by first | assumption | omega) hs2 a_6 hN hSc (by first | assumption | omega) hvb) (rcv_ob F 0 (ci := 3) rfl rfl) q4063 q4065 qs80 q120 q4066 nd_X4_as rfl (by decide) [0, 1, 2, 3, 4, 5] rfl [] rfl 0 0 ⟨by omega, by omega⟩ [] rfl (Nat.le_of_ble_eq_true rfl) dX4_sums_30 rfl (fun _ _ h => h.elim) (fun v Ws h => ?_)
  obtain ⟨D1_7, M1_8, rfl, hV_9, hr_10, rfl⟩ := h
  show SW x [tmO (xg x) o a z, aN (xg x) 0 (a 0) 2400 D1_7, aN (xg x) 0 (a 1) 10 M1_8, aL (xg x) (a 3) 12 N, aI (xg x) 0 (a 4) 12 Sc, aI (xg x) 4 (a 5) 12 Hs] _ _ _ _ []
  have a_11 := hV_9.1
  have k_12 := hV_9.keep (r := 4) (by first | omega | simp | (simp; omega)) hr_5
  have v_13 := (hV_4.mono (T := [4, 5]) (by simp)).trans hV_9 (by simp)
  have K51 : ∀ (p : Int), (p = bl (N s)) → SW x [tmO (xg x) o a z, aN (xg x) 0 (a 0) 2400 D1_7, aN (xg x) 0 (a 1) 10 M1_8, aL (xg x) (a 3) 12 N, aI (xg x) 0 (a 4) 12 Sc, aI (xg x) 4 (a 5) 12 Hs] 0 0 51 [(0, .ref o), (1, .int (jI (↑s))), (2, .int (jI (↑s2))), (3, .int (jI tn)), (4, .int (jI (↑t))), (5, .int (jI (grI (Sc s) (Sc s2)))), (6, .int (jI p))] [] := by
    intro p hpb
    refine sw_aload_n (n := 52) F 0 (some o) rfl rfl rfl dX4_sums_51 rfl ?_
    have K78 : ∀ (q : Int), (q = tI (bl (N s2)) tn) → SW x [tmO (xg x) o a z, aN (xg x) 0 (a 0) 2400 D1_7, aN (xg x) 0 (a 1) 10 M1_8, aL (xg x) (a 3) 12 N, aI (xg x) 0 (a 4) 12 Sc, aI (xg x) 4 (a 5) 12 Hs] 0 0 78 [(0, .ref o), (1, .int (jI (↑s))), (2, .int (jI (↑s2))), (3, .int (jI tn)), (4, .int (jI (↑t))), (5, .int (jI (grI (Sc s) (Sc s2)))), (6, .int (jI p)), (7, .int (jI q))] [] := by
      intro q hqb
      have hp01 : p = 0 ∨ p = 1 := by rw [hpb]; exact bl_01 _
      have hq01 : q = 0 ∨ q = 1 := by rw [hqb]; exact tI_01 _ _
      have hsv : smV N Sc s s2 tn = sgn p (smA N Sc s (grI (Sc s) (Sc s2))) + sgn q (smA N Sc s2 (grI (Sc s) (Sc s2))) := by unfold smV; rw [hpb, hqb]
      refine sw_iload (n := 80) F 6 rfl dX4_sums_78 rfl ?_
      refine sw_iload (n := 82) F 7 rfl dX4_sums_80 rfl ?_
      refine sw_icmp_ne (n := 85) F (by omega) (by omega) (tgt := 103) dX4_sums_82 (by decide) rfl (fun c_82 => ?_) (fun c_82 => ?_)
      ·
        refine sw_aload_n (n := 104) F 0 (some o) rfl rfl rfl dX4_sums_103 rfl ?_
        refine sw_iconst (n := 105) F (4) (by decide) dX4_sums_104 rfl ?_
        refine sw_iconst (n := 106) F (5) (by decide) dX4_sums_105 rfl ?_
        refine sw_callV (n := 109) F (ct_X4_compares (g := xg x) (l := xl x) o a z D1_7 M1_8 4 5 (smA N Sc s (grI (Sc s) (Sc s2))) (smA N Sc s2 (grI (Sc s) (Sc s2))) (by first | assumption | omega) (by first | assumption | omega) a_11 k_12 hr_10) (rcv_ob F 0 (ci := 3) rfl rfl) q4067 q4069 qs81 q120 q4070 nd_X4_compares rfl (by decide) [0, 1, 2, 3, 4, 5] rfl [aL (xg x) (a 3) 12 N, aI (xg x) 0 (a 4) 12 Sc, aI (xg x) 4 (a 5) 12 Hs] rfl 0 0 ⟨by omega, by omega⟩ [] rfl (Nat.le_of_ble_eq_true rfl) dX4_sums_106 rfl (fun _ _ h => h.elim) (fun v Ws h => ?_)
        obtain ⟨rfl, rfl⟩ := h
        show SW x [tmO (xg x) o a z, aN (xg x) 0 (a 0) 2400 D1_7, aN (xg x) 0 (a 1) 10 M1_8, aL (xg x) (a 3) 12 N, aI (xg x) 0 (a 4) 12 Sc, aI (xg x) 4 (a 5) 12 Hs] _ _ _ _ [.int (jI (cmpI (smA N Sc s (grI (Sc s) (Sc s2))) (smA N Sc s2 (grI (Sc s) (Sc s2)))))]
        refine sw_if_lt (n := 112) F (by omega) (tgt := 130) dX4_sums_109 (by decide) rfl (fun c_109 => ?_) (fun c_109 => ?_)
        ·
          have hlt : smA N Sc s (grI (Sc s) (Sc s2)) < smA N Sc s2 (grI (Sc s) (Sc s2)) := cmpI_neg c_109
          refine sw_aload_n (n := 131) F 0 (some o) rfl rfl rfl dX4_sums_130 rfl ?_
          refine sw_iconst (n := 132) F (5) (by decide) dX4_sums_131 rfl ?_
          refine sw_iconst (n := 133) F (4) (by decide) dX4_sums_132 rfl ?_
          refine sw_callV (n := 136) F (ct_X4_less (g := xg x) (l := xl x) o a z D1_7 M1_8 5 4 (smA N Sc s2 (grI (Sc s) (Sc s2))) (smA N Sc s (grI (Sc s) (Sc s2))) (by first | assumption | omega) (by first | assumption | omega) (by first | assumption | omega) a_11 hr_10 k_12 (by first | assumption | omega)) (rcv_ob F 0 (ci := 3) rfl rfl) q4071 q4073 qs82 q120 q4074 nd_X4_less rfl (by decide) [0, 1, 2, 3, 4, 5] rfl [aL (xg x) (a 3) 12 N, aI (xg x) 0 (a 4) 12 Sc, aI (xg x) 4 (a 5) 12 Hs] rfl 0 0 ⟨by omega, by omega⟩ [] rfl (Nat.le_of_ble_eq_true rfl) dX4_sums_133 rfl (fun _ _ h => h.elim) (fun v Ws h => ?_)
          obtain ⟨D1_14, M1_15, rfl, hU_16, rfl⟩ := h
          show SW x [tmO (xg x) o a z, aN (xg x) 0 (a 0) 2400 D1_14, aN (xg x) 0 (a 1) 10 M1_15, aL (xg x) (a 3) 12 N, aI (xg x) 0 (a 4) 12 Sc, aI (xg x) 4 (a 5) 12 Hs] _ _ _ _ []
          have a_17 := hU_16.1
          have r_18 : rok D1_14 M1_15 5 ((smA N Sc s2 (grI (Sc s) (Sc s2))) - (smA N Sc s (grI (Sc s) (Sc s2)))) := hU_16.2.2.2
          have k_19 := hU_16.keep (r := 4) (by first | omega | simp | (simp; omega)) k_12
          have v_20 := (v_13.mono (T := [4, 5]) (by simp)).trans hU_16.rv (by simp)
          refine sw_aload_n (n := 137) F 0 (some o) rfl rfl rfl dX4_sums_136 rfl ?_
          refine sw_iload (n := 139) F 4 rfl dX4_sums_137 rfl ?_
          refine sw_iconst (n := 140) F (5) (by decide) dX4_sums_139 rfl ?_
          refine sw_iload (n := 142) F 7 rfl dX4_sums_140 rfl ?_
          refine sw_iload (n := 144) F 5 rfl dX4_sums_142 rfl ?_
          refine sw_callV (n := 147) F (ct_X4_lays (g := xg x) (l := xl x) o a z D1_14 M1_15 N Sc Hs t 5 ((smA N Sc s2 (grI (Sc s) (Sc s2))) - (smA N Sc s (grI (Sc s) (Sc s2)))) q (grI (Sc s) (Sc s2)) ht (by first | assumption | omega) a_17 r_18 hq01 (by first | assumption | omega)) (rcv_ob F 0 (ci := 3) rfl rfl) q4020 q4022 qs75 q120 q4023 nd_X4_lays rfl (by decide) [0, 1, 2, 3, 4, 5] rfl [] rfl 0 0 ⟨by omega, by omega⟩ [] rfl (Nat.le_of_ble_eq_true rfl) dX4_sums_144 rfl (fun _ _ h => h.elim) (fun v Ws h => ?_)
          obtain ⟨rfl, hl_21, rfl⟩ := h
          show SW x [tmO (xg x) o a z, aN (xg x) 0 (a 0) 2400 D1_14, aN (xg x) 0 (a 1) 10 M1_15, aL (xg x) (a 3) 12 (up1 (laI ((smA N Sc s2 (grI (Sc s) (Sc s2))) - (smA N Sc s (grI (Sc s) (Sc s2)))) (grI (Sc s) (Sc s2))) N t (sgn q ((smA N Sc s2 (grI (Sc s) (Sc s2))) - (smA N Sc s (grI (Sc s) (Sc s2)))))), aI (xg x) 0 (a 4) 12 (up1 (laI ((smA N Sc s2 (grI (Sc s) (Sc s2))) - (smA N Sc s (grI (Sc s) (Sc s2)))) (grI (Sc s) (Sc s2))) Sc t (grI (Sc s) (Sc s2))), aI (xg x) 4 (a 5) 12 (up1 (laI ((smA N Sc s2 (grI (Sc s) (Sc s2))) - (smA N Sc s (grI (Sc s) (Sc s2)))) (grI (Sc s) (Sc s2))) Hs t 1)] _ _ _ _ [.int (jI (laI ((smA N Sc s2 (grI (Sc s) (Sc s2))) - (smA N Sc s (grI (Sc s) (Sc s2)))) (grI (Sc s) (Sc s2))))]
          exact sw_iret F _ rfl (by first | rfl | exact jI_nz (by omega) | exact jI_nc (by omega)) dX4_sums_147 (by rw [hPo]; exact ⟨D1_14, M1_15, (by obtain ⟨e1, e2⟩ := sm_3 hp01 hq01 c_82 hlt; rw [← hsv] at e1 e2; rw [e1]), v_20, (by obtain ⟨e1, e2⟩ := sm_3 hp01 hq01 c_82 hlt; rw [← hsv] at e1 e2; rw [e1, e2])⟩)
        ·
          have hle : smA N Sc s2 (grI (Sc s) (Sc s2)) ≤ smA N Sc s (grI (Sc s) (Sc s2)) := cmpI_nn c_109
          refine sw_aload_n (n := 113) F 0 (some o) rfl rfl rfl dX4_sums_112 rfl ?_
          refine sw_iconst (n := 114) F (4) (by decide) dX4_sums_113 rfl ?_
          refine sw_iconst (n := 115) F (5) (by decide) dX4_sums_114 rfl ?_
          refine sw_callV (n := 118) F (ct_X4_less (g := xg x) (l := xl x) o a z D1_7 M1_8 4 5 (smA N Sc s (grI (Sc s) (Sc s2))) (smA N Sc s2 (grI (Sc s) (Sc s2))) (by first | assumption | omega) (by first | assumption | omega) (by first | assumption | omega) a_11 k_12 hr_10 hle) (rcv_ob F 0 (ci := 3) rfl rfl) q4071 q4073 qs82 q120 q4074 nd_X4_less rfl (by decide) [0, 1, 2, 3, 4, 5] rfl [aL (xg x) (a 3) 12 N, aI (xg x) 0 (a 4) 12 Sc, aI (xg x) 4 (a 5) 12 Hs] rfl 0 0 ⟨by omega, by omega⟩ [] rfl (Nat.le_of_ble_eq_true rfl) dX4_sums_115 rfl (fun _ _ h => h.elim) (fun v Ws h => ?_)
          obtain ⟨D1_22, M1_23, rfl, hU_24, rfl⟩ := h
          show SW x [tmO (xg x) o a z, aN (xg x) 0 (a 0) 2400 D1_22, aN (xg x) 0 (a 1) 10 M1_23, aL (xg x) (a 3) 12 N, aI (xg x) 0 (a 4) 12 Sc, aI (xg x) 4 (a 5) 12 Hs] _ _ _ _ []
          have a_25 := hU_24.1
          have r_26 : rok D1_22 M1_23 4 ((smA N Sc s (grI (Sc s) (Sc s2))) - (smA N Sc s2 (grI (Sc s) (Sc s2)))) := hU_24.2.2.2
          have k_27 := hU_24.keep (r := 5) (by first | omega | simp | (simp; omega)) hr_10
          have v_28 := (v_13.mono (T := [4, 5]) (by simp)).trans hU_24.rv (by simp)
          refine sw_aload_n (n := 119) F 0 (some o) rfl rfl rfl dX4_sums_118 rfl ?_
          refine sw_iload (n := 121) F 4 rfl dX4_sums_119 rfl ?_
          refine sw_iconst (n := 122) F (4) (by decide) dX4_sums_121 rfl ?_
          refine sw_iload (n := 124) F 6 rfl dX4_sums_122 rfl ?_
          refine sw_iload (n := 126) F 5 rfl dX4_sums_124 rfl ?_
          refine sw_callV (n := 129) F (ct_X4_lays (g := xg x) (l := xl x) o a z D1_22 M1_23 N Sc Hs t 4 ((smA N Sc s (grI (Sc s) (Sc s2))) - (smA N Sc s2 (grI (Sc s) (Sc s2)))) p (grI (Sc s) (Sc s2)) ht (by first | assumption | omega) a_25 r_26 hp01 (by first | assumption | omega)) (rcv_ob F 0 (ci := 3) rfl rfl) q4020 q4022 qs75 q120 q4023 nd_X4_lays rfl (by decide) [0, 1, 2, 3, 4, 5] rfl [] rfl 0 0 ⟨by omega, by omega⟩ [] rfl (Nat.le_of_ble_eq_true rfl) dX4_sums_126 rfl (fun _ _ h => h.elim) (fun v Ws h => ?_)
          obtain ⟨rfl, hl_29, rfl⟩ := h
          show SW x [tmO (xg x) o a z, aN (xg x) 0 (a 0) 2400 D1_22, aN (xg x) 0 (a 1) 10 M1_23, aL (xg x) (a 3) 12 (up1 (laI ((smA N Sc s (grI (Sc s) (Sc s2))) - (smA N Sc s2 (grI (Sc s) (Sc s2)))) (grI (Sc s) (Sc s2))) N t (sgn p ((smA N Sc s (grI (Sc s) (Sc s2))) - (smA N Sc s2 (grI (Sc s) (Sc s2)))))), aI (xg x) 0 (a 4) 12 (up1 (laI ((smA N Sc s (grI (Sc s) (Sc s2))) - (smA N Sc s2 (grI (Sc s) (Sc s2)))) (grI (Sc s) (Sc s2))) Sc t (grI (Sc s) (Sc s2))), aI (xg x) 4 (a 5) 12 (up1 (laI ((smA N Sc s (grI (Sc s) (Sc s2))) - (smA N Sc s2 (grI (Sc s) (Sc s2)))) (grI (Sc s) (Sc s2))) Hs t 1)] _ _ _ _ [.int (jI (laI ((smA N Sc s (grI (Sc s) (Sc s2))) - (smA N Sc s2 (grI (Sc s) (Sc s2)))) (grI (Sc s) (Sc s2))))]
          exact sw_iret F _ rfl (by first | rfl | exact jI_nz (by omega) | exact jI_nc (by omega)) dX4_sums_129 (by rw [hPo]; exact ⟨D1_22, M1_23, (by obtain ⟨e1, e2⟩ := sm_2 hp01 hq01 c_82 hle; rw [← hsv] at e1 e2; rw [e1]), v_28, (by obtain ⟨e1, e2⟩ := sm_2 hp01 hq01 c_82 hle; rw [← hsv] at e1 e2; rw [e1, e2])⟩)
      ·
        refine sw_aload_n (n := 86) F 0 (some o) rfl rfl rfl dX4_sums_85 rfl ?_
        refine sw_iconst (n := 87) F (4) (by decide) dX4_sums_86 rfl ?_
        refine sw_iconst (n := 88) F (5) (by decide) dX4_sums_87 rfl ?_
        refine sw_callV (n := 91) F (ct_X4_plus (g := xg x) (l := xl x) o a z D1_7 M1_8 4 5 (smA N Sc s (grI (Sc s) (Sc s2))) (smA N Sc s2 (grI (Sc s) (Sc s2))) (by first | assumption | omega) (by first | assumption | omega) (by first | assumption | omega) a_11 k_12 hr_10 huv) (rcv_ob F 0 (ci := 3) rfl rfl) q4012 q4014 qs73 q120 q4015 nd_X4_plus rfl (by decide) [0, 1, 2, 3, 4, 5] rfl [aL (xg x) (a 3) 12 N, aI (xg x) 0 (a 4) 12 Sc, aI (xg x) 4 (a 5) 12 Hs] rfl 0 0 ⟨by omega, by omega⟩ [] rfl (Nat.le_of_ble_eq_true rfl) dX4_sums_88 rfl (fun _ _ h => h.elim) (fun v Ws h => ?_)
        obtain ⟨D1_30, M1_31, rfl, hU_32, rfl⟩ := h
        show SW x [tmO (xg x) o a z, aN (xg x) 0 (a 0) 2400 D1_30, aN (xg x) 0 (a 1) 10 M1_31, aL (xg x) (a 3) 12 N, aI (xg x) 0 (a 4) 12 Sc, aI (xg x) 4 (a 5) 12 Hs] _ _ _ _ []
        have a_33 := hU_32.1
        have r_34 : rok D1_30 M1_31 4 ((smA N Sc s (grI (Sc s) (Sc s2))) + (smA N Sc s2 (grI (Sc s) (Sc s2)))) := hU_32.2.2.2
        have k_35 := hU_32.keep (r := 5) (by first | omega | simp | (simp; omega)) hr_10
        have v_36 := (v_13.mono (T := [4, 5]) (by simp)).trans hU_32.rv (by simp)
        refine sw_aload_n (n := 92) F 0 (some o) rfl rfl rfl dX4_sums_91 rfl ?_
        refine sw_iload (n := 94) F 4 rfl dX4_sums_92 rfl ?_
        refine sw_iconst (n := 95) F (4) (by decide) dX4_sums_94 rfl ?_
        refine sw_iload (n := 97) F 6 rfl dX4_sums_95 rfl ?_
        refine sw_iload (n := 99) F 5 rfl dX4_sums_97 rfl ?_
        refine sw_callV (n := 102) F (ct_X4_lays (g := xg x) (l := xl x) o a z D1_30 M1_31 N Sc Hs t 4 ((smA N Sc s (grI (Sc s) (Sc s2))) + (smA N Sc s2 (grI (Sc s) (Sc s2)))) p (grI (Sc s) (Sc s2)) ht (by first | assumption | omega) a_33 r_34 hp01 (by first | assumption | omega)) (rcv_ob F 0 (ci := 3) rfl rfl) q4020 q4022 qs75 q120 q4023 nd_X4_lays rfl (by decide) [0, 1, 2, 3, 4, 5] rfl [] rfl 0 0 ⟨by omega, by omega⟩ [] rfl (Nat.le_of_ble_eq_true rfl) dX4_sums_99 rfl (fun _ _ h => h.elim) (fun v Ws h => ?_)
        obtain ⟨rfl, hl_37, rfl⟩ := h
        show SW x [tmO (xg x) o a z, aN (xg x) 0 (a 0) 2400 D1_30, aN (xg x) 0 (a 1) 10 M1_31, aL (xg x) (a 3) 12 (up1 (laI ((smA N Sc s (grI (Sc s) (Sc s2))) + (smA N Sc s2 (grI (Sc s) (Sc s2)))) (grI (Sc s) (Sc s2))) N t (sgn p ((smA N Sc s (grI (Sc s) (Sc s2))) + (smA N Sc s2 (grI (Sc s) (Sc s2)))))), aI (xg x) 0 (a 4) 12 (up1 (laI ((smA N Sc s (grI (Sc s) (Sc s2))) + (smA N Sc s2 (grI (Sc s) (Sc s2)))) (grI (Sc s) (Sc s2))) Sc t (grI (Sc s) (Sc s2))), aI (xg x) 4 (a 5) 12 (up1 (laI ((smA N Sc s (grI (Sc s) (Sc s2))) + (smA N Sc s2 (grI (Sc s) (Sc s2)))) (grI (Sc s) (Sc s2))) Hs t 1)] _ _ _ _ [.int (jI (laI ((smA N Sc s (grI (Sc s) (Sc s2))) + (smA N Sc s2 (grI (Sc s) (Sc s2)))) (grI (Sc s) (Sc s2))))]
        exact sw_iret F _ rfl (by first | rfl | exact jI_nz (by omega) | exact jI_nc (by omega)) dX4_sums_102 (by rw [hPo]; exact ⟨D1_30, M1_31, (by obtain ⟨e1, e2⟩ := sm_1 (u := smA N Sc s (grI (Sc s) (Sc s2))) (v := smA N Sc s2 (grI (Sc s) (Sc s2))) hp01 c_82; rw [← hsv] at e1 e2; rw [e1]), v_36, (by obtain ⟨e1, e2⟩ := sm_1 (u := smA N Sc s (grI (Sc s) (Sc s2))) (v := smA N Sc s2 (grI (Sc s) (Sc s2))) hp01 c_82; rw [← hsv] at e1 e2; rw [e1, e2])⟩)
    refine sw_get (n := 55) F 0 rfl (k := 3) ⟨(RX4, TX4, 50), rfl, by decide, q3802, in_X4, Or.inl rfl⟩ (v := .ref (a 3)) rfl dX4_sums_52 rfl ?_
    refine sw_iload_n (n := 56) F 2 rfl rfl dX4_sums_55 rfl ?_
    refine sw_laloadL (n := 57) F 3 rfl (fun _ => rfl) s2 rfl (by omega) dX4_sums_56 rfl ?_
    refine sw_lconst (n := 58) F 0 (by decide) dX4_sums_57 rfl ?_
    refine sw_lcmp (n := 59) F (by omega) (by decide) dX4_sums_58 rfl ?_
    refine sw_if_ge (n := 62) F (by omega) (tgt := 66) dX4_sums_59 (by decide) rfl (fun c_59 => ?_) (fun c_59 => ?_)
    ·
      have c_59 : N s2 ≥ 0 := by revert c_59; (repeat' split) <;> omega
      refine sw_iconst (n := 67) F (0) (by decide) dX4_sums_66 rfl ?_
      refine sw_iload_n (n := 68) F 3 rfl rfl dX4_sums_67 rfl ?_
      refine sw_icmp_eq (n := 71) F (by decide) (by omega) (tgt := 75) dX4_sums_68 (by decide) rfl (fun c_68 => ?_) (fun c_68 => ?_)
      ·
        refine sw_iconst (n := 76) F (0) (by decide) dX4_sums_75 rfl ?_
        refine sw_istore (n := 78) F (L2 := [(7, .int (jI 0)), (0, .ref o), (1, .int (jI (↑s))), (2, .int (jI (↑s2))), (3, .int (jI tn)), (4, .int (jI (↑t))), (5, .int (jI (grI (Sc s) (Sc s2)))), (6, .int (jI p))]) rfl (by decide) dX4_sums_76 rfl ?_
        refine sw_loc [1, 2, 3, 4, 5, 6, 7, 0] (L2 := [(0, .ref o), (1, .int (jI (↑s))), (2, .int (jI (↑s2))), (3, .int (jI tn)), (4, .int (jI (↑t))), (5, .int (jI (grI (Sc s) (Sc s2)))), (6, .int (jI p)), (7, .int (jI 0))]) rfl ?_
        exact K78 0 (by unfold tI bl; (repeat' split) <;> omega)
      ·
        refine sw_iconst (n := 72) F (1) (by decide) dX4_sums_71 rfl ?_
        refine sw_goto F (n := 76) dX4_sums_72 (by decide) ?_
        refine sw_istore (n := 78) F (L2 := [(7, .int (jI 1)), (0, .ref o), (1, .int (jI (↑s))), (2, .int (jI (↑s2))), (3, .int (jI tn)), (4, .int (jI (↑t))), (5, .int (jI (grI (Sc s) (Sc s2)))), (6, .int (jI p))]) rfl (by decide) dX4_sums_76 rfl ?_
        refine sw_loc [1, 2, 3, 4, 5, 6, 7, 0] (L2 := [(0, .ref o), (1, .int (jI (↑s))), (2, .int (jI (↑s2))), (3, .int (jI tn)), (4, .int (jI (↑t))), (5, .int (jI (grI (Sc s) (Sc s2)))), (6, .int (jI p)), (7, .int (jI 1))]) rfl ?_
        exact K78 1 (by unfold tI bl; (repeat' split) <;> omega)
    ·
      have c_59 : N s2 < 0 := by revert c_59; (repeat' split) <;> omega
      refine sw_iconst (n := 63) F (1) (by decide) dX4_sums_62 rfl ?_
      refine sw_goto F (n := 67) dX4_sums_63 (by decide) ?_
      refine sw_iload_n (n := 68) F 3 rfl rfl dX4_sums_67 rfl ?_
      refine sw_icmp_eq (n := 71) F (by decide) (by omega) (tgt := 75) dX4_sums_68 (by decide) rfl (fun c_68 => ?_) (fun c_68 => ?_)
      ·
        refine sw_iconst (n := 76) F (0) (by decide) dX4_sums_75 rfl ?_
        refine sw_istore (n := 78) F (L2 := [(7, .int (jI 0)), (0, .ref o), (1, .int (jI (↑s))), (2, .int (jI (↑s2))), (3, .int (jI tn)), (4, .int (jI (↑t))), (5, .int (jI (grI (Sc s) (Sc s2)))), (6, .int (jI p))]) rfl (by decide) dX4_sums_76 rfl ?_
        refine sw_loc [1, 2, 3, 4, 5, 6, 7, 0] (L2 := [(0, .ref o), (1, .int (jI (↑s))), (2, .int (jI (↑s2))), (3, .int (jI tn)), (4, .int (jI (↑t))), (5, .int (jI (grI (Sc s) (Sc s2)))), (6, .int (jI p)), (7, .int (jI 0))]) rfl ?_
        exact K78 0 (by unfold tI bl; (repeat' split) <;> omega)
      ·
        refine sw_iconst (n := 72) F (1) (by decide) dX4_sums_71 rfl ?_
        refine sw_goto F (n := 76) dX4_sums_72 (by decide) ?_
        refine sw_istore (n := 78) F (L2 := [(7, .int (jI 1)), (0, .ref o), (1, .int (jI (↑s))), (2, .int (jI (↑s2))), (3, .int (jI tn)), (4, .int (jI (↑t))), (5, .int (jI (grI (Sc s) (Sc s2)))), (6, .int (jI p))]) rfl (by decide) dX4_sums_76 rfl ?_
        refine sw_loc [1, 2, 3, 4, 5, 6, 7, 0] (L2 := [(0, .ref o), (1, .int (jI (↑s))), (2, .int (jI (↑s2))), (3, .int (jI tn)), (4, .int (jI (↑t))), (5, .int (jI (grI (Sc s) (Sc s2)))), (6, .int (jI p)), (7, .int (jI 1))]) rfl ?_
        exact K78 1 (by unfold tI bl; (repeat' split) <;> omega)
  refine sw_aload_n (n := 34) F 1 (some o) rfl rfl rfl dX4_sums_33 rfl ?_
  refine sw_get (n := 37) F 0 rfl (k := 3) ⟨(RX4, TX4, 50), rfl, by decide, q3802, in_X4, Or.inl rfl⟩ (v := .ref (a 3)) rfl dX4_sums_34 rfl ?_
  refine sw_iload_n (n := 38) F 2 rfl rfl dX4_sums_37 rfl ?_
  refine sw_laloadL (n := 39) F 3 rfl (fun _ => rfl) s rfl (by omega) dX4_sums_38 rfl ?_
  refine sw_lconst (n := 40) F 0 (by decide) dX4_sums_39 rfl ?_
  refine sw_lcmp (n := 41) F (by omega) (by decide) dX4_sums_40 rfl ?_
  refine sw_if_ge (n := 44) F (by omega) (tgt := 48) dX4_sums_41 (by decide) rfl (fun c_41 => ?_) (fun c_41 => ?_)
  ·
    have c_41 : N s ≥ 0 := by revert c_41; (repeat' split) <;> omega
    refine sw_iconst (n := 49) F (0) (by decide) dX4_sums_48 rfl ?_
    refine sw_istore (n := 51) F (L2 := [(6, .int (jI 0)), (5, .int (jI (grI (Sc s) (Sc s2)))), (0, .ref o), (1, .int (jI (↑s))), (2, .int (jI (↑s2))), (3, .int (jI tn)), (4, .int (jI (↑t)))]) rfl (by decide) dX4_sums_49 rfl ?_
    refine sw_loc [2, 3, 4, 5, 6, 1, 0] (L2 := [(0, .ref o), (1, .int (jI (↑s))), (2, .int (jI (↑s2))), (3, .int (jI tn)), (4, .int (jI (↑t))), (5, .int (jI (grI (Sc s) (Sc s2)))), (6, .int (jI 0))]) rfl ?_
    exact K51 0 (by unfold bl; split <;> omega)
  ·
    have c_41 : N s < 0 := by revert c_41; (repeat' split) <;> omega
    refine sw_iconst (n := 45) F (1) (by decide) dX4_sums_44 rfl ?_
    refine sw_goto F (n := 49) dX4_sums_45 (by decide) ?_
    refine sw_istore (n := 51) F (L2 := [(6, .int (jI 1)), (5, .int (jI (grI (Sc s) (Sc s2)))), (0, .ref o), (1, .int (jI (↑s))), (2, .int (jI (↑s2))), (3, .int (jI tn)), (4, .int (jI (↑t)))]) rfl (by decide) dX4_sums_49 rfl ?_
    refine sw_loc [2, 3, 4, 5, 6, 1, 0] (L2 := [(0, .ref o), (1, .int (jI (↑s))), (2, .int (jI (↑s2))), (3, .int (jI tn)), (4, .int (jI (↑t))), (5, .int (jI (grI (Sc s) (Sc s2)))), (6, .int (jI 1))]) rfl ?_
    exact K51 1 (by unfold bl; split <;> omega)
