theorem nd_X4_takes : yX4_takes.cls ≠ "java/lang/invoke/MethodHandle" ∧ yX4_takes.cls ≠ "java/lang/invoke/VarHandle" ∧ (parseMethodDescriptor yX4_takes.desc).map (fun d => d.parameters.length) = some 2 := by decide +kernel
set_option maxRecDepth 100000 in
set_option maxHeartbeats 1000000 in
theorem ct_X4_takes {g : GG} {l : Launch} (o : Nat) (a : Nat → Nat) (z : Nat → Int) (D : Nat → Nat) (M : Nat → Nat) (N : Nat → Int) (Sc : Nat → Int) (Hs : Nat → Int) (s : Nat) (t : Nat) (hs : s < 12) (ht : t < 12) (hA : Dok D M) (hN : NB N) (hSc : SB Sc) : Ct g l yX4_takes (ws_ yX4_takes cX4_takes 3 (Option.some Jvm.ClassFile.FieldType.boolean)) 4 82 0 0 [.ref o, .int (jI (↑s)), .int (jI (↑t))] [tmO g o a z, aN g 0 (a 0) 2400 D, aN g 0 (a 1) 10 M, aL g (a 3) 12 N, aI g 0 (a 4) 12 Sc, aI g 4 (a 5) 12 Hs] (fun v9 Ws9 => ∃ D1 : Nat → Nat, ∃ M1 : Nat → Nat, v9 = some (.int (jI (laI (N s).natAbs (Sc s)))) ∧ (RV [4] D M D1 M1) ∧ Ws9 = [tmO g o a z, aN g 0 (a 0) 2400 D1, aN g 0 (a 1) 10 M1, aL g (a 3) 12 (up1 (laI (N s).natAbs (Sc s)) N t (N s)), aI g 0 (a 4) 12 (up1 (laI (N s).natAbs (Sc s)) Sc t (Sc s)), aI g 4 (a 5) 12 (up1 (laI (N s).natAbs (Sc s)) Hs t 1)]) (nox) := by
  refine Ct.of (cc := cX4_takes) (nL := 3) (ret := (Option.some Jvm.ClassFile.FieldType.boolean)) (by decide) rfl (Nat.le_of_ble_eq_true rfl) ?_
  intro x hg hl hPo hPx hmc hms F
  subst hg; subst hl
  refine SW.cast (L' := [(0, .ref o), (1, .int (jI (↑s))), (2, .int (jI (↑t)))]) ?_ rfl rfl rfl
  have hn := hN s
  have hss := hSc s
  refine sw_aload_n (n := 1) F 0 (some o) rfl rfl rfl dX4_takes_0 rfl ?_
  refine sw_iconst (n := 2) F (4) (by decide) dX4_takes_1 rfl ?_
  refine sw_aload_n (n := 3) F 0 (some o) rfl rfl rfl dX4_takes_2 rfl ?_
  refine sw_get (n := 6) F 0 rfl (k := 3) ⟨(RX4, TX4, 50), rfl, by decide, q3802, in_X4, Or.inl rfl⟩ (v := .ref (a 3)) rfl dX4_takes_3 rfl ?_
  refine sw_iload_n (n := 7) F 1 rfl rfl dX4_takes_6 rfl ?_
  refine sw_laloadL (n := 8) F 3 rfl (fun _ => rfl) s rfl (by omega) dX4_takes_7 rfl ?_
  refine sw_callV (n := 11) F (ct_X4_lets (g := xg x) (l := xl x) o a z D M 4 (N s) (by first | assumption | omega) hA (by first | assumption | omega)) (rcv_ob F 0 (ci := 3) rfl rfl) q4004 q4006 qs71 q120 q4007 nd_X4_lets rfl (by decide) [0, 1, 2, 3, 4, 5] rfl [aL (xg x) (a 3) 12 N, aI (xg x) 0 (a 4) 12 Sc, aI (xg x) 4 (a 5) 12 Hs] rfl 0 0 ⟨by omega, by omega⟩ [] rfl (Nat.le_of_ble_eq_true rfl) dX4_takes_8 rfl (fun _ _ h => h.elim) (fun v Ws h => ?_)
  obtain ⟨D1_1, M1_2, rfl, hU_3, rfl⟩ := h
  show SW x [tmO (xg x) o a z, aN (xg x) 0 (a 0) 2400 D1_1, aN (xg x) 0 (a 1) 10 M1_2, aL (xg x) (a 3) 12 N, aI (xg x) 0 (a 4) 12 Sc, aI (xg x) 4 (a 5) 12 Hs] _ _ _ _ []
  have a_4 := hU_3.1
  have r_5 : rok D1_1 M1_2 4 ((N s).natAbs) := hU_3.2.2.2
  have v_6 := hU_3.rv
  refine sw_aload_n (n := 12) F 0 (some o) rfl rfl rfl dX4_takes_11 rfl ?_
  refine sw_iload_n (n := 13) F 2 rfl rfl dX4_takes_12 rfl ?_
  refine sw_iconst (n := 14) F (4) (by decide) dX4_takes_13 rfl ?_
  refine sw_aload_n (n := 15) F 0 (some o) rfl rfl rfl dX4_takes_14 rfl ?_
  refine sw_get (n := 18) F 0 rfl (k := 3) ⟨(RX4, TX4, 50), rfl, by decide, q3802, in_X4, Or.inl rfl⟩ (v := .ref (a 3)) rfl dX4_takes_15 rfl ?_
  refine sw_iload_n (n := 19) F 1 rfl rfl dX4_takes_18 rfl ?_
  refine sw_laloadL (n := 20) F 3 rfl (fun _ => rfl) s rfl (by omega) dX4_takes_19 rfl ?_
  refine sw_lconst (n := 21) F 0 (by decide) dX4_takes_20 rfl ?_
  refine sw_lcmp (n := 22) F (by omega) (by decide) dX4_takes_21 rfl ?_
  refine sw_if_ge (n := 25) F (by omega) (tgt := 29) dX4_takes_22 (by decide) rfl (fun c_22 => ?_) (fun c_22 => ?_)
  ·
    have c_22 : N s ≥ 0 := by revert c_22; (repeat' split) <;> omega
    refine sw_iconst (n := 30) F (0) (by decide) dX4_takes_29 rfl ?_
    refine sw_aload_n (n := 31) F 0 (some o) rfl rfl rfl dX4_takes_30 rfl ?_
    refine sw_get (n := 34) F 0 rfl (k := 4) ⟨(RX4, TX4, 50), rfl, by decide, q3803, in_X4, Or.inl rfl⟩ (v := .ref (a 4)) rfl dX4_takes_31 rfl ?_
    refine sw_iload_n (n := 35) F 1 rfl rfl dX4_takes_34 rfl ?_
    refine sw_ialoadI (n := 36) F 4 rfl (fun _ => rfl) s rfl (by omega) dX4_takes_35 rfl ?_
    refine sw_callV (n := 39) F (ct_X4_lays (g := xg x) (l := xl x) o a z D1_1 M1_2 N Sc Hs t 4 ((N s).natAbs) 0 (Sc s) ht (by first | assumption | omega) a_4 r_5 (by first | assumption | omega) (by first | assumption | omega)) (rcv_ob F 0 (ci := 3) rfl rfl) q4020 q4022 qs75 q120 q4023 nd_X4_lays rfl (by decide) [0, 1, 2, 3, 4, 5] rfl [] rfl 0 0 ⟨by omega, by omega⟩ [] rfl (Nat.le_of_ble_eq_true rfl) dX4_takes_36 rfl (fun _ _ h => h.elim) (fun v Ws h => ?_)
    obtain ⟨rfl, hl_7, rfl⟩ := h
    show SW x [tmO (xg x) o a z, aN (xg x) 0 (a 0) 2400 D1_1, aN (xg x) 0 (a 1) 10 M1_2, aL (xg x) (a 3) 12 (up1 (laI ((N s).natAbs) (Sc s)) N t (sgn 0 ((N s).natAbs))), aI (xg x) 0 (a 4) 12 (up1 (laI ((N s).natAbs) (Sc s)) Sc t (Sc s)), aI (xg x) 4 (a 5) 12 (up1 (laI ((N s).natAbs) (Sc s)) Hs t 1)] _ _ _ _ [.int (jI (laI ((N s).natAbs) (Sc s)))]
    exact sw_iret F _ rfl (by first | rfl | exact jI_nz (by omega) | exact jI_nc (by omega)) dX4_takes_39 (by rw [hPo]; exact ⟨D1_1, M1_2, (by first | (congr 3; omega) | (congr 2; omega) | rfl), v_6, (by first | rw [sgn_abs0 (by omega)] | rw [sgn_abs1 (by omega)])⟩)
  ·
    have c_22 : N s < 0 := by revert c_22; (repeat' split) <;> omega
    refine sw_iconst (n := 26) F (1) (by decide) dX4_takes_25 rfl ?_
    refine sw_goto F (n := 30) dX4_takes_26 (by decide) ?_
    refine sw_aload_n (n := 31) F 0 (some o) rfl rfl rfl dX4_takes_30 rfl ?_
    refine sw_get (n := 34) F 0 rfl (k := 4) ⟨(RX4, TX4, 50), rfl, by decide, q3803, in_X4, Or.inl rfl⟩ (v := .ref (a 4)) rfl dX4_takes_31 rfl ?_
    refine sw_iload_n (n := 35) F 1 rfl rfl dX4_takes_34 rfl ?_
    refine sw_ialoadI (n := 36) F 4 rfl (fun _ => rfl) s rfl (by omega) dX4_takes_35 rfl ?_
    refine sw_callV (n := 39) F (ct_X4_lays (g := xg x) (l := xl x) o a z D1_1 M1_2 N Sc Hs t 4 ((N s).natAbs) 1 (Sc s) ht (by first | assumption | omega) a_4 r_5 (by first | assumption | omega) (by first | assumption | omega)) (rcv_ob F 0 (ci := 3) rfl rfl) q4020 q4022 qs75 q120 q4023 nd_X4_lays rfl (by decide) [0, 1, 2, 3, 4, 5] rfl [] rfl 0 0 ⟨by omega, by omega⟩ [] rfl (Nat.le_of_ble_eq_true rfl) dX4_takes_36 rfl (fun _ _ h => h.elim) (fun v Ws h => ?_)
    obtain ⟨rfl, hl_8, rfl⟩ := h
    show SW x [tmO (xg x) o a z, aN (xg x) 0 (a 0) 2400 D1_1, aN (xg x) 0 (a 1) 10 M1_2, aL (xg x) (a 3) 12 (up1 (laI ((N s).natAbs) (Sc s)) N t (sgn 1 ((N s).natAbs))), aI (xg x) 0 (a 4) 12 (up1 (laI ((N s).natAbs) (Sc s)) Sc t (Sc s)), aI (xg x) 4 (a 5) 12 (up1 (laI ((N s).natAbs) (Sc s)) Hs t 1)] _ _ _ _ [.int (jI (laI ((N s).natAbs) (Sc s)))]
    exact sw_iret F _ rfl (by first | rfl | exact jI_nz (by omega) | exact jI_nc (by omega)) dX4_takes_39 (by rw [hPo]; exact ⟨D1_1, M1_2, (by first | (congr 3; omega) | (congr 2; omega) | rfl), v_6, (by first | rw [sgn_abs0 (by omega)] | rw [sgn_abs1 (by omega)])⟩)
theorem nd_X4_multiplies : yX4_multiplies.cls ≠ "java/lang/invoke/MethodHandle" ∧ yX4_multiplies.cls ≠ "java/lang/invoke/VarHandle" ∧ (parseMethodDescriptor yX4_multiplies.desc).map (fun d => d.parameters.length) = some 3 := by decide +kernel
set_option maxRecDepth 100000 in
set_option maxHeartbeats 1000000 in
theorem ct_X4_multiplies {g : GG} {l : Launch} (o : Nat) (a : Nat → Nat) (z : Nat → Int) (D : Nat → Nat) (M : Nat → Nat) (N : Nat → Int) (Sc : Nat → Int) (Hs : Nat → Int) (s : Nat) (s2 : Nat) (t : Nat) (hs : s < 12) (hs2 : s2 < 12) (ht : t < 12) (hA : Dok D M) (hN : NB N) (hSc : SB Sc) : Ct g l yX4_multiplies (ws_ yX4_multiplies cX4_multiplies 4 (Option.some Jvm.ClassFile.FieldType.boolean)) 4 86 0 0 [.ref o, .int (jI (↑s)), .int (jI (↑s2)), .int (jI (↑t))] [tmO g o a z, aN g 0 (a 0) 2400 D, aN g 0 (a 1) 10 M, aL g (a 3) 12 N, aI g 0 (a 4) 12 Sc, aI g 4 (a 5) 12 Hs] (fun v9 Ws9 => ∃ D1 : Nat → Nat, ∃ M1 : Nat → Nat, v9 = some (.int (jI (laI ((N s).natAbs * (N s2).natAbs) (Sc s + Sc s2)))) ∧ (RV [4, 5, 6, 7] D M D1 M1) ∧ Ws9 = [tmO g o a z, aN g 0 (a 0) 2400 D1, aN g 0 (a 1) 10 M1, aL g (a 3) 12 (up1 (laI ((N s).natAbs * (N s2).natAbs) (Sc s + Sc s2)) N t (sgn (xrI (N s) (N s2)) ((N s).natAbs * (N s2).natAbs))), aI g 0 (a 4) 12 (up1 (laI ((N s).natAbs * (N s2).natAbs) (Sc s + Sc s2)) Sc t (Sc s + Sc s2)), aI g 4 (a 5) 12 (up1 (laI ((N s).natAbs * (N s2).natAbs) (Sc s + Sc s2)) Hs t 1)]) (nox) := by
  refine Ct.of (cc := cX4_multiplies) (nL := 4) (ret := (Option.some Jvm.ClassFile.FieldType.boolean)) (by decide) rfl (Nat.le_of_ble_eq_true rfl) ?_
  intro x hg hl hPo hPx hmc hms F
  subst hg; subst hl
  refine SW.cast (L' := [(0, .ref o), (1, .int (jI (↑s))), (2, .int (jI (↑s2))), (3, .int (jI (↑t)))]) ?_ rfl rfl rfl
  have hn := hN s
  have hss := hSc s
  have hn2 := hN s2
  have hss2 := hSc s2
  have hp9 : (N s).natAbs * (N s2).natAbs < big := mul_big (abs_18 hn) (abs_18 hn2)
  refine sw_aload_n (n := 1) F 0 (some o) rfl rfl rfl dX4_multiplies_0 rfl ?_
  refine sw_iconst (n := 2) F (4) (by decide) dX4_multiplies_1 rfl ?_
  refine sw_aload_n (n := 3) F 0 (some o) rfl rfl rfl dX4_multiplies_2 rfl ?_
  refine sw_get (n := 6) F 0 rfl (k := 3) ⟨(RX4, TX4, 50), rfl, by decide, q3802, in_X4, Or.inl rfl⟩ (v := .ref (a 3)) rfl dX4_multiplies_3 rfl ?_
  refine sw_iload_n (n := 7) F 1 rfl rfl dX4_multiplies_6 rfl ?_
  refine sw_laloadL (n := 8) F 3 rfl (fun _ => rfl) s rfl (by omega) dX4_multiplies_7 rfl ?_
  refine sw_callV (n := 11) F (ct_X4_lets (g := xg x) (l := xl x) o a z D M 4 (N s) (by first | assumption | omega) hA (by first | assumption | omega)) (rcv_ob F 0 (ci := 3) rfl rfl) q4004 q4006 qs71 q120 q4007 nd_X4_lets rfl (by decide) [0, 1, 2, 3, 4, 5] rfl [aL (xg x) (a 3) 12 N, aI (xg x) 0 (a 4) 12 Sc, aI (xg x) 4 (a 5) 12 Hs] rfl 0 0 ⟨by omega, by omega⟩ [] rfl (Nat.le_of_ble_eq_true rfl) dX4_multiplies_8 rfl (fun _ _ h => h.elim) (fun v Ws h => ?_)
  obtain ⟨D1_1, M1_2, rfl, hU_3, rfl⟩ := h
  show SW x [tmO (xg x) o a z, aN (xg x) 0 (a 0) 2400 D1_1, aN (xg x) 0 (a 1) 10 M1_2, aL (xg x) (a 3) 12 N, aI (xg x) 0 (a 4) 12 Sc, aI (xg x) 4 (a 5) 12 Hs] _ _ _ _ []
  have a_4 := hU_3.1
  have r_5 : rok D1_1 M1_2 4 ((N s).natAbs) := hU_3.2.2.2
  have v_6 := hU_3.rv
  refine sw_aload_n (n := 12) F 0 (some o) rfl rfl rfl dX4_multiplies_11 rfl ?_
  refine sw_iconst (n := 13) F (5) (by decide) dX4_multiplies_12 rfl ?_
  refine sw_aload_n (n := 14) F 0 (some o) rfl rfl rfl dX4_multiplies_13 rfl ?_
  refine sw_get (n := 17) F 0 rfl (k := 3) ⟨(RX4, TX4, 50), rfl, by decide, q3802, in_X4, Or.inl rfl⟩ (v := .ref (a 3)) rfl dX4_multiplies_14 rfl ?_
  refine sw_iload_n (n := 18) F 2 rfl rfl dX4_multiplies_17 rfl ?_
  refine sw_laloadL (n := 19) F 3 rfl (fun _ => rfl) s2 rfl (by omega) dX4_multiplies_18 rfl ?_
  refine sw_callV (n := 22) F (ct_X4_lets (g := xg x) (l := xl x) o a z D1_1 M1_2 5 (N s2) (by first | assumption | omega) a_4 (by first | assumption | omega)) (rcv_ob F 0 (ci := 3) rfl rfl) q4004 q4006 qs71 q120 q4007 nd_X4_lets rfl (by decide) [0, 1, 2, 3, 4, 5] rfl [aL (xg x) (a 3) 12 N, aI (xg x) 0 (a 4) 12 Sc, aI (xg x) 4 (a 5) 12 Hs] rfl 0 0 ⟨by omega, by omega⟩ [] rfl (Nat.le_of_ble_eq_true rfl) dX4_multiplies_19 rfl (fun _ _ h => h.elim) (fun v Ws h => ?_)
  obtain ⟨D1_7, M1_8, rfl, hU_9, rfl⟩ := h
  show SW x [tmO (xg x) o a z, aN (xg x) 0 (a 0) 2400 D1_7, aN (xg x) 0 (a 1) 10 M1_8, aL (xg x) (a 3) 12 N, aI (xg x) 0 (a 4) 12 Sc, aI (xg x) 4 (a 5) 12 Hs] _ _ _ _ []
  have a_10 := hU_9.1
  have r_11 : rok D1_7 M1_8 5 ((N s2).natAbs) := hU_9.2.2.2
  have k_12 := hU_9.keep (r := 4) (by first | omega | simp | (simp; omega)) r_5
  have v_13 := (v_6.mono (T := [4, 5]) (by simp)).trans hU_9.rv (by simp)
  refine sw_aload_n (n := 23) F 0 (some o) rfl rfl rfl dX4_multiplies_22 rfl ?_
  refine sw_iconst (n := 24) F (4) (by decide) dX4_multiplies_23 rfl ?_
  refine sw_iconst (n := 25) F (5) (by decide) dX4_multiplies_24 rfl ?_
  refine sw_callV (n := 28) F (ct_X4_times (g := xg x) (l := xl x) o a z D1_7 M1_8 4 5 ((N s).natAbs) ((N s2).natAbs) (by first | assumption | omega) (by first | assumption | omega) (by first | assumption | omega) (by first | assumption | omega) a_10 k_12 r_11 hp9) (rcv_ob F 0 (ci := 3) rfl rfl) q4083 q4085 qs85 q120 q4086 nd_X4_times rfl (by decide) [0, 1, 2, 3, 4, 5] rfl [aL (xg x) (a 3) 12 N, aI (xg x) 0 (a 4) 12 Sc, aI (xg x) 4 (a 5) 12 Hs] rfl 0 0 ⟨by omega, by omega⟩ [] rfl (Nat.le_of_ble_eq_true rfl) dX4_multiplies_25 rfl (fun _ _ h => h.elim) (fun v Ws h => ?_)
  obtain ⟨D1_14, M1_15, rfl, hV_16, hr_17, rfl⟩ := h
  show SW x [tmO (xg x) o a z, aN (xg x) 0 (a 0) 2400 D1_14, aN (xg x) 0 (a 1) 10 M1_15, aL (xg x) (a 3) 12 N, aI (xg x) 0 (a 4) 12 Sc, aI (xg x) 4 (a 5) 12 Hs] _ _ _ _ []
  have a_18 := hV_16.1
  have k_19 := hV_16.keep (r := 5) (by first | omega | simp | (simp; omega)) r_11
  have v_20 := (v_13.mono (T := [4, 5, 6, 7]) (by simp)).trans hV_16 (by simp)
  refine sw_aload_n (n := 29) F 0 (some o) rfl rfl rfl dX4_multiplies_28 rfl ?_
  refine sw_iload_n (n := 30) F 3 rfl rfl dX4_multiplies_29 rfl ?_
  refine sw_iconst (n := 31) F (4) (by decide) dX4_multiplies_30 rfl ?_
  refine sw_aload_n (n := 32) F 0 (some o) rfl rfl rfl dX4_multiplies_31 rfl ?_
  refine sw_get (n := 35) F 0 rfl (k := 3) ⟨(RX4, TX4, 50), rfl, by decide, q3802, in_X4, Or.inl rfl⟩ (v := .ref (a 3)) rfl dX4_multiplies_32 rfl ?_
  refine sw_iload_n (n := 36) F 1 rfl rfl dX4_multiplies_35 rfl ?_
  refine sw_laloadL (n := 37) F 3 rfl (fun _ => rfl) s rfl (by omega) dX4_multiplies_36 rfl ?_
  refine sw_lconst (n := 38) F 0 (by decide) dX4_multiplies_37 rfl ?_
  refine sw_lcmp (n := 39) F (by omega) (by decide) dX4_multiplies_38 rfl ?_
  refine sw_if_ge (n := 42) F (by omega) (tgt := 46) dX4_multiplies_39 (by decide) rfl (fun c_39 => ?_) (fun c_39 => ?_)
  ·
    have c_39 : N s ≥ 0 := by revert c_39; (repeat' split) <;> omega
    refine sw_iconst (n := 47) F (0) (by decide) dX4_multiplies_46 rfl ?_
    refine sw_aload_n (n := 48) F 0 (some o) rfl rfl rfl dX4_multiplies_47 rfl ?_
    refine sw_get (n := 51) F 0 rfl (k := 3) ⟨(RX4, TX4, 50), rfl, by decide, q3802, in_X4, Or.inl rfl⟩ (v := .ref (a 3)) rfl dX4_multiplies_48 rfl ?_
    refine sw_iload_n (n := 52) F 2 rfl rfl dX4_multiplies_51 rfl ?_
    refine sw_laloadL (n := 53) F 3 rfl (fun _ => rfl) s2 rfl (by omega) dX4_multiplies_52 rfl ?_
    refine sw_lconst (n := 54) F 0 (by decide) dX4_multiplies_53 rfl ?_
    refine sw_lcmp (n := 55) F (by omega) (by decide) dX4_multiplies_54 rfl ?_
    refine sw_if_ge (n := 58) F (by omega) (tgt := 62) dX4_multiplies_55 (by decide) rfl (fun c_55 => ?_) (fun c_55 => ?_)
    ·
      have c_55 : N s2 ≥ 0 := by revert c_55; (repeat' split) <;> omega
      refine sw_iconst (n := 63) F (0) (by decide) dX4_multiplies_62 rfl ?_
      refine sw_icmp_eq (n := 66) F (by decide) (by decide) (tgt := 70) dX4_multiplies_63 (by decide) rfl (fun c_63 => ?_) (fun c_63 => ?_)
      ·
        refine sw_iconst (n := 71) F (0) (by decide) dX4_multiplies_70 rfl ?_
        refine sw_aload_n (n := 72) F 0 (some o) rfl rfl rfl dX4_multiplies_71 rfl ?_
        refine sw_get (n := 75) F 0 rfl (k := 4) ⟨(RX4, TX4, 50), rfl, by decide, q3803, in_X4, Or.inl rfl⟩ (v := .ref (a 4)) rfl dX4_multiplies_72 rfl ?_
        refine sw_iload_n (n := 76) F 1 rfl rfl dX4_multiplies_75 rfl ?_
        refine sw_ialoadI (n := 77) F 4 rfl (fun _ => rfl) s rfl (by omega) dX4_multiplies_76 rfl ?_
        refine sw_aload_n (n := 78) F 0 (some o) rfl rfl rfl dX4_multiplies_77 rfl ?_
        refine sw_get (n := 81) F 0 rfl (k := 4) ⟨(RX4, TX4, 50), rfl, by decide, q3803, in_X4, Or.inl rfl⟩ (v := .ref (a 4)) rfl dX4_multiplies_78 rfl ?_
        refine sw_iload_n (n := 82) F 2 rfl rfl dX4_multiplies_81 rfl ?_
        refine sw_ialoadI (n := 83) F 4 rfl (fun _ => rfl) s2 rfl (by omega) dX4_multiplies_82 rfl ?_
        refine sw_iadd (n := 84) F dX4_multiplies_83 rfl ?_
        refine sw_callV (n := 87) F (ct_X4_lays (g := xg x) (l := xl x) o a z D1_14 M1_15 N Sc Hs t 4 (((N s).natAbs) * ((N s2).natAbs)) 0 ((Sc s) + (Sc s2)) ht (by first | assumption | omega) a_18 hr_17 (by first | assumption | omega) (by first | assumption | omega)) (rcv_ob F 0 (ci := 3) rfl rfl) q4020 q4022 qs75 q120 q4023 nd_X4_lays rfl (by decide) [0, 1, 2, 3, 4, 5] rfl [] rfl 0 0 ⟨by omega, by omega⟩ [] rfl (Nat.le_of_ble_eq_true rfl) dX4_multiplies_84 rfl (fun _ _ h => h.elim) (fun v Ws h => ?_)
        obtain ⟨rfl, hl_21, rfl⟩ := h
        show SW x [tmO (xg x) o a z, aN (xg x) 0 (a 0) 2400 D1_14, aN (xg x) 0 (a 1) 10 M1_15, aL (xg x) (a 3) 12 (up1 (laI (((N s).natAbs) * ((N s2).natAbs)) ((Sc s) + (Sc s2))) N t (sgn 0 (((N s).natAbs) * ((N s2).natAbs)))), aI (xg x) 0 (a 4) 12 (up1 (laI (((N s).natAbs) * ((N s2).natAbs)) ((Sc s) + (Sc s2))) Sc t ((Sc s) + (Sc s2))), aI (xg x) 4 (a 5) 12 (up1 (laI (((N s).natAbs) * ((N s2).natAbs)) ((Sc s) + (Sc s2))) Hs t 1)] _ _ _ _ [.int (jI (laI (((N s).natAbs) * ((N s2).natAbs)) ((Sc s) + (Sc s2))))]
        exact sw_iret F _ rfl (by first | rfl | exact jI_nz (by omega) | exact jI_nc (by omega)) dX4_multiplies_87 (by rw [hPo]; exact ⟨D1_14, M1_15, (by first | (congr 3; omega) | (congr 2; omega) | rfl), v_20, (by first | rw [xrI_0 (by omega)] | rw [xrI_1 (by omega)])⟩)
      · exfalso; exact absurd c_63 (by decide)
    ·
      have c_55 : N s2 < 0 := by revert c_55; (repeat' split) <;> omega
      refine sw_iconst (n := 59) F (1) (by decide) dX4_multiplies_58 rfl ?_
      refine sw_goto F (n := 63) dX4_multiplies_59 (by decide) ?_
      refine sw_icmp_eq (n := 66) F (by decide) (by decide) (tgt := 70) dX4_multiplies_63 (by decide) rfl (fun c_63 => ?_) (fun c_63 => ?_)
      · exfalso; exact absurd c_63 (by decide)
      ·
        refine sw_iconst (n := 67) F (1) (by decide) dX4_multiplies_66 rfl ?_
        refine sw_goto F (n := 71) dX4_multiplies_67 (by decide) ?_
        refine sw_aload_n (n := 72) F 0 (some o) rfl rfl rfl dX4_multiplies_71 rfl ?_
        refine sw_get (n := 75) F 0 rfl (k := 4) ⟨(RX4, TX4, 50), rfl, by decide, q3803, in_X4, Or.inl rfl⟩ (v := .ref (a 4)) rfl dX4_multiplies_72 rfl ?_
        refine sw_iload_n (n := 76) F 1 rfl rfl dX4_multiplies_75 rfl ?_
        refine sw_ialoadI (n := 77) F 4 rfl (fun _ => rfl) s rfl (by omega) dX4_multiplies_76 rfl ?_
        refine sw_aload_n (n := 78) F 0 (some o) rfl rfl rfl dX4_multiplies_77 rfl ?_
        refine sw_get (n := 81) F 0 rfl (k := 4) ⟨(RX4, TX4, 50), rfl, by decide, q3803, in_X4, Or.inl rfl⟩ (v := .ref (a 4)) rfl dX4_multiplies_78 rfl ?_
        refine sw_iload_n (n := 82) F 2 rfl rfl dX4_multiplies_81 rfl ?_
        refine sw_ialoadI (n := 83) F 4 rfl (fun _ => rfl) s2 rfl (by omega) dX4_multiplies_82 rfl ?_
        refine sw_iadd (n := 84) F dX4_multiplies_83 rfl ?_
        refine sw_callV (n := 87) F (ct_X4_lays (g := xg x) (l := xl x) o a z D1_14 M1_15 N Sc Hs t 4 (((N s).natAbs) * ((N s2).natAbs)) 1 ((Sc s) + (Sc s2)) ht (by first | assumption | omega) a_18 hr_17 (by first | assumption | omega) (by first | assumption | omega)) (rcv_ob F 0 (ci := 3) rfl rfl) q4020 q4022 qs75 q120 q4023 nd_X4_lays rfl (by decide) [0, 1, 2, 3, 4, 5] rfl [] rfl 0 0 ⟨by omega, by omega⟩ [] rfl (Nat.le_of_ble_eq_true rfl) dX4_multiplies_84 rfl (fun _ _ h => h.elim) (fun v Ws h => ?_)
        obtain ⟨rfl, hl_22, rfl⟩ := h
        show SW x [tmO (xg x) o a z, aN (xg x) 0 (a 0) 2400 D1_14, aN (xg x) 0 (a 1) 10 M1_15, aL (xg x) (a 3) 12 (up1 (laI (((N s).natAbs) * ((N s2).natAbs)) ((Sc s) + (Sc s2))) N t (sgn 1 (((N s).natAbs) * ((N s2).natAbs)))), aI (xg x) 0 (a 4) 12 (up1 (laI (((N s).natAbs) * ((N s2).natAbs)) ((Sc s) + (Sc s2))) Sc t ((Sc s) + (Sc s2))), aI (xg x) 4 (a 5) 12 (up1 (laI (((N s).natAbs) * ((N s2).natAbs)) ((Sc s) + (Sc s2))) Hs t 1)] _ _ _ _ [.int (jI (laI (((N s).natAbs) * ((N s2).natAbs)) ((Sc s) + (Sc s2))))]
        exact sw_iret F _ rfl (by first | rfl | exact jI_nz (by omega) | exact jI_nc (by omega)) dX4_multiplies_87 (by rw [hPo]; exact ⟨D1_14, M1_15, (by first | (congr 3; omega) | (congr 2; omega) | rfl), v_20, (by first | rw [xrI_0 (by omega)] | rw [xrI_1 (by omega)])⟩)
  ·
    have c_39 : N s < 0 := by revert c_39; (repeat' split) <;> omega
    refine sw_iconst (n := 43) F (1) (by decide) dX4_multiplies_42 rfl ?_
    refine sw_goto F (n := 47) dX4_multiplies_43 (by decide) ?_
    refine sw_aload_n (n := 48) F 0 (some o) rfl rfl rfl dX4_multiplies_47 rfl ?_
    refine sw_get (n := 51) F 0 rfl (k := 3) ⟨(RX4, TX4, 50), rfl, by decide, q3802, in_X4, Or.inl rfl⟩ (v := .ref (a 3)) rfl dX4_multiplies_48 rfl ?_
    refine sw_iload_n (n := 52) F 2 rfl rfl dX4_multiplies_51 rfl ?_
    refine sw_laloadL (n := 53) F 3 rfl (fun _ => rfl) s2 rfl (by omega) dX4_multiplies_52 rfl ?_
    refine sw_lconst (n := 54) F 0 (by decide) dX4_multiplies_53 rfl ?_
    refine sw_lcmp (n := 55) F (by omega) (by decide) dX4_multiplies_54 rfl ?_
    refine sw_if_ge (n := 58) F (by omega) (tgt := 62) dX4_multiplies_55 (by decide) rfl (fun c_55 => ?_) (fun c_55 => ?_)
    ·
      have c_55 : N s2 ≥ 0 := by revert c_55; (repeat' split) <;> omega
      refine sw_iconst (n := 63) F (0) (by decide) dX4_multiplies_62 rfl ?_
      refine sw_icmp_eq (n := 66) F (by decide) (by decide) (tgt := 70) dX4_multiplies_63 (by decide) rfl (fun c_63 => ?_) (fun c_63 => ?_)
      · exfalso; exact absurd c_63 (by decide)
      ·
        refine sw_iconst (n := 67) F (1) (by decide) dX4_multiplies_66 rfl ?_
        refine sw_goto F (n := 71) dX4_multiplies_67 (by decide) ?_
        refine sw_aload_n (n := 72) F 0 (some o) rfl rfl rfl dX4_multiplies_71 rfl ?_
        refine sw_get (n := 75) F 0 rfl (k := 4) ⟨(RX4, TX4, 50), rfl, by decide, q3803, in_X4, Or.inl rfl⟩ (v := .ref (a 4)) rfl dX4_multiplies_72 rfl ?_
        refine sw_iload_n (n := 76) F 1 rfl rfl dX4_multiplies_75 rfl ?_
        refine sw_ialoadI (n := 77) F 4 rfl (fun _ => rfl) s rfl (by omega) dX4_multiplies_76 rfl ?_
        refine sw_aload_n (n := 78) F 0 (some o) rfl rfl rfl dX4_multiplies_77 rfl ?_
        refine sw_get (n := 81) F 0 rfl (k := 4) ⟨(RX4, TX4, 50), rfl, by decide, q3803, in_X4, Or.inl rfl⟩ (v := .ref (a 4)) rfl dX4_multiplies_78 rfl ?_
        refine sw_iload_n (n := 82) F 2 rfl rfl dX4_multiplies_81 rfl ?_
        refine sw_ialoadI (n := 83) F 4 rfl (fun _ => rfl) s2 rfl (by omega) dX4_multiplies_82 rfl ?_
        refine sw_iadd (n := 84) F dX4_multiplies_83 rfl ?_
        refine sw_callV (n := 87) F (ct_X4_lays (g := xg x) (l := xl x) o a z D1_14 M1_15 N Sc Hs t 4 (((N s).natAbs) * ((N s2).natAbs)) 1 ((Sc s) + (Sc s2)) ht (by first | assumption | omega) a_18 hr_17 (by first | assumption | omega) (by first | assumption | omega)) (rcv_ob F 0 (ci := 3) rfl rfl) q4020 q4022 qs75 q120 q4023 nd_X4_lays rfl (by decide) [0, 1, 2, 3, 4, 5] rfl [] rfl 0 0 ⟨by omega, by omega⟩ [] rfl (Nat.le_of_ble_eq_true rfl) dX4_multiplies_84 rfl (fun _ _ h => h.elim) (fun v Ws h => ?_)
        obtain ⟨rfl, hl_23, rfl⟩ := h
        show SW x [tmO (xg x) o a z, aN (xg x) 0 (a 0) 2400 D1_14, aN (xg x) 0 (a 1) 10 M1_15, aL (xg x) (a 3) 12 (up1 (laI (((N s).natAbs) * ((N s2).natAbs)) ((Sc s) + (Sc s2))) N t (sgn 1 (((N s).natAbs) * ((N s2).natAbs)))), aI (xg x) 0 (a 4) 12 (up1 (laI (((N s).natAbs) * ((N s2).natAbs)) ((Sc s) + (Sc s2))) Sc t ((Sc s) + (Sc s2))), aI (xg x) 4 (a 5) 12 (up1 (laI (((N s).natAbs) * ((N s2).natAbs)) ((Sc s) + (Sc s2))) Hs t 1)] _ _ _ _ [.int (jI (laI (((N s).natAbs) * ((N s2).natAbs)) ((Sc s) + (Sc s2))))]
        exact sw_iret F _ rfl (by first | rfl | exact jI_nz (by omega) | exact jI_nc (by omega)) dX4_multiplies_87 (by rw [hPo]; exact ⟨D1_14, M1_15, (by first | (congr 3; omega) | (congr 2; omega) | rfl), v_20, (by first | rw [xrI_0 (by omega)] | rw [xrI_1 (by omega)])⟩)
    ·
      have c_55 : N s2 < 0 := by revert c_55; (repeat' split) <;> omega
      refine sw_iconst (n := 59) F (1) (by decide) dX4_multiplies_58 rfl ?_
      refine sw_goto F (n := 63) dX4_multiplies_59 (by decide) ?_
      refine sw_icmp_eq (n := 66) F (by decide) (by decide) (tgt := 70) dX4_multiplies_63 (by decide) rfl (fun c_63 => ?_) (fun c_63 => ?_)
      ·
        refine sw_iconst (n := 71) F (0) (by decide) dX4_multiplies_70 rfl ?_
        refine sw_aload_n (n := 72) F 0 (some o) rfl rfl rfl dX4_multiplies_71 rfl ?_
        refine sw_get (n := 75) F 0 rfl (k := 4) ⟨(RX4, TX4, 50), rfl, by decide, q3803, in_X4, Or.inl rfl⟩ (v := .ref (a 4)) rfl dX4_multiplies_72 rfl ?_
        refine sw_iload_n (n := 76) F 1 rfl rfl dX4_multiplies_75 rfl ?_
        refine sw_ialoadI (n := 77) F 4 rfl (fun _ => rfl) s rfl (by omega) dX4_multiplies_76 rfl ?_
        refine sw_aload_n (n := 78) F 0 (some o) rfl rfl rfl dX4_multiplies_77 rfl ?_
        refine sw_get (n := 81) F 0 rfl (k := 4) ⟨(RX4, TX4, 50), rfl, by decide, q3803, in_X4, Or.inl rfl⟩ (v := .ref (a 4)) rfl dX4_multiplies_78 rfl ?_
        refine sw_iload_n (n := 82) F 2 rfl rfl dX4_multiplies_81 rfl ?_
        refine sw_ialoadI (n := 83) F 4 rfl (fun _ => rfl) s2 rfl (by omega) dX4_multiplies_82 rfl ?_
        refine sw_iadd (n := 84) F dX4_multiplies_83 rfl ?_
        refine sw_callV (n := 87) F (ct_X4_lays (g := xg x) (l := xl x) o a z D1_14 M1_15 N Sc Hs t 4 (((N s).natAbs) * ((N s2).natAbs)) 0 ((Sc s) + (Sc s2)) ht (by first | assumption | omega) a_18 hr_17 (by first | assumption | omega) (by first | assumption | omega)) (rcv_ob F 0 (ci := 3) rfl rfl) q4020 q4022 qs75 q120 q4023 nd_X4_lays rfl (by decide) [0, 1, 2, 3, 4, 5] rfl [] rfl 0 0 ⟨by omega, by omega⟩ [] rfl (Nat.le_of_ble_eq_true rfl) dX4_multiplies_84 rfl (fun _ _ h => h.elim) (fun v Ws h => ?_)
        obtain ⟨rfl, hl_24, rfl⟩ := h
        show SW x [tmO (xg x) o a z, aN (xg x) 0 (a 0) 2400 D1_14, aN (xg x) 0 (a 1) 10 M1_15, aL (xg x) (a 3) 12 (up1 (laI (((N s).natAbs) * ((N s2).natAbs)) ((Sc s) + (Sc s2))) N t (sgn 0 (((N s).natAbs) * ((N s2).natAbs)))), aI (xg x) 0 (a 4) 12 (up1 (laI (((N s).natAbs) * ((N s2).natAbs)) ((Sc s) + (Sc s2))) Sc t ((Sc s) + (Sc s2))), aI (xg x) 4 (a 5) 12 (up1 (laI (((N s).natAbs) * ((N s2).natAbs)) ((Sc s) + (Sc s2))) Hs t 1)] _ _ _ _ [.int (jI (laI (((N s).natAbs) * ((N s2).natAbs)) ((Sc s) + (Sc s2))))]
        exact sw_iret F _ rfl (by first | rfl | exact jI_nz (by omega) | exact jI_nc (by omega)) dX4_multiplies_87 (by rw [hPo]; exact ⟨D1_14, M1_15, (by first | (congr 3; omega) | (congr 2; omega) | rfl), v_20, (by first | rw [xrI_0 (by omega)] | rw [xrI_1 (by omega)])⟩)
      · exfalso; exact absurd c_63 (by decide)
