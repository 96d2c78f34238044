def mvC (s n t : Int) (H : Nat → Int) (r : Nat) (sc : Int) : Int := if s < 0 ∨ 11 < s ∨ t < 0 ∨ 11 < t then 1 else if n = 0 ∨ n < -20 ∨ 20 < n then 2 else if H s.toNat = 0 then 3 else if laI r sc = 0 then 4 else 0
theorem up_88 (z : Nat → Int) (a b : Int) : va_up (va_up z 8 a) 8 b = va_up z 8 b := up_upI _ _ _ _
theorem nd_X4_move : yX4_move.cls ≠ "java/lang/invoke/MethodHandle" ∧ yX4_move.cls ≠ "java/lang/invoke/VarHandle" ∧ (parseMethodDescriptor yX4_move.desc).map (fun d => d.parameters.length) = some 3 := by decide +kernel
set_option maxRecDepth 100000 in
set_option maxHeartbeats 1000000 in
theorem ct_X4_move {g : GG} {l : Launch} (o : Nat) (a : Nat → Nat) (z : Nat → Int) (D : Nat → Nat) (M : Nat → Nat) (N : Nat → Int) (Sc : Nat → Int) (Hs : Nat → Int) (s : Int) (n : Int) (t : Int) (hs : -2147483648 ≤ s ∧ s ≤ 2147483647) (hn9 : -2147483648 ≤ n ∧ n ≤ 2147483647) (ht : -2147483648 ≤ t ∧ t ≤ 2147483647) (hA : Dok D M) (hN : NB N) (hSc : SB Sc) (hB : HB Hs) : Ct g l yX4_move (ws_ yX4_move cX4_move 5 (Option.some Jvm.ClassFile.FieldType.int)) 4 82 0 0 [.ref o, .int (jI s), .int (jI n), .int (jI t)] [tmO g o a z, aN g 0 (a 0) 2400 D, aN g 0 (a 1) 10 M, aL g (a 3) 12 N, aI g 0 (a 4) 12 Sc, aI g 4 (a 5) 12 Hs] (fun v9 Ws9 => ∃ D1 : Nat → Nat, ∃ M1 : Nat → Nat, v9 = some (.int (jI (if0 (mvC s n t Hs ((N s.toNat).natAbs * 10 ^ (-(Sc s.toNat + n)).toNat) (grI 0 (Sc s.toNat + n))) (grI 0 (Sc s.toNat + n))))) ∧ (RV [4] D M D1 M1) ∧ Ws9 = [tmO g o a (va_up z 8 (mvC s n t Hs ((N s.toNat).natAbs * 10 ^ (-(Sc s.toNat + n)).toNat) (grI 0 (Sc s.toNat + n)))), aN g 0 (a 0) 2400 D1, aN g 0 (a 1) 10 M1, aL g (a 3) 12 (up0 (mvC s n t Hs ((N s.toNat).natAbs * 10 ^ (-(Sc s.toNat + n)).toNat) (grI 0 (Sc s.toNat + n))) N t.toNat (sgn (bl (N s.toNat)) ((N s.toNat).natAbs * 10 ^ (-(Sc s.toNat + n)).toNat))), aI g 0 (a 4) 12 (up0 (mvC s n t Hs ((N s.toNat).natAbs * 10 ^ (-(Sc s.toNat + n)).toNat) (grI 0 (Sc s.toNat + n))) Sc t.toNat (grI 0 (Sc s.toNat + n))), aI g 4 (a 5) 12 (up0 (mvC s n t Hs ((N s.toNat).natAbs * 10 ^ (-(Sc s.toNat + n)).toNat) (grI 0 (Sc s.toNat + n))) Hs t.toNat 1)]) (nox) := by
  refine Ct.of (cc := cX4_move) (nL := 5) (ret := (Option.some Jvm.ClassFile.FieldType.int)) (by decide) rfl (Nat.le_of_ble_eq_true rfl) ?_
  intro x hg hl hPo hPx hmc hms F
  subst hg; subst hl
  refine SW.cast (L' := [(0, .ref o), (1, .int (jI s)), (2, .int (jI n)), (3, .int (jI t))]) ?_ rfl rfl rfl
  have hq1 := hB s.toNat
  have hn := hN s.toNat
  have hss := hSc s.toNat
  refine sw_aload_n (n := 1) F 0 (some o) rfl rfl rfl dX4_move_0 rfl ?_
  refine sw_iload_n (n := 2) F 1 rfl rfl dX4_move_1 rfl ?_
  refine sw_callS (n := 5) F (ct_X4_isShelf (g := xg x) (l := xl x) s hs) q3959 q3960 q120 q3961 nd_X4_isShelf rfl (by decide) [0, 1, 2, 3, 4, 5] rfl [tmO (xg x) o a z, aN (xg x) 0 (a 0) 2400 D, aN (xg x) 0 (a 1) 10 M, aL (xg x) (a 3) 12 N, aI (xg x) 0 (a 4) 12 Sc, aI (xg x) 4 (a 5) 12 Hs] rfl 0 0 ⟨by omega, by omega⟩ [.ref o] rfl (Nat.le_of_ble_eq_true rfl) dX4_move_2 rfl (fun _ _ h => h.elim) (fun v Ws h => ?_)
  obtain ⟨rfl, hs_1, rfl⟩ := h
  show SW x [tmO (xg x) o a z, aN (xg x) 0 (a 0) 2400 D, aN (xg x) 0 (a 1) 10 M, aL (xg x) (a 3) 12 N, aI (xg x) 0 (a 4) 12 Sc, aI (xg x) 4 (a 5) 12 Hs] _ _ _ _ [.int (jI (inI s 0 11)), .ref o]
  refine sw_if_eq (n := 8) F (by omega) (tgt := 15) dX4_move_5 (by decide) rfl (fun c_5 => ?_) (fun c_5 => ?_)
  ·
    refine sw_iconst (n := 16) F (1) (by decide) dX4_move_15 rfl ?_
    refine sw_goto F (n := 55) dX4_move_16 (by decide) ?_
    refine sw_callV (n := 58) F (ct_X4_fails (g := xg x) (l := xl x) o a z 1 (by first | assumption | omega)) (rcv_ob F 0 (ci := 3) rfl rfl) q3973 q3975 qs68 q120 q3976 nd_X4_fails rfl (by decide) [0, 1, 2, 3, 4, 5] rfl [aN (xg x) 0 (a 0) 2400 D, aN (xg x) 0 (a 1) 10 M, aL (xg x) (a 3) 12 N, aI (xg x) 0 (a 4) 12 Sc, aI (xg x) 4 (a 5) 12 Hs] rfl 0 0 ⟨by omega, by omega⟩ [] rfl (Nat.le_of_ble_eq_true rfl) dX4_move_55 rfl (fun _ _ h => h.elim) (fun v Ws h => ?_)
    obtain ⟨rfl, hps_2, rfl⟩ := h
    show SW x [tmO (xg x) o a (va_up z 8 1), aN (xg x) 0 (a 0) 2400 D, aN (xg x) 0 (a 1) 10 M, aL (xg x) (a 3) 12 N, aI (xg x) 0 (a 4) 12 Sc, aI (xg x) 4 (a 5) 12 Hs] _ _ _ _ [.int (jI 1)]
    refine sw_if_eq (n := 61) F (by decide) (tgt := 63) dX4_move_58 (by decide) rfl (fun c_58 => ?_) (fun c_58 => ?_)
    · exfalso; exact absurd c_58 (by decide)
    ·
      refine sw_iconst (n := 62) F (0) (by decide) dX4_move_61 rfl ?_
      have e : mvC s n t Hs ((N s.toNat).natAbs * 10 ^ (-(Sc s.toNat + n)).toNat) (grI 0 (Sc s.toNat + n)) = 1 := by unfold mvC; (repeat' split) <;> omega
      exact sw_iret F _ rfl (by first | rfl | exact jI_nz (by omega) | exact jI_nc (by omega)) dX4_move_62 (by rw [hPo]; exact ⟨D, M, (by rw [e]; first | rfl | (rw [if0_0, l1, up1_11, va_up_self])), (by exact (RV.rf hA).mono (S := []) (by simp)), (by simp only [e, up0_1, up_88])⟩)
  ·
    refine sw_iload_n (n := 9) F 3 rfl rfl dX4_move_8 rfl ?_
    refine sw_callS (n := 12) F (ct_X4_isShelf (g := xg x) (l := xl x) t ht) q3959 q3960 q120 q3961 nd_X4_isShelf rfl (by decide) [0, 1, 2, 3, 4, 5] rfl [tmO (xg x) o a z, aN (xg x) 0 (a 0) 2400 D, aN (xg x) 0 (a 1) 10 M, aL (xg x) (a 3) 12 N, aI (xg x) 0 (a 4) 12 Sc, aI (xg x) 4 (a 5) 12 Hs] rfl 0 0 ⟨by omega, by omega⟩ [.ref o] rfl (Nat.le_of_ble_eq_true rfl) dX4_move_9 rfl (fun _ _ h => h.elim) (fun v Ws h => ?_)
    obtain ⟨rfl, hs_3, rfl⟩ := h
    show SW x [tmO (xg x) o a z, aN (xg x) 0 (a 0) 2400 D, aN (xg x) 0 (a 1) 10 M, aL (xg x) (a 3) 12 N, aI (xg x) 0 (a 4) 12 Sc, aI (xg x) 4 (a 5) 12 Hs] _ _ _ _ [.int (jI (inI t 0 11)), .ref o]
    refine sw_if_ne (n := 15) F (by omega) (tgt := 19) dX4_move_12 (by decide) rfl (fun c_12 => ?_) (fun c_12 => ?_)
    ·
      refine sw_iload_n (n := 20) F 2 rfl rfl dX4_move_19 rfl ?_
      refine sw_if_eq (n := 23) F (by omega) (tgt := 37) dX4_move_20 (by decide) rfl (fun c_20 => ?_) (fun c_20 => ?_)
      ·
        refine sw_iconst (n := 38) F (2) (by decide) dX4_move_37 rfl ?_
        refine sw_goto F (n := 55) dX4_move_38 (by decide) ?_
        refine sw_callV (n := 58) F (ct_X4_fails (g := xg x) (l := xl x) o a z 2 (by first | assumption | omega)) (rcv_ob F 0 (ci := 3) rfl rfl) q3973 q3975 qs68 q120 q3976 nd_X4_fails rfl (by decide) [0, 1, 2, 3, 4, 5] rfl [aN (xg x) 0 (a 0) 2400 D, aN (xg x) 0 (a 1) 10 M, aL (xg x) (a 3) 12 N, aI (xg x) 0 (a 4) 12 Sc, aI (xg x) 4 (a 5) 12 Hs] rfl 0 0 ⟨by omega, by omega⟩ [] rfl (Nat.le_of_ble_eq_true rfl) dX4_move_55 rfl (fun _ _ h => h.elim) (fun v Ws h => ?_)
        obtain ⟨rfl, hps_4, rfl⟩ := h
        show SW x [tmO (xg x) o a (va_up z 8 2), aN (xg x) 0 (a 0) 2400 D, aN (xg x) 0 (a 1) 10 M, aL (xg x) (a 3) 12 N, aI (xg x) 0 (a 4) 12 Sc, aI (xg x) 4 (a 5) 12 Hs] _ _ _ _ [.int (jI 1)]
        refine sw_if_eq (n := 61) F (by decide) (tgt := 63) dX4_move_58 (by decide) rfl (fun c_58 => ?_) (fun c_58 => ?_)
        · exfalso; exact absurd c_58 (by decide)
        ·
          refine sw_iconst (n := 62) F (0) (by decide) dX4_move_61 rfl ?_
          have e : mvC s n t Hs ((N s.toNat).natAbs * 10 ^ (-(Sc s.toNat + n)).toNat) (grI 0 (Sc s.toNat + n)) = 2 := by unfold mvC; (repeat' split) <;> omega
          exact sw_iret F _ rfl (by first | rfl | exact jI_nz (by omega) | exact jI_nc (by omega)) dX4_move_62 (by rw [hPo]; exact ⟨D, M, (by rw [e]; first | rfl | (rw [if0_0, l1, up1_11, va_up_self])), (by exact (RV.rf hA).mono (S := []) (by simp)), (by simp only [e, up0_2, up_88])⟩)
      ·
        refine sw_iload_n (n := 24) F 2 rfl rfl dX4_move_23 rfl ?_
        refine sw_i2l (n := 25) F (by omega) dX4_move_24 rfl ?_
        refine sw_ldc2 (n := 28) F (-20) q4110 (by decide) dX4_move_25 rfl ?_
        refine sw_ldc2 (n := 31) F (20) q4111 (by decide) dX4_move_28 rfl ?_
        refine sw_callS (n := 34) F (ct_X4_in (g := xg x) (l := xl x) n (-20) 20 (by first | assumption | omega) (by first | assumption | omega) (by first | assumption | omega)) q3963 q3964 q120 q3965 nd_X4_in rfl (by decide) [0, 1, 2, 3, 4, 5] rfl [tmO (xg x) o a z, aN (xg x) 0 (a 0) 2400 D, aN (xg x) 0 (a 1) 10 M, aL (xg x) (a 3) 12 N, aI (xg x) 0 (a 4) 12 Sc, aI (xg x) 4 (a 5) 12 Hs] rfl 0 0 ⟨by omega, by omega⟩ [.ref o] rfl (Nat.le_of_ble_eq_true rfl) dX4_move_31 rfl (fun _ _ h => h.elim) (fun v Ws h => ?_)
        obtain ⟨rfl, hs_5, rfl⟩ := h
        show SW x [tmO (xg x) o a z, aN (xg x) 0 (a 0) 2400 D, aN (xg x) 0 (a 1) 10 M, aL (xg x) (a 3) 12 N, aI (xg x) 0 (a 4) 12 Sc, aI (xg x) 4 (a 5) 12 Hs] _ _ _ _ [.int (jI (inI n (-20) 20)), .ref o]
        refine sw_if_ne (n := 37) F (by omega) (tgt := 41) dX4_move_34 (by decide) rfl (fun c_34 => ?_) (fun c_34 => ?_)
        ·
          refine sw_aload_n (n := 42) F 0 (some o) rfl rfl rfl dX4_move_41 rfl ?_
          refine sw_get (n := 45) F 0 rfl (k := 5) ⟨(RX4, TX4, 50), rfl, by decide, q3804, in_X4, Or.inl rfl⟩ (v := .ref (a 5)) rfl dX4_move_42 rfl ?_
          refine sw_iload_n (n := 46) F 1 rfl rfl dX4_move_45 rfl ?_
          refine sw_zaloadI (n := 47) F 5 rfl (fun _ => rfl) ((s : Int).toNat) (by omega) (by omega) dX4_move_46 rfl ?_
          refine sw_if_ne (n := 50) F (by omega) (tgt := 54) dX4_move_47 (by decide) rfl (fun c_47 => ?_) (fun c_47 => ?_)
          ·
            refine sw_iconst (n := 55) F (0) (by decide) dX4_move_54 rfl ?_
            refine sw_callV (n := 58) F (ct_X4_fails (g := xg x) (l := xl x) o a z 0 (by first | assumption | omega)) (rcv_ob F 0 (ci := 3) rfl rfl) q3973 q3975 qs68 q120 q3976 nd_X4_fails rfl (by decide) [0, 1, 2, 3, 4, 5] rfl [aN (xg x) 0 (a 0) 2400 D, aN (xg x) 0 (a 1) 10 M, aL (xg x) (a 3) 12 N, aI (xg x) 0 (a 4) 12 Sc, aI (xg x) 4 (a 5) 12 Hs] rfl 0 0 ⟨by omega, by omega⟩ [] rfl (Nat.le_of_ble_eq_true rfl) dX4_move_55 rfl (fun _ _ h => h.elim) (fun v Ws h => ?_)
            obtain ⟨rfl, hps_6, rfl⟩ := h
            show SW x [tmO (xg x) o a (va_up z 8 0), aN (xg x) 0 (a 0) 2400 D, aN (xg x) 0 (a 1) 10 M, aL (xg x) (a 3) 12 N, aI (xg x) 0 (a 4) 12 Sc, aI (xg x) 4 (a 5) 12 Hs] _ _ _ _ [.int (jI 0)]
            refine sw_if_eq (n := 61) F (by decide) (tgt := 63) dX4_move_58 (by decide) rfl (fun c_58 => ?_) (fun c_58 => ?_)
            ·
              refine SW.cast (L' := [(0, .ref o), (1, .int (jI (↑(s.toNat)))), (2, .int (jI n)), (3, .int (jI (↑(t.toNat))))]) ?_ rfl (by rw [Int.toNat_of_nonneg (show 0 ≤ s by omega), Int.toNat_of_nonneg (show 0 ≤ t by omega)]) rfl
              have hx1 := b76 (l76 (e := (-(Sc s.toNat + n)).toNat) (abs_18 hn) (by omega))
              have hgc := grI_cases 0 (Sc s.toNat + n)
              refine sw_aload_n (n := 64) F 0 (some o) rfl rfl rfl dX4_move_63 rfl ?_
              refine sw_get (n := 67) F 0 rfl (k := 4) ⟨(RX4, TX4, 50), rfl, by decide, q3803, in_X4, Or.inl rfl⟩ (v := .ref (a 4)) rfl dX4_move_64 rfl ?_
              refine sw_iload_n (n := 68) F 1 rfl rfl dX4_move_67 rfl ?_
              refine sw_ialoadI (n := 69) F 4 rfl (fun _ => rfl) s.toNat (by omega) (by omega) dX4_move_68 rfl ?_
              refine sw_iload_n (n := 70) F 2 rfl rfl dX4_move_69 rfl ?_
              refine sw_iadd (n := 71) F dX4_move_70 rfl ?_
              refine sw_istore (n := 73) F (L2 := [(4, .int (jI ((Sc s.toNat) + n))), (0, .ref o), (1, .int (jI (↑(s.toNat)))), (2, .int (jI n)), (3, .int (jI (↑(t.toNat))))]) rfl (by decide) dX4_move_71 rfl ?_
              refine sw_aload_n (n := 74) F 1 (some o) rfl rfl rfl dX4_move_73 rfl ?_
              refine sw_iconst (n := 75) F (4) (by decide) dX4_move_74 rfl ?_
              refine sw_aload_n (n := 76) F 1 (some o) rfl rfl rfl dX4_move_75 rfl ?_
              refine sw_get (n := 79) F 0 rfl (k := 3) ⟨(RX4, TX4, 50), rfl, by decide, q3802, in_X4, Or.inl rfl⟩ (v := .ref (a 3)) rfl dX4_move_76 rfl ?_
              refine sw_iload_n (n := 80) F 2 rfl rfl dX4_move_79 rfl ?_
              refine sw_laloadL (n := 81) F 3 rfl (fun _ => rfl) s.toNat (by omega) (by omega) dX4_move_80 rfl ?_
              refine sw_callV (n := 84) F (ct_X4_lets (g := xg x) (l := xl x) o a (va_up z 8 0) D M 4 (N s.toNat) (by first | assumption | omega) hA (by first | assumption | omega)) (rcv_ob F 0 (ci := 3) rfl rfl) q4004 q4006 qs71 q120 q4007 nd_X4_lets rfl (by decide) [0, 1, 2, 3, 4, 5] rfl [aL (xg x) (a 3) 12 N, aI (xg x) 0 (a 4) 12 Sc, aI (xg x) 4 (a 5) 12 Hs] rfl 0 0 ⟨by omega, by omega⟩ [] rfl (Nat.le_of_ble_eq_true rfl) dX4_move_81 rfl (fun _ _ h => h.elim) (fun v Ws h => ?_)
              obtain ⟨D1_7, M1_8, rfl, hU_9, rfl⟩ := h
              show SW x [tmO (xg x) o a (va_up z 8 0), aN (xg x) 0 (a 0) 2400 D1_7, aN (xg x) 0 (a 1) 10 M1_8, aL (xg x) (a 3) 12 N, aI (xg x) 0 (a 4) 12 Sc, aI (xg x) 4 (a 5) 12 Hs] _ _ _ _ []
              have a_10 := hU_9.1
              have r_11 : rok D1_7 M1_8 4 ((N s.toNat).natAbs) := hU_9.2.2.2
              have v_12 := hU_9.rv
              refine sw_aload_n (n := 85) F 1 (some o) rfl rfl rfl dX4_move_84 rfl ?_
              refine sw_iconst (n := 86) F (4) (by decide) dX4_move_85 rfl ?_
              refine sw_iload (n := 88) F 0 rfl dX4_move_86 rfl ?_
              refine sw_ineg (n := 89) F dX4_move_88 rfl ?_
              refine sw_callV (n := 92) F (ct_X4_shifts (g := xg x) (l := xl x) o a (va_up z 8 0) D1_7 M1_8 4 (-((Sc s.toNat) + n)) ((N s.toNat).natAbs) (by first | assumption | omega) a_10 r_11 (by first | assumption | omega) (by first | assumption | omega)) (rcv_ob F 0 (ci := 3) rfl rfl) q4000 q4002 qs70 q120 q4003 nd_X4_shifts rfl (by decide) [0, 1, 2, 3, 4, 5] rfl [aL (xg x) (a 3) 12 N, aI (xg x) 0 (a 4) 12 Sc, aI (xg x) 4 (a 5) 12 Hs] rfl 0 0 ⟨by omega, by omega⟩ [] rfl (Nat.le_of_ble_eq_true rfl) dX4_move_89 rfl (fun _ _ h => h.elim) (fun v Ws h => ?_)
              obtain ⟨D1_13, M1_14, rfl, hU_15, rfl⟩ := h
              show SW x [tmO (xg x) o a (va_up z 8 0), aN (xg x) 0 (a 0) 2400 D1_13, aN (xg x) 0 (a 1) 10 M1_14, aL (xg x) (a 3) 12 N, aI (xg x) 0 (a 4) 12 Sc, aI (xg x) 4 (a 5) 12 Hs] _ _ _ _ []
              have a_16 := hU_15.1
              have r_17 : rok D1_13 M1_14 4 (((N s.toNat).natAbs) * 10 ^ (-((Sc s.toNat) + n)).toNat) := hU_15.2.2.2
              have v_18 := (v_12.mono (T := [4]) (by simp)).trans hU_15.rv (by simp)
              refine sw_aload_n (n := 93) F 1 (some o) rfl rfl rfl dX4_move_92 rfl ?_
              refine sw_aload_n (n := 94) F 1 (some o) rfl rfl rfl dX4_move_93 rfl ?_
              refine sw_iload_n (n := 95) F 4 rfl rfl dX4_move_94 rfl ?_
              refine sw_iconst (n := 96) F (4) (by decide) dX4_move_95 rfl ?_
              refine sw_aload_n (n := 97) F 1 (some o) rfl rfl rfl dX4_move_96 rfl ?_
              refine sw_get (n := 100) F 0 rfl (k := 3) ⟨(RX4, TX4, 50), rfl, by decide, q3802, in_X4, Or.inl rfl⟩ (v := .ref (a 3)) rfl dX4_move_97 rfl ?_
              refine sw_iload_n (n := 101) F 2 rfl rfl dX4_move_100 rfl ?_
              refine sw_laloadL (n := 102) F 3 rfl (fun _ => rfl) s.toNat (by omega) (by omega) dX4_move_101 rfl ?_
              refine sw_lconst (n := 103) F 0 (by decide) dX4_move_102 rfl ?_
              refine sw_lcmp (n := 104) F (by omega) (by decide) dX4_move_103 rfl ?_
              refine sw_if_ge (n := 107) F (by omega) (tgt := 111) dX4_move_104 (by decide) rfl (fun c_104 => ?_) (fun c_104 => ?_)
              ·
                have c_104 : N s.toNat ≥ 0 := by revert c_104; (repeat' split) <;> omega
                refine sw_iconst (n := 112) F (0) (by decide) dX4_move_111 rfl ?_
                refine sw_iconst (n := 113) F (0) (by decide) dX4_move_112 rfl ?_
                refine sw_iload (n := 115) F 0 rfl dX4_move_113 rfl ?_
                refine sw_callS (n := 118) F (ct_X4_greater (g := xg x) (l := xl x) 0 ((Sc s.toNat) + n) (by first | assumption | omega) (by first | assumption | omega)) q4060 q4061 q120 q4062 nd_X4_greater rfl (by decide) [0, 1, 2, 3, 4, 5] rfl [tmO (xg x) o a (va_up z 8 0), aN (xg x) 0 (a 0) 2400 D1_13, aN (xg x) 0 (a 1) 10 M1_14, aL (xg x) (a 3) 12 N, aI (xg x) 0 (a 4) 12 Sc, aI (xg x) 4 (a 5) 12 Hs] rfl 0 0 ⟨by omega, by omega⟩ [.int (jI 0), .int (jI 4), .int (jI (↑(t.toNat))), .ref o, .ref o] rfl (Nat.le_of_ble_eq_true rfl) dX4_move_115 rfl (fun _ _ h => h.elim) (fun v Ws h => ?_)
                obtain ⟨rfl, hgr_19, rfl⟩ := h
                show SW x [tmO (xg x) o a (va_up z 8 0), aN (xg x) 0 (a 0) 2400 D1_13, aN (xg x) 0 (a 1) 10 M1_14, aL (xg x) (a 3) 12 N, aI (xg x) 0 (a 4) 12 Sc, aI (xg x) 4 (a 5) 12 Hs] _ _ _ _ [.int (jI (grI 0 ((Sc s.toNat) + n))), .int (jI 0), .int (jI 4), .int (jI (↑(t.toNat))), .ref o, .ref o]
                rw [show (↑(t.toNat) : Int) = ↑t.toNat by omega]
                refine sw_callV (n := 121) F (ct_X4_lays (g := xg x) (l := xl x) o a (va_up z 8 0) D1_13 M1_14 N Sc Hs t.toNat 4 (((N s.toNat).natAbs) * 10 ^ (-((Sc s.toNat) + n)).toNat) 0 (grI 0 ((Sc s.toNat) + n)) (by first | assumption | omega) (by first | assumption | omega) a_16 r_17 (by first | assumption | omega) (by first | assumption | omega)) (rcv_ob F 0 (ci := 3) rfl rfl) q4020 q4022 qs75 q120 q4023 nd_X4_lays rfl (by decide) [0, 1, 2, 3, 4, 5] rfl [] rfl 0 0 ⟨by omega, by omega⟩ [.ref o] rfl (Nat.le_of_ble_eq_true rfl) dX4_move_118 rfl (fun _ _ h => h.elim) (fun v Ws h => ?_)
                obtain ⟨rfl, hl_20, rfl⟩ := h
                show SW x [tmO (xg x) o a (va_up z 8 0), aN (xg x) 0 (a 0) 2400 D1_13, aN (xg x) 0 (a 1) 10 M1_14, aL (xg x) (a 3) 12 (up1 (laI (((N s.toNat).natAbs) * 10 ^ (-((Sc s.toNat) + n)).toNat) (grI 0 ((Sc s.toNat) + n))) N t.toNat (sgn 0 (((N s.toNat).natAbs) * 10 ^ (-((Sc s.toNat) + n)).toNat))), aI (xg x) 0 (a 4) 12 (up1 (laI (((N s.toNat).natAbs) * 10 ^ (-((Sc s.toNat) + n)).toNat) (grI 0 ((Sc s.toNat) + n))) Sc t.toNat (grI 0 ((Sc s.toNat) + n))), aI (xg x) 4 (a 5) 12 (up1 (laI (((N s.toNat).natAbs) * 10 ^ (-((Sc s.toNat) + n)).toNat) (grI 0 ((Sc s.toNat) + n))) Hs t.toNat 1)] _ _ _ _ [.int (jI (laI (((N s.toNat).natAbs) * 10 ^ (-((Sc s.toNat) + n)).toNat) (grI 0 ((Sc s.toNat) + n)))), .ref o]
                refine sw_if_eq (n := 124) F (by omega) (tgt := 128) dX4_move_121 (by decide) rfl (fun c_121 => ?_) (fun c_121 => ?_)
                ·
                  refine sw_iconst (n := 129) F (4) (by decide) dX4_move_128 rfl ?_
                  refine sw_callV (n := 132) F (ct_X4_fails (g := xg x) (l := xl x) o a (va_up z 8 0) 4 (by first | assumption | omega)) (rcv_ob F 0 (ci := 3) rfl rfl) q3973 q3975 qs68 q120 q3976 nd_X4_fails rfl (by decide) [0, 1, 2, 3, 4, 5] rfl [aN (xg x) 0 (a 0) 2400 D1_13, aN (xg x) 0 (a 1) 10 M1_14, aL (xg x) (a 3) 12 (up1 (laI (((N s.toNat).natAbs) * 10 ^ (-((Sc s.toNat) + n)).toNat) (grI 0 ((Sc s.toNat) + n))) N t.toNat (sgn 0 (((N s.toNat).natAbs) * 10 ^ (-((Sc s.toNat) + n)).toNat))), aI (xg x) 0 (a 4) 12 (up1 (laI (((N s.toNat).natAbs) * 10 ^ (-((Sc s.toNat) + n)).toNat) (grI 0 ((Sc s.toNat) + n))) Sc t.toNat (grI 0 ((Sc s.toNat) + n))), aI (xg x) 4 (a 5) 12 (up1 (laI (((N s.toNat).natAbs) * 10 ^ (-((Sc s.toNat) + n)).toNat) (grI 0 ((Sc s.toNat) + n))) Hs t.toNat 1)] rfl 0 0 ⟨by omega, by omega⟩ [] rfl (Nat.le_of_ble_eq_true rfl) dX4_move_129 rfl (fun _ _ h => h.elim) (fun v Ws h => ?_)
                  obtain ⟨rfl, hps_21, rfl⟩ := h
                  show SW x [tmO (xg x) o a (va_up (va_up z 8 0) 8 4), aN (xg x) 0 (a 0) 2400 D1_13, aN (xg x) 0 (a 1) 10 M1_14, aL (xg x) (a 3) 12 (up1 (laI (((N s.toNat).natAbs) * 10 ^ (-((Sc s.toNat) + n)).toNat) (grI 0 ((Sc s.toNat) + n))) N t.toNat (sgn 0 (((N s.toNat).natAbs) * 10 ^ (-((Sc s.toNat) + n)).toNat))), aI (xg x) 0 (a 4) 12 (up1 (laI (((N s.toNat).natAbs) * 10 ^ (-((Sc s.toNat) + n)).toNat) (grI 0 ((Sc s.toNat) + n))) Sc t.toNat (grI 0 ((Sc s.toNat) + n))), aI (xg x) 4 (a 5) 12 (up1 (laI (((N s.toNat).natAbs) * 10 ^ (-((Sc s.toNat) + n)).toNat) (grI 0 ((Sc s.toNat) + n))) Hs t.toNat 1)] _ _ _ _ [.int (jI 1)]
                  refine sw_if_eq (n := 135) F (by decide) (tgt := 139) dX4_move_132 (by decide) rfl (fun c_132 => ?_) (fun c_132 => ?_)
                  · exfalso; exact absurd c_132 (by decide)
                  ·
                    refine sw_iconst (n := 136) F (0) (by decide) dX4_move_135 rfl ?_
                    refine sw_goto F (n := 145) dX4_move_136 (by decide) ?_
                    have e : mvC s n t Hs ((N s.toNat).natAbs * 10 ^ (-(Sc s.toNat + n)).toNat) (grI 0 (Sc s.toNat + n)) = 4 := by unfold mvC; (repeat' split) <;> omega
                    exact sw_iret F _ rfl (by first | rfl | exact jI_nz (by omega) | exact jI_nc (by omega)) dX4_move_145 (by rw [hPo]; exact ⟨D1_13, M1_14, (by rw [e]; first | rfl | (rw [if0_0, l1, up1_11, va_up_self])), v_18, (by simp only [e, up0_4, up_88, c_121, up1_00])⟩)
                ·
                  refine sw_iconst (n := 125) F (0) (by decide) dX4_move_124 rfl ?_
                  refine sw_goto F (n := 129) dX4_move_125 (by decide) ?_
                  refine sw_callV (n := 132) F (ct_X4_fails (g := xg x) (l := xl x) o a (va_up z 8 0) 0 (by first | assumption | omega)) (rcv_ob F 0 (ci := 3) rfl rfl) q3973 q3975 qs68 q120 q3976 nd_X4_fails rfl (by decide) [0, 1, 2, 3, 4, 5] rfl [aN (xg x) 0 (a 0) 2400 D1_13, aN (xg x) 0 (a 1) 10 M1_14, aL (xg x) (a 3) 12 (up1 (laI (((N s.toNat).natAbs) * 10 ^ (-((Sc s.toNat) + n)).toNat) (grI 0 ((Sc s.toNat) + n))) N t.toNat (sgn 0 (((N s.toNat).natAbs) * 10 ^ (-((Sc s.toNat) + n)).toNat))), aI (xg x) 0 (a 4) 12 (up1 (laI (((N s.toNat).natAbs) * 10 ^ (-((Sc s.toNat) + n)).toNat) (grI 0 ((Sc s.toNat) + n))) Sc t.toNat (grI 0 ((Sc s.toNat) + n))), aI (xg x) 4 (a 5) 12 (up1 (laI (((N s.toNat).natAbs) * 10 ^ (-((Sc s.toNat) + n)).toNat) (grI 0 ((Sc s.toNat) + n))) Hs t.toNat 1)] rfl 0 0 ⟨by omega, by omega⟩ [] rfl (Nat.le_of_ble_eq_true rfl) dX4_move_129 rfl (fun _ _ h => h.elim) (fun v Ws h => ?_)
                  obtain ⟨rfl, hps_22, rfl⟩ := h
                  show SW x [tmO (xg x) o a (va_up (va_up z 8 0) 8 0), aN (xg x) 0 (a 0) 2400 D1_13, aN (xg x) 0 (a 1) 10 M1_14, aL (xg x) (a 3) 12 (up1 (laI (((N s.toNat).natAbs) * 10 ^ (-((Sc s.toNat) + n)).toNat) (grI 0 ((Sc s.toNat) + n))) N t.toNat (sgn 0 (((N s.toNat).natAbs) * 10 ^ (-((Sc s.toNat) + n)).toNat))), aI (xg x) 0 (a 4) 12 (up1 (laI (((N s.toNat).natAbs) * 10 ^ (-((Sc s.toNat) + n)).toNat) (grI 0 ((Sc s.toNat) + n))) Sc t.toNat (grI 0 ((Sc s.toNat) + n))), aI (xg x) 4 (a 5) 12 (up1 (laI (((N s.toNat).natAbs) * 10 ^ (-((Sc s.toNat) + n)).toNat) (grI 0 ((Sc s.toNat) + n))) Hs t.toNat 1)] _ _ _ _ [.int (jI 0)]
                  refine sw_if_eq (n := 135) F (by decide) (tgt := 139) dX4_move_132 (by decide) rfl (fun c_132 => ?_) (fun c_132 => ?_)
                  ·
                    refine sw_aload_n (n := 140) F 1 (some o) rfl rfl rfl dX4_move_139 rfl ?_
                    refine sw_get (n := 143) F 0 rfl (k := 4) ⟨(RX4, TX4, 50), rfl, by decide, q3803, in_X4, Or.inl rfl⟩ (v := .ref (a 4)) rfl dX4_move_140 rfl ?_
                    refine sw_iload_n (n := 144) F 4 rfl rfl dX4_move_143 rfl ?_
                    refine sw_ialoadI (n := 145) F 4 rfl (fun _ => rfl) t.toNat rfl (by omega) dX4_move_144 rfl ?_
                    have e : mvC s n t Hs ((N s.toNat).natAbs * 10 ^ (-(Sc s.toNat + n)).toNat) (grI 0 (Sc s.toNat + n)) = 0 := by unfold mvC; (repeat' split) <;> omega
                    have l1 : laI ((N s.toNat).natAbs * 10 ^ (-(Sc s.toNat + n)).toNat) (grI 0 (Sc s.toNat + n)) = 1 := by omega
                    exact sw_iret F _ rfl (by first | rfl | exact jI_nz (by omega) | exact jI_nc (by omega)) dX4_move_145 (by rw [hPo]; exact ⟨D1_13, M1_14, (by rw [e]; first | rfl | (rw [if0_0, l1, up1_11, va_up_self])), v_18, (by simp only [e, up0_0, up_88, l1, up1_11]; first | rfl | rw [bl_1 (by omega)] | rw [bl_0 (by omega)])⟩)
                  · exfalso; exact absurd c_132 (by decide)
              ·
                have c_104 : N s.toNat < 0 := by revert c_104; (repeat' split) <;> omega
                refine sw_iconst (n := 108) F (1) (by decide) dX4_move_107 rfl ?_
                refine sw_goto F (n := 112) dX4_move_108 (by decide) ?_
                refine sw_iconst (n := 113) F (0) (by decide) dX4_move_112 rfl ?_
                refine sw_iload (n := 115) F 0 rfl dX4_move_113 rfl ?_
                refine sw_callS (n := 118) F (ct_X4_greater (g := xg x) (l := xl x) 0 ((Sc s.toNat) + n) (by first | assumption | omega) (by first | assumption | omega)) q4060 q4061 q120 q4062 nd_X4_greater rfl (by decide) [0, 1, 2, 3, 4, 5] rfl [tmO (xg x) o a (va_up z 8 0), aN (xg x) 0 (a 0) 2400 D1_13, aN (xg x) 0 (a 1) 10 M1_14, aL (xg x) (a 3) 12 N, aI (xg x) 0 (a 4) 12 Sc, aI (xg x) 4 (a 5) 12 Hs] rfl 0 0 ⟨by omega, by omega⟩ [.int (jI 1), .int (jI 4), .int (jI (↑(t.toNat))), .ref o, .ref o] rfl (Nat.le_of_ble_eq_true rfl) dX4_move_115 rfl (fun _ _ h => h.elim) (fun v Ws h => ?_)
                obtain ⟨rfl, hgr_23, rfl⟩ := h
                show SW x [tmO (xg x) o a (va_up z 8 0), aN (xg x) 0 (a 0) 2400 D1_13, aN (xg x) 0 (a 1) 10 M1_14, aL (xg x) (a 3) 12 N, aI (xg x) 0 (a 4) 12 Sc, aI (xg x) 4 (a 5) 12 Hs] _ _ _ _ [.int (jI (grI 0 ((Sc s.toNat) + n))), .int (jI 1), .int (jI 4), .int (jI (↑(t.toNat))), .ref o, .ref o]
                rw [show (↑(t.toNat) : Int) = ↑t.toNat by omega]
                refine sw_callV (n := 121) F (ct_X4_lays (g := xg x) (l := xl x) o a (va_up z 8 0) D1_13 M1_14 N Sc Hs t.toNat 4 (((N s.toNat).natAbs) * 10 ^ (-((Sc s.toNat) + n)).toNat) 1 (grI 0 ((Sc s.toNat) + n)) (by first | assumption | omega) (by first | assumption | omega) a_16 r_17 (by first | assumption | omega) (by first | assumption | omega)) (rcv_ob F 0 (ci := 3) rfl rfl) q4020 q4022 qs75 q120 q4023 nd_X4_lays rfl (by decide) [0, 1, 2, 3, 4, 5] rfl [] rfl 0 0 ⟨by omega, by omega⟩ [.ref o] rfl (Nat.le_of_ble_eq_true rfl) dX4_move_118 rfl (fun _ _ h => h.elim) (fun v Ws h => ?_)
                obtain ⟨rfl, hl_24, rfl⟩ := h
                show SW x [tmO (xg x) o a (va_up z 8 0), aN (xg x) 0 (a 0) 2400 D1_13, aN (xg x) 0 (a 1) 10 M1_14, aL (xg x) (a 3) 12 (up1 (laI (((N s.toNat).natAbs) * 10 ^ (-((Sc s.toNat) + n)).toNat) (grI 0 ((Sc s.toNat) + n))) N t.toNat (sgn 1 (((N s.toNat).natAbs) * 10 ^ (-((Sc s.toNat) + n)).toNat))), aI (xg x) 0 (a 4) 12 (up1 (laI (((N s.toNat).natAbs) * 10 ^ (-((Sc s.toNat) + n)).toNat) (grI 0 ((Sc s.toNat) + n))) Sc t.toNat (grI 0 ((Sc s.toNat) + n))), aI (xg x) 4 (a 5) 12 (up1 (laI (((N s.toNat).natAbs) * 10 ^ (-((Sc s.toNat) + n)).toNat) (grI 0 ((Sc s.toNat) + n))) Hs t.toNat 1)] _ _ _ _ [.int (jI (laI (((N s.toNat).natAbs) * 10 ^ (-((Sc s.toNat) + n)).toNat) (grI 0 ((Sc s.toNat) + n)))), .ref o]
                refine sw_if_eq (n := 124) F (by omega) (tgt := 128) dX4_move_121 (by decide) rfl (fun c_121 => ?_) (fun c_121 => ?_)
                ·
                  refine sw_iconst (n := 129) F (4) (by decide) dX4_move_128 rfl ?_
                  refine sw_callV (n := 132) F (ct_X4_fails (g := xg x) (l := xl x) o a (va_up z 8 0) 4 (by first | assumption | omega)) (rcv_ob F 0 (ci := 3) rfl rfl) q3973 q3975 qs68 q120 q3976 nd_X4_fails rfl (by decide) [0, 1, 2, 3, 4, 5] rfl [aN (xg x) 0 (a 0) 2400 D1_13, aN (xg x) 0 (a 1) 10 M1_14, aL (xg x) (a 3) 12 (up1 (laI (((N s.toNat).natAbs) * 10 ^ (-((Sc s.toNat) + n)).toNat) (grI 0 ((Sc s.toNat) + n))) N t.toNat (sgn 1 (((N s.toNat).natAbs) * 10 ^ (-((Sc s.toNat) + n)).toNat))), aI (xg x) 0 (a 4) 12 (up1 (laI (((N s.toNat).natAbs) * 10 ^ (-((Sc s.toNat) + n)).toNat) (grI 0 ((Sc s.toNat) + n))) Sc t.toNat (grI 0 ((Sc s.toNat) + n))), aI (xg x) 4 (a 5) 12 (up1 (laI (((N s.toNat).natAbs) * 10 ^ (-((Sc s.toNat) + n)).toNat) (grI 0 ((Sc s.toNat) + n))) Hs t.toNat 1)] rfl 0 0 ⟨by omega, by omega⟩ [] rfl (Nat.le_of_ble_eq_true rfl) dX4_move_129 rfl (fun _ _ h => h.elim) (fun v Ws h => ?_)
                  obtain ⟨rfl, hps_25, rfl⟩ := h
                  show SW x [tmO (xg x) o a (va_up (va_up z 8 0) 8 4), aN (xg x) 0 (a 0) 2400 D1_13, aN (xg x) 0 (a 1) 10 M1_14, aL (xg x) (a 3) 12 (up1 (laI (((N s.toNat).natAbs) * 10 ^ (-((Sc s.toNat) + n)).toNat) (grI 0 ((Sc s.toNat) + n))) N t.toNat (sgn 1 (((N s.toNat).natAbs) * 10 ^ (-((Sc s.toNat) + n)).toNat))), aI (xg x) 0 (a 4) 12 (up1 (laI (((N s.toNat).natAbs) * 10 ^ (-((Sc s.toNat) + n)).toNat) (grI 0 ((Sc s.toNat) + n))) Sc t.toNat (grI 0 ((Sc s.toNat) + n))), aI (xg x) 4 (a 5) 12 (up1 (laI (((N s.toNat).natAbs) * 10 ^ (-((Sc s.toNat) + n)).toNat) (grI 0 ((Sc s.toNat) + n))) Hs t.toNat 1)] _ _ _ _ [.int (jI 1)]
                  refine sw_if_eq (n := 135) F (by decide) (tgt := 139) dX4_move_132 (by decide) rfl (fun c_132 => ?_) (fun c_132 => ?_)
                  · exfalso; exact absurd c_132 (by decide)
                  ·
                    refine sw_iconst (n := 136) F (0) (by decide) dX4_move_135 rfl ?_
                    refine sw_goto F (n := 145) dX4_move_136 (by decide) ?_
                    have e : mvC s n t Hs ((N s.toNat).natAbs * 10 ^ (-(Sc s.toNat + n)).toNat) (grI 0 (Sc s.toNat + n)) = 4 := by unfold mvC; (repeat' split) <;> omega
                    exact sw_iret F _ rfl (by first | rfl | exact jI_nz (by omega) | exact jI_nc (by omega)) dX4_move_145 (by rw [hPo]; exact ⟨D1_13, M1_14, (by rw [e]; first | rfl | (rw [if0_0, l1, up1_11, va_up_self])), v_18, (by simp only [e, up0_4, up_88, c_121, up1_00])⟩)
                ·
                  refine sw_iconst (n := 125) F (0) (by decide) dX4_move_124 rfl ?_
                  refine sw_goto F (n := 129) dX4_move_125 (by decide) ?_
                  refine sw_callV (n := 132) F (ct_X4_fails (g := xg x) (l := xl x) o a (va_up z 8 0) 0 (by first | assumption | omega)) (rcv_ob F 0 (ci := 3) rfl rfl) q3973 q3975 qs68 q120 q3976 nd_X4_fails rfl (by decide) [0, 1, 2, 3, 4, 5] rfl [aN (xg x) 0 (a 0) 2400 D1_13, aN (xg x) 0 (a 1) 10 M1_14, aL (xg x) (a 3) 12 (up1 (laI (((N s.toNat).natAbs) * 10 ^ (-((Sc s.toNat) + n)).toNat) (grI 0 ((Sc s.toNat) + n))) N t.toNat (sgn 1 (((N s.toNat).natAbs) * 10 ^ (-((Sc s.toNat) + n)).toNat))), aI (xg x) 0 (a 4) 12 (up1 (laI (((N s.toNat).natAbs) * 10 ^ (-((Sc s.toNat) + n)).toNat) (grI 0 ((Sc s.toNat) + n))) Sc t.toNat (grI 0 ((Sc s.toNat) + n))), aI (xg x) 4 (a 5) 12 (up1 (laI (((N s.toNat).natAbs) * 10 ^ (-((Sc s.toNat) + n)).toNat) (grI 0 ((Sc s.toNat) + n))) Hs t.toNat 1)] rfl 0 0 ⟨by omega, by omega⟩ [] rfl (Nat.le_of_ble_eq_true rfl) dX4_move_129 rfl (fun _ _ h => h.elim) (fun v Ws h => ?_)
                  obtain ⟨rfl, hps_26, rfl⟩ := h
                  show SW x [tmO (xg x) o a (va_up (va_up z 8 0) 8 0), aN (xg x) 0 (a 0) 2400 D1_13, aN (xg x) 0 (a 1) 10 M1_14, aL (xg x) (a 3) 12 (up1 (laI (((N s.toNat).natAbs) * 10 ^ (-((Sc s.toNat) + n)).toNat) (grI 0 ((Sc s.toNat) + n))) N t.toNat (sgn 1 (((N s.toNat).natAbs) * 10 ^ (-((Sc s.toNat) + n)).toNat))), aI (xg x) 0 (a 4) 12 (up1 (laI (((N s.toNat).natAbs) * 10 ^ (-((Sc s.toNat) + n)).toNat) (grI 0 ((Sc s.toNat) + n))) Sc t.toNat (grI 0 ((Sc s.toNat) + n))), aI (xg x) 4 (a 5) 12 (up1 (laI (((N s.toNat).natAbs) * 10 ^ (-((Sc s.toNat) + n)).toNat) (grI 0 ((Sc s.toNat) + n))) Hs t.toNat 1)] _ _ _ _ [.int (jI 0)]
                  refine sw_if_eq (n := 135) F (by decide) (tgt := 139) dX4_move_132 (by decide) rfl (fun c_132 => ?_) (fun c_132 => ?_)
                  ·
                    refine sw_aload_n (n := 140) F 1 (some o) rfl rfl rfl dX4_move_139 rfl ?_
                    refine sw_get (n := 143) F 0 rfl (k := 4) ⟨(RX4, TX4, 50), rfl, by decide, q3803, in_X4, Or.inl rfl⟩ (v := .ref (a 4)) rfl dX4_move_140 rfl ?_
                    refine sw_iload_n (n := 144) F 4 rfl rfl dX4_move_143 rfl ?_
                    refine sw_ialoadI (n := 145) F 4 rfl (fun _ => rfl) t.toNat rfl (by omega) dX4_move_144 rfl ?_
                    have e : mvC s n t Hs ((N s.toNat).natAbs * 10 ^ (-(Sc s.toNat + n)).toNat) (grI 0 (Sc s.toNat + n)) = 0 := by unfold mvC; (repeat' split) <;> omega
                    have l1 : laI ((N s.toNat).natAbs * 10 ^ (-(Sc s.toNat + n)).toNat) (grI 0 (Sc s.toNat + n)) = 1 := by omega
                    exact sw_iret F _ rfl (by first | rfl | exact jI_nz (by omega) | exact jI_nc (by omega)) dX4_move_145 (by rw [hPo]; exact ⟨D1_13, M1_14, (by rw [e]; first | rfl | (rw [if0_0, l1, up1_11, va_up_self])), v_18, (by simp only [e, up0_0, up_88, l1, up1_11]; first | rfl | rw [bl_1 (by omega)] | rw [bl_0 (by omega)])⟩)
                  · exfalso; exact absurd c_132 (by decide)
            · exfalso; exact absurd c_58 (by decide)
          ·
            refine sw_iconst (n := 51) F (3) (by decide) dX4_move_50 rfl ?_
            refine sw_goto F (n := 55) dX4_move_51 (by decide) ?_
            refine sw_callV (n := 58) F (ct_X4_fails (g := xg x) (l := xl x) o a z 3 (by first | assumption | omega)) (rcv_ob F 0 (ci := 3) rfl rfl) q3973 q3975 qs68 q120 q3976 nd_X4_fails rfl (by decide) [0, 1, 2, 3, 4, 5] rfl [aN (xg x) 0 (a 0) 2400 D, aN (xg x) 0 (a 1) 10 M, aL (xg x) (a 3) 12 N, aI (xg x) 0 (a 4) 12 Sc, aI (xg x) 4 (a 5) 12 Hs] rfl 0 0 ⟨by omega, by omega⟩ [] rfl (Nat.le_of_ble_eq_true rfl) dX4_move_55 rfl (fun _ _ h => h.elim) (fun v Ws h => ?_)
            obtain ⟨rfl, hps_27, rfl⟩ := h
            show SW x [tmO (xg x) o a (va_up z 8 3), aN (xg x) 0 (a 0) 2400 D, aN (xg x) 0 (a 1) 10 M, aL (xg x) (a 3) 12 N, aI (xg x) 0 (a 4) 12 Sc, aI (xg x) 4 (a 5) 12 Hs] _ _ _ _ [.int (jI 1)]
            refine sw_if_eq (n := 61) F (by decide) (tgt := 63) dX4_move_58 (by decide) rfl (fun c_58 => ?_) (fun c_58 => ?_)
            · exfalso; exact absurd c_58 (by decide)
            ·
              refine sw_iconst (n := 62) F (0) (by decide) dX4_move_61 rfl ?_
              have e : mvC s n t Hs ((N s.toNat).natAbs * 10 ^ (-(Sc s.toNat + n)).toNat) (grI 0 (Sc s.toNat + n)) = 3 := by unfold mvC; (repeat' split) <;> omega
              exact sw_iret F _ rfl (by first | rfl | exact jI_nz (by omega) | exact jI_nc (by omega)) dX4_move_62 (by rw [hPo]; exact ⟨D, M, (by rw [e]; first | rfl | (rw [if0_0, l1, up1_11, va_up_self])), (by exact (RV.rf hA).mono (S := []) (by simp)), (by simp only [e, up0_3, up_88])⟩)
        ·
          refine sw_iconst (n := 38) F (2) (by decide) dX4_move_37 rfl ?_
          refine sw_goto F (n := 55) dX4_move_38 (by decide) ?_
          refine sw_callV (n := 58) F (ct_X4_fails (g := xg x) (l := xl x) o a z 2 (by first | assumption | omega)) (rcv_ob F 0 (ci := 3) rfl rfl) q3973 q3975 qs68 q120 q3976 nd_X4_fails rfl (by decide) [0, 1, 2, 3, 4, 5] rfl [aN (xg x) 0 (a 0) 2400 D, aN (xg x) 0 (a 1) 10 M, aL (xg x) (a 3) 12 N, aI (xg x) 0 (a 4) 12 Sc, aI (xg x) 4 (a 5) 12 Hs] rfl 0 0 ⟨by omega, by omega⟩ [] rfl (Nat.le_of_ble_eq_true rfl) dX4_move_55 rfl (fun _ _ h => h.elim) (fun v Ws h => ?_)
          obtain ⟨rfl, hps_28, rfl⟩ := h
          show SW x [tmO (xg x) o a (va_up z 8 2), aN (xg x) 0 (a 0) 2400 D, aN (xg x) 0 (a 1) 10 M, aL (xg x) (a 3) 12 N, aI (xg x) 0 (a 4) 12 Sc, aI (xg x) 4 (a 5) 12 Hs] _ _ _ _ [.int (jI 1)]
          refine sw_if_eq (n := 61) F (by decide) (tgt := 63) dX4_move_58 (by decide) rfl (fun c_58 => ?_) (fun c_58 => ?_)
          · exfalso; exact absurd c_58 (by decide)
          ·
            refine sw_iconst (n := 62) F (0) (by decide) dX4_move_61 rfl ?_
            have e : mvC s n t Hs ((N s.toNat).natAbs * 10 ^ (-(Sc s.toNat + n)).toNat) (grI 0 (Sc s.toNat + n)) = 2 := by unfold mvC; (repeat' split) <;> omega
            exact sw_iret F _ rfl (by first | rfl | exact jI_nz (by omega) | exact jI_nc (by omega)) dX4_move_62 (by rw [hPo]; exact ⟨D, M, (by rw [e]; first | rfl | (rw [if0_0, l1, up1_11, va_up_self])), (by exact (RV.rf hA).mono (S := []) (by simp)), (by simp only [e, up0_2, up_88])⟩)
    ·
      refine sw_iconst (n := 16) F (1) (by decide) dX4_move_15 rfl ?_
      refine sw_goto F (n := 55) dX4_move_16 (by decide) ?_
      refine sw_callV (n := 58) F (ct_X4_fails (g := xg x) (l := xl x) o a z 1 (by first | assumption | omega)) (rcv_ob F 0 (ci := 3) rfl rfl) q3973 q3975 qs68 q120 q3976 nd_X4_fails rfl (by decide) [0, 1, 2, 3, 4, 5] rfl [aN (xg x) 0 (a 0) 2400 D, aN (xg x) 0 (a 1) 10 M, aL (xg x) (a 3) 12 N, aI (xg x) 0 (a 4) 12 Sc, aI (xg x) 4 (a 5) 12 Hs] rfl 0 0 ⟨by omega, by omega⟩ [] rfl (Nat.le_of_ble_eq_true rfl) dX4_move_55 rfl (fun _ _ h => h.elim) (fun v Ws h => ?_)
      obtain ⟨rfl, hps_29, rfl⟩ := h
      show SW x [tmO (xg x) o a (va_up z 8 1), aN (xg x) 0 (a 0) 2400 D, aN (xg x) 0 (a 1) 10 M, aL (xg x) (a 3) 12 N, aI (xg x) 0 (a 4) 12 Sc, aI (xg x) 4 (a 5) 12 Hs] _ _ _ _ [.int (jI 1)]
      refine sw_if_eq (n := 61) F (by decide) (tgt := 63) dX4_move_58 (by decide) rfl (fun c_58 => ?_) (fun c_58 => ?_)
      · exfalso; exact absurd c_58 (by decide)
      ·
        refine sw_iconst (n := 62) F (0) (by decide) dX4_move_61 rfl ?_
        have e : mvC s n t Hs ((N s.toNat).natAbs * 10 ^ (-(Sc s.toNat + n)).toNat) (grI 0 (Sc s.toNat + n)) = 1 := by unfold mvC; (repeat' split) <;> omega
        exact sw_iret F _ rfl (by first | rfl | exact jI_nz (by omega) | exact jI_nc (by omega)) dX4_move_62 (by rw [hPo]; exact ⟨D, M, (by rw [e]; first | rfl | (rw [if0_0, l1, up1_11, va_up_self])), (by exact (RV.rf hA).mono (S := []) (by simp)), (by simp only [e, up0_1, up_88])⟩)
