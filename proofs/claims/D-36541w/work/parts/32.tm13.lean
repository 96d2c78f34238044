def dvP (s s2 sc m t : Int) (H N : Nat → Int) : Int := if s < 0 ∨ 11 < s ∨ s2 < 0 ∨ 11 < s2 ∨ t < 0 ∨ 11 < t then 1 else if sc < -18 ∨ 36 < sc ∨ mdI m = 0 then 2 else if H s.toNat = 0 ∨ H s2.toNat = 0 then 3 else if N s2.toNat = 0 then 4 else 0
def dvC (p : Int) (r : Nat) (rf sc : Int) : Int := if p = 0 then (if rf = 1 ∨ laI r sc = 0 then 4 else 0) else p
theorem xrI_01 (a b : Int) : xrI a b = 0 ∨ xrI a b = 1 := by unfold xrI; split <;> omega
theorem up_282 (z : Nat → Int) (a b c : Int) : va_up (va_up (va_up z 2 a) 8 b) 2 c = va_up (va_up z 2 c) 8 b := by
  funext j; unfold va_up; (repeat' split) <;> first | rfl | omega
theorem l110 {x e : Nat} (h : x < 10 ^ 18) (he : e ≤ 92) : x * 10 ^ e < 10 ^ 110 := by
  have h1 : x * 10 ^ e < 10 ^ 18 * 10 ^ e := Nat.mul_lt_mul_of_pos_right h (Nat.pow_pos (by decide))
  rw [← Nat.pow_add] at h1
  exact Nat.lt_of_lt_of_le h1 (Nat.pow_le_pow_right (by decide) (by omega))
theorem b110 {n : Nat} (h : n < 10 ^ 110) : n < big ∧ n < big - 1 ∧ n * 10 < big := by
  have h1 : 10 ^ 110 * 10 ≤ big := by rw [← Nat.pow_succ]; exact Nat.pow_le_pow_right (by decide) (by decide)
  omega
theorem nd_X4_divide : yX4_divide.cls ≠ "java/lang/invoke/MethodHandle" ∧ yX4_divide.cls ≠ "java/lang/invoke/VarHandle" ∧ (parseMethodDescriptor yX4_divide.desc).map (fun d => d.parameters.length) = some 5 := by decide +kernel
set_option maxRecDepth 100000 in
set_option maxHeartbeats 1000000 in
theorem ct_X4_divide {g : GG} {l : Launch} (o : Nat) (a : Nat → Nat) (z : Nat → Int) (D : Nat → Nat) (M : Nat → Nat) (N : Nat → Int) (Sc : Nat → Int) (Hs : Nat → Int) (s : Int) (s2 : Int) (sc : Int) (m : Int) (t : Int) (hs : -2147483648 ≤ s ∧ s ≤ 2147483647) (hs2 : -2147483648 ≤ s2 ∧ s2 ≤ 2147483647) (hsc : -2147483648 ≤ sc ∧ sc ≤ 2147483647) (hm : 0 ≤ m ∧ m ≤ 65535) (ht : -2147483648 ≤ t ∧ t ≤ 2147483647) (hA : Dok D M) (hN : NB N) (hSc : SB Sc) (hB : HB Hs) : Ct g l yX4_divide (ws_ yX4_divide cX4_divide 8 (Option.some Jvm.ClassFile.FieldType.int)) 6 127 0 0 [.ref o, .int (jI s), .int (jI s2), .int (jI sc), .int (jI m), .int (jI t)] [tmO g o a z, aN g 0 (a 0) 2400 D, aN g 0 (a 1) 10 M, aL g (a 3) 12 N, aI g 0 (a 4) 12 Sc, aI g 4 (a 5) 12 Hs] (fun v9 Ws9 => ∃ D1 : Nat → Nat, ∃ M1 : Nat → Nat, v9 = some (.int (jI (if0 (dvC (dvP s s2 sc m t Hs N) (rnd m (xrI (N s.toNat) (N s2.toNat)) ((N s.toNat).natAbs * 10 ^ (Sc s2.toNat - Sc s.toNat + sc).toNat) ((N s2.toNat).natAbs * 10 ^ (-(Sc s2.toNat - Sc s.toNat + sc)).toNat)) (rfz m ((N s.toNat).natAbs * 10 ^ (Sc s2.toNat - Sc s.toNat + sc).toNat) ((N s2.toNat).natAbs * 10 ^ (-(Sc s2.toNat - Sc s.toNat + sc)).toNat) 0) sc) ↑(dgc (rnd m (xrI (N s.toNat) (N s2.toNat)) ((N s.toNat).natAbs * 10 ^ (Sc s2.toNat - Sc s.toNat + sc).toNat) ((N s2.toNat).natAbs * 10 ^ (-(Sc s2.toNat - Sc s.toNat + sc)).toNat)))))) ∧ (RV [0, 1, 2, 3, 8, 9] D M D1 M1) ∧ Ws9 = [tmO g o a (va_up (up0 (dvP s s2 sc m t Hs N) z 2 (rfz m ((N s.toNat).natAbs * 10 ^ (Sc s2.toNat - Sc s.toNat + sc).toNat) ((N s2.toNat).natAbs * 10 ^ (-(Sc s2.toNat - Sc s.toNat + sc)).toNat) 0)) 8 (dvC (dvP s s2 sc m t Hs N) (rnd m (xrI (N s.toNat) (N s2.toNat)) ((N s.toNat).natAbs * 10 ^ (Sc s2.toNat - Sc s.toNat + sc).toNat) ((N s2.toNat).natAbs * 10 ^ (-(Sc s2.toNat - Sc s.toNat + sc)).toNat)) (rfz m ((N s.toNat).natAbs * 10 ^ (Sc s2.toNat - Sc s.toNat + sc).toNat) ((N s2.toNat).natAbs * 10 ^ (-(Sc s2.toNat - Sc s.toNat + sc)).toNat) 0) sc)), aN g 0 (a 0) 2400 D1, aN g 0 (a 1) 10 M1, aL g (a 3) 12 (up0 (dvC (dvP s s2 sc m t Hs N) (rnd m (xrI (N s.toNat) (N s2.toNat)) ((N s.toNat).natAbs * 10 ^ (Sc s2.toNat - Sc s.toNat + sc).toNat) ((N s2.toNat).natAbs * 10 ^ (-(Sc s2.toNat - Sc s.toNat + sc)).toNat)) (rfz m ((N s.toNat).natAbs * 10 ^ (Sc s2.toNat - Sc s.toNat + sc).toNat) ((N s2.toNat).natAbs * 10 ^ (-(Sc s2.toNat - Sc s.toNat + sc)).toNat) 0) sc) N t.toNat (sgn (xrI (N s.toNat) (N s2.toNat)) (rnd m (xrI (N s.toNat) (N s2.toNat)) ((N s.toNat).natAbs * 10 ^ (Sc s2.toNat - Sc s.toNat + sc).toNat) ((N s2.toNat).natAbs * 10 ^ (-(Sc s2.toNat - Sc s.toNat + sc)).toNat)))), aI g 0 (a 4) 12 (up0 (dvC (dvP s s2 sc m t Hs N) (rnd m (xrI (N s.toNat) (N s2.toNat)) ((N s.toNat).natAbs * 10 ^ (Sc s2.toNat - Sc s.toNat + sc).toNat) ((N s2.toNat).natAbs * 10 ^ (-(Sc s2.toNat - Sc s.toNat + sc)).toNat)) (rfz m ((N s.toNat).natAbs * 10 ^ (Sc s2.toNat - Sc s.toNat + sc).toNat) ((N s2.toNat).natAbs * 10 ^ (-(Sc s2.toNat - Sc s.toNat + sc)).toNat) 0) sc) Sc t.toNat sc), aI g 4 (a 5) 12 (up0 (dvC (dvP s s2 sc m t Hs N) (rnd m (xrI (N s.toNat) (N s2.toNat)) ((N s.toNat).natAbs * 10 ^ (Sc s2.toNat - Sc s.toNat + sc).toNat) ((N s2.toNat).natAbs * 10 ^ (-(Sc s2.toNat - Sc s.toNat + sc)).toNat)) (rfz m ((N s.toNat).natAbs * 10 ^ (Sc s2.toNat - Sc s.toNat + sc).toNat) ((N s2.toNat).natAbs * 10 ^ (-(Sc s2.toNat - Sc s.toNat + sc)).toNat) 0) sc) Hs t.toNat 1)]) (nox) := by
  refine Ct.of (cc := cX4_divide) (nL := 8) (ret := (Option.some Jvm.ClassFile.FieldType.int)) (by decide) rfl (Nat.le_of_ble_eq_true rfl) ?_
  intro x hg hl hPo hPx hmc hms F
  subst hg; subst hl
  refine SW.cast (L' := [(0, .ref o), (1, .int (jI s)), (2, .int (jI s2)), (3, .int (jI sc)), (4, .int (jI m)), (5, .int (jI t))]) ?_ rfl rfl rfl
  have hq1 := hB s.toNat
  have hq2 := hB s2.toNat
  have hn := hN s.toNat
  have hn2 := hN s2.toNat
  have hss := hSc s.toNat
  have hss2 := hSc s2.toNat
  have hmd := mdI_cases m
  refine sw_aload_n (n := 1) F 0 (some o) rfl rfl rfl dX4_divide_0 rfl ?_
  refine sw_aload_n (n := 2) F 0 (some o) rfl rfl rfl dX4_divide_1 rfl ?_
  refine sw_iload_n (n := 3) F 1 rfl rfl dX4_divide_2 rfl ?_
  refine sw_iload_n (n := 4) F 2 rfl rfl dX4_divide_3 rfl ?_
  refine sw_iload (n := 6) F 5 rfl dX4_divide_4 rfl ?_
  refine sw_callV (n := 9) F (ct_X4_noPair (g := xg x) (l := xl x) o a z s s2 t hs hs2 ht) (rcv_ob F 0 (ci := 3) rfl rfl) q4052 q4054 qs78 q120 q4055 nd_X4_noPair rfl (by decide) [0, 1, 2, 3, 4, 5] rfl [aN (xg x) 0 (a 0) 2400 D, aN (xg x) 0 (a 1) 10 M, aL (xg x) (a 3) 12 N, aI (xg x) 0 (a 4) 12 Sc, aI (xg x) 4 (a 5) 12 Hs] rfl 0 0 ⟨by omega, by omega⟩ [.ref o] rfl (Nat.le_of_ble_eq_true rfl) dX4_divide_6 rfl (fun _ _ h => h.elim) (fun v Ws h => ?_)
  obtain ⟨rfl, hnp_1, rfl⟩ := h
  show SW x [tmO (xg x) o a z, aN (xg x) 0 (a 0) 2400 D, aN (xg x) 0 (a 1) 10 M, aL (xg x) (a 3) 12 N, aI (xg x) 0 (a 4) 12 Sc, aI (xg x) 4 (a 5) 12 Hs] _ _ _ _ [.int (jI (npI s s2 t)), .ref o]
  refine sw_if_le (n := 12) F (by omega) (tgt := 16) dX4_divide_9 (by decide) rfl (fun c_9 => ?_) (fun c_9 => ?_)
  ·
    refine sw_iload_n (n := 17) F 3 rfl rfl dX4_divide_16 rfl ?_
    refine sw_callS (n := 20) F (ct_X4_isScale (g := xg x) (l := xl x) sc hsc) q3966 q3967 q120 q3968 nd_X4_isScale rfl (by decide) [0, 1, 2, 3, 4, 5] rfl [tmO (xg x) o a z, aN (xg x) 0 (a 0) 2400 D, aN (xg x) 0 (a 1) 10 M, aL (xg x) (a 3) 12 N, aI (xg x) 0 (a 4) 12 Sc, aI (xg x) 4 (a 5) 12 Hs] rfl 0 0 ⟨by omega, by omega⟩ [.ref o] rfl (Nat.le_of_ble_eq_true rfl) dX4_divide_17 rfl (fun _ _ h => h.elim) (fun v Ws h => ?_)
    obtain ⟨rfl, hs_2, rfl⟩ := h
    show SW x [tmO (xg x) o a z, aN (xg x) 0 (a 0) 2400 D, aN (xg x) 0 (a 1) 10 M, aL (xg x) (a 3) 12 N, aI (xg x) 0 (a 4) 12 Sc, aI (xg x) 4 (a 5) 12 Hs] _ _ _ _ [.int (jI (inI sc (-18) 36)), .ref o]
    refine sw_if_eq (n := 23) F (by omega) (tgt := 31) dX4_divide_20 (by decide) rfl (fun c_20 => ?_) (fun c_20 => ?_)
    ·
      refine sw_iconst (n := 32) F (2) (by decide) dX4_divide_31 rfl ?_
      refine sw_goto F (n := 73) dX4_divide_32 (by decide) ?_
      refine sw_callV (n := 76) F (ct_X4_fails (g := xg x) (l := xl x) o a z 2 (by first | assumption | omega)) (rcv_ob F 0 (ci := 3) rfl rfl) q3973 q3975 qs68 q120 q3976 nd_X4_fails rfl (by decide) [0, 1, 2, 3, 4, 5] rfl [aN (xg x) 0 (a 0) 2400 D, aN (xg x) 0 (a 1) 10 M, aL (xg x) (a 3) 12 N, aI (xg x) 0 (a 4) 12 Sc, aI (xg x) 4 (a 5) 12 Hs] rfl 0 0 ⟨by omega, by omega⟩ [] rfl (Nat.le_of_ble_eq_true rfl) dX4_divide_73 rfl (fun _ _ h => h.elim) (fun v Ws h => ?_)
      obtain ⟨rfl, hps_3, rfl⟩ := h
      show SW x [tmO (xg x) o a (va_up z 8 2), aN (xg x) 0 (a 0) 2400 D, aN (xg x) 0 (a 1) 10 M, aL (xg x) (a 3) 12 N, aI (xg x) 0 (a 4) 12 Sc, aI (xg x) 4 (a 5) 12 Hs] _ _ _ _ [.int (jI 1)]
      refine sw_if_eq (n := 79) F (by decide) (tgt := 81) dX4_divide_76 (by decide) rfl (fun c_76 => ?_) (fun c_76 => ?_)
      · exfalso; exact absurd c_76 (by decide)
      ·
        refine sw_iconst (n := 80) F (0) (by decide) dX4_divide_79 rfl ?_
        have eP : dvP s s2 sc m t Hs N = 2 := by unfold dvP; (repeat' split) <;> omega
        have e : dvC (dvP s s2 sc m t Hs N) (rnd m (xrI (N s.toNat) (N s2.toNat)) ((N s.toNat).natAbs * 10 ^ (Sc s2.toNat - Sc s.toNat + sc).toNat) ((N s2.toNat).natAbs * 10 ^ (-(Sc s2.toNat - Sc s.toNat + sc)).toNat)) (rfz m ((N s.toNat).natAbs * 10 ^ (Sc s2.toNat - Sc s.toNat + sc).toNat) ((N s2.toNat).natAbs * 10 ^ (-(Sc s2.toNat - Sc s.toNat + sc)).toNat) 0) sc = 2 := by unfold dvC; (repeat' split) <;> omega
        exact sw_iret F _ rfl (by first | rfl | exact jI_nz (by omega) | exact jI_nc (by omega)) dX4_divide_80 (by rw [hPo]; exact ⟨D, M, (by rw [e]; first | rfl | (rw [if0_0, l1, up1_11, va_up_self, sgn_na])), (by exact (RV.rf hA).mono (S := []) (by simp)), (by rw [e, eP]; simp only [up0_2, up0_2, up_88])⟩)
    ·
      refine sw_iload (n := 25) F 4 rfl dX4_divide_23 rfl ?_
      refine sw_callS (n := 28) F (ct_X4_isMode (g := xg x) (l := xl x) m hm) q4116 q4117 q120 q4118 nd_X4_isMode rfl (by decide) [0, 1, 2, 3, 4, 5] rfl [tmO (xg x) o a z, aN (xg x) 0 (a 0) 2400 D, aN (xg x) 0 (a 1) 10 M, aL (xg x) (a 3) 12 N, aI (xg x) 0 (a 4) 12 Sc, aI (xg x) 4 (a 5) 12 Hs] rfl 0 0 ⟨by omega, by omega⟩ [.ref o] rfl (Nat.le_of_ble_eq_true rfl) dX4_divide_25 rfl (fun _ _ h => h.elim) (fun v Ws h => ?_)
      obtain ⟨rfl, rfl⟩ := h
      show SW x [tmO (xg x) o a z, aN (xg x) 0 (a 0) 2400 D, aN (xg x) 0 (a 1) 10 M, aL (xg x) (a 3) 12 N, aI (xg x) 0 (a 4) 12 Sc, aI (xg x) 4 (a 5) 12 Hs] _ _ _ _ [.int (jI (mdI m)), .ref o]
      refine sw_if_ne (n := 31) F (by omega) (tgt := 35) dX4_divide_28 (by decide) rfl (fun c_28 => ?_) (fun c_28 => ?_)
      ·
        refine sw_aload_n (n := 36) F 0 (some o) rfl rfl rfl dX4_divide_35 rfl ?_
        refine sw_get (n := 39) F 0 rfl (k := 5) ⟨(RX4, TX4, 50), rfl, by decide, q3804, in_X4, Or.inl rfl⟩ (v := .ref (a 5)) rfl dX4_divide_36 rfl ?_
        refine sw_iload_n (n := 40) F 1 rfl rfl dX4_divide_39 rfl ?_
        refine sw_zaloadI (n := 41) F 5 rfl (fun _ => rfl) ((s : Int).toNat) (by omega) (by omega) dX4_divide_40 rfl ?_
        refine sw_if_eq (n := 44) F (by omega) (tgt := 53) dX4_divide_41 (by decide) rfl (fun c_41 => ?_) (fun c_41 => ?_)
        ·
          refine sw_iconst (n := 54) F (3) (by decide) dX4_divide_53 rfl ?_
          refine sw_goto F (n := 73) dX4_divide_54 (by decide) ?_
          refine sw_callV (n := 76) F (ct_X4_fails (g := xg x) (l := xl x) o a z 3 (by first | assumption | omega)) (rcv_ob F 0 (ci := 3) rfl rfl) q3973 q3975 qs68 q120 q3976 nd_X4_fails rfl (by decide) [0, 1, 2, 3, 4, 5] rfl [aN (xg x) 0 (a 0) 2400 D, aN (xg x) 0 (a 1) 10 M, aL (xg x) (a 3) 12 N, aI (xg x) 0 (a 4) 12 Sc, aI (xg x) 4 (a 5) 12 Hs] rfl 0 0 ⟨by omega, by omega⟩ [] rfl (Nat.le_of_ble_eq_true rfl) dX4_divide_73 rfl (fun _ _ h => h.elim) (fun v Ws h => ?_)
          obtain ⟨rfl, hps_4, rfl⟩ := h
          show SW x [tmO (xg x) o a (va_up z 8 3), aN (xg x) 0 (a 0) 2400 D, aN (xg x) 0 (a 1) 10 M, aL (xg x) (a 3) 12 N, aI (xg x) 0 (a 4) 12 Sc, aI (xg x) 4 (a 5) 12 Hs] _ _ _ _ [.int (jI 1)]
          refine sw_if_eq (n := 79) F (by decide) (tgt := 81) dX4_divide_76 (by decide) rfl (fun c_76 => ?_) (fun c_76 => ?_)
          · exfalso; exact absurd c_76 (by decide)
          ·
            refine sw_iconst (n := 80) F (0) (by decide) dX4_divide_79 rfl ?_
            have eP : dvP s s2 sc m t Hs N = 3 := by unfold dvP; (repeat' split) <;> omega
            have e : dvC (dvP s s2 sc m t Hs N) (rnd m (xrI (N s.toNat) (N s2.toNat)) ((N s.toNat).natAbs * 10 ^ (Sc s2.toNat - Sc s.toNat + sc).toNat) ((N s2.toNat).natAbs * 10 ^ (-(Sc s2.toNat - Sc s.toNat + sc)).toNat)) (rfz m ((N s.toNat).natAbs * 10 ^ (Sc s2.toNat - Sc s.toNat + sc).toNat) ((N s2.toNat).natAbs * 10 ^ (-(Sc s2.toNat - Sc s.toNat + sc)).toNat) 0) sc = 3 := by unfold dvC; (repeat' split) <;> omega
            exact sw_iret F _ rfl (by first | rfl | exact jI_nz (by omega) | exact jI_nc (by omega)) dX4_divide_80 (by rw [hPo]; exact ⟨D, M, (by rw [e]; first | rfl | (rw [if0_0, l1, up1_11, va_up_self, sgn_na])), (by exact (RV.rf hA).mono (S := []) (by simp)), (by rw [e, eP]; simp only [up0_3, up0_3, up_88])⟩)
        ·
          refine sw_aload_n (n := 45) F 0 (some o) rfl rfl rfl dX4_divide_44 rfl ?_
          refine sw_get (n := 48) F 0 rfl (k := 5) ⟨(RX4, TX4, 50), rfl, by decide, q3804, in_X4, Or.inl rfl⟩ (v := .ref (a 5)) rfl dX4_divide_45 rfl ?_
          refine sw_iload_n (n := 49) F 2 rfl rfl dX4_divide_48 rfl ?_
          refine sw_zaloadI (n := 50) F 5 rfl (fun _ => rfl) ((s2 : Int).toNat) (by omega) (by omega) dX4_divide_49 rfl ?_
          refine sw_if_ne (n := 53) F (by omega) (tgt := 57) dX4_divide_50 (by decide) rfl (fun c_50 => ?_) (fun c_50 => ?_)
          ·
            refine sw_aload_n (n := 58) F 0 (some o) rfl rfl rfl dX4_divide_57 rfl ?_
            refine sw_get (n := 61) F 0 rfl (k := 3) ⟨(RX4, TX4, 50), rfl, by decide, q3802, in_X4, Or.inl rfl⟩ (v := .ref (a 3)) rfl dX4_divide_58 rfl ?_
            refine sw_iload_n (n := 62) F 2 rfl rfl dX4_divide_61 rfl ?_
            refine sw_laloadL (n := 63) F 3 rfl (fun _ => rfl) ((s2 : Int).toNat) (by omega) (by omega) dX4_divide_62 rfl ?_
            refine sw_lconst (n := 64) F 0 (by decide) dX4_divide_63 rfl ?_
            refine sw_lcmp (n := 65) F (by omega) (by decide) dX4_divide_64 rfl ?_
            refine sw_if_ne (n := 68) F (by omega) (tgt := 72) dX4_divide_65 (by decide) rfl (fun c_65 => ?_) (fun c_65 => ?_)
            ·
              have c_65 : N ((s2 : Int).toNat) ≠ 0 := by revert c_65; (repeat' split) <;> omega
              refine sw_iconst (n := 73) F (0) (by decide) dX4_divide_72 rfl ?_
              refine sw_callV (n := 76) F (ct_X4_fails (g := xg x) (l := xl x) o a z 0 (by first | assumption | omega)) (rcv_ob F 0 (ci := 3) rfl rfl) q3973 q3975 qs68 q120 q3976 nd_X4_fails rfl (by decide) [0, 1, 2, 3, 4, 5] rfl [aN (xg x) 0 (a 0) 2400 D, aN (xg x) 0 (a 1) 10 M, aL (xg x) (a 3) 12 N, aI (xg x) 0 (a 4) 12 Sc, aI (xg x) 4 (a 5) 12 Hs] rfl 0 0 ⟨by omega, by omega⟩ [] rfl (Nat.le_of_ble_eq_true rfl) dX4_divide_73 rfl (fun _ _ h => h.elim) (fun v Ws h => ?_)
              obtain ⟨rfl, hps_5, rfl⟩ := h
              show SW x [tmO (xg x) o a (va_up z 8 0), aN (xg x) 0 (a 0) 2400 D, aN (xg x) 0 (a 1) 10 M, aL (xg x) (a 3) 12 N, aI (xg x) 0 (a 4) 12 Sc, aI (xg x) 4 (a 5) 12 Hs] _ _ _ _ [.int (jI 0)]
              refine sw_if_eq (n := 79) F (by decide) (tgt := 81) dX4_divide_76 (by decide) rfl (fun c_76 => ?_) (fun c_76 => ?_)
              ·
                refine SW.cast (L' := [(0, .ref o), (1, .int (jI (↑(s.toNat)))), (2, .int (jI (↑(s2.toNat)))), (3, .int (jI sc)), (4, .int (jI m)), (5, .int (jI (↑(t.toNat))))]) ?_ rfl (by rw [Int.toNat_of_nonneg (show 0 ≤ s by omega), Int.toNat_of_nonneg (show 0 ≤ s2 by omega), Int.toNat_of_nonneg (show 0 ≤ t by omega)]) rfl
                refine sw_aload_n (n := 82) F 0 (some o) rfl rfl rfl dX4_divide_81 rfl ?_
                refine sw_get (n := 85) F 0 rfl (k := 4) ⟨(RX4, TX4, 50), rfl, by decide, q3803, in_X4, Or.inl rfl⟩ (v := .ref (a 4)) rfl dX4_divide_82 rfl ?_
                refine sw_iload_n (n := 86) F 2 rfl rfl dX4_divide_85 rfl ?_
                refine sw_ialoadI (n := 87) F 4 rfl (fun _ => rfl) s2.toNat (by omega) (by omega) dX4_divide_86 rfl ?_
                refine sw_aload_n (n := 88) F 0 (some o) rfl rfl rfl dX4_divide_87 rfl ?_
                refine sw_get (n := 91) F 0 rfl (k := 4) ⟨(RX4, TX4, 50), rfl, by decide, q3803, in_X4, Or.inl rfl⟩ (v := .ref (a 4)) rfl dX4_divide_88 rfl ?_
                refine sw_iload_n (n := 92) F 1 rfl rfl dX4_divide_91 rfl ?_
                refine sw_ialoadI (n := 93) F 4 rfl (fun _ => rfl) s.toNat (by omega) (by omega) dX4_divide_92 rfl ?_
                refine sw_isub (n := 94) F dX4_divide_93 rfl ?_
                refine sw_iload_n (n := 95) F 3 rfl rfl dX4_divide_94 rfl ?_
                refine sw_iadd (n := 96) F dX4_divide_95 rfl ?_
                refine sw_istore (n := 98) F (L2 := [(6, .int (jI (((Sc s2.toNat) - (Sc s.toNat)) + sc))), (0, .ref o), (1, .int (jI (↑(s.toNat)))), (2, .int (jI (↑(s2.toNat)))), (3, .int (jI sc)), (4, .int (jI m)), (5, .int (jI (↑(t.toNat))))]) rfl (by decide) dX4_divide_96 rfl ?_
                refine sw_aload_n (n := 99) F 1 (some o) rfl rfl rfl dX4_divide_98 rfl ?_
                have K140 : ∀ (q : Int), (q = xrI (N s.toNat) (N s2.toNat)) → SW x [tmO (xg x) o a (va_up z 8 0), aN (xg x) 0 (a 0) 2400 D, aN (xg x) 0 (a 1) 10 M, aL (xg x) (a 3) 12 N, aI (xg x) 0 (a 4) 12 Sc, aI (xg x) 4 (a 5) 12 Hs] 0 0 140 [(0, .ref o), (1, .int (jI (↑(s.toNat)))), (2, .int (jI (↑(s2.toNat)))), (3, .int (jI sc)), (4, .int (jI m)), (5, .int (jI (↑(t.toNat)))), (6, .int (jI (((Sc s2.toNat) - (Sc s.toNat)) + sc))), (7, .int (jI q))] [] := by
                  intro q hqx
                  subst hqx
                  have hmo : -92 ≤ Sc s2.toNat - Sc s.toNat + sc ∧ Sc s2.toNat - Sc s.toNat + sc ≤ 92 := by omega
                  have hx1 := b110 (l110 (e := (Sc s2.toNat - Sc s.toNat + sc).toNat) (abs_18 hn) (by omega))
                  have hx2 := b110 (l110 (e := (-(Sc s2.toNat - Sc s.toNat + sc)).toNat) (abs_18 hn2) (by omega))
                  have hx4 : 0 < (N s2.toNat).natAbs * 10 ^ (-(Sc s2.toNat - Sc s.toNat + sc)).toNat := Nat.mul_pos (by omega) (Nat.pow_pos (by decide))
                  have hxr := xrI_01 (N s.toNat) (N s2.toNat)
                  refine sw_aload_n (n := 141) F 0 (some o) rfl rfl rfl dX4_divide_140 rfl ?_
                  refine sw_iconst (n := 142) F (0) (by decide) dX4_divide_141 rfl ?_
                  refine sw_put (n := 145) F 0 rfl (k := 2) ⟨(RX4, TX4, 50), rfl, by decide, q3801, in_X4, Or.inl rfl⟩ .boolean ⟨(RX4, TX4, 50), rfl, rfl, tyX4_ok 2 (by decide), nmX4, tyX4, tyX4_ok⟩ (jI_nz (by first | decide | omega)) (jI_fz (by first | decide | omega)) (Nat.le_of_ble_eq_true rfl) (fs' := tmF a (va_up (va_up z 2 0) 8 0)) rfl [tmO (xg x) o a (va_up (va_up z 2 0) 8 0), aN (xg x) 0 (a 0) 2400 D, aN (xg x) 0 (a 1) 10 M, aL (xg x) (a 3) 12 N, aI (xg x) 0 (a 4) 12 Sc, aI (xg x) 4 (a 5) 12 Hs] rfl dX4_divide_142 rfl ?_
                  refine sw_aload_n (n := 146) F 0 (some o) rfl rfl rfl dX4_divide_145 rfl ?_
                  refine sw_iconst (n := 147) F (0) (by decide) dX4_divide_146 rfl ?_
                  refine sw_aload_n (n := 148) F 0 (some o) rfl rfl rfl dX4_divide_147 rfl ?_
                  refine sw_get (n := 151) F 0 rfl (k := 3) ⟨(RX4, TX4, 50), rfl, by decide, q3802, in_X4, Or.inl rfl⟩ (v := .ref (a 3)) rfl dX4_divide_148 rfl ?_
                  refine sw_iload_n (n := 152) F 1 rfl rfl dX4_divide_151 rfl ?_
                  refine sw_laloadL (n := 153) F 3 rfl (fun _ => rfl) s.toNat (by omega) (by omega) dX4_divide_152 rfl ?_
                  refine sw_callV (n := 156) F (ct_X4_lets (g := xg x) (l := xl x) o a (va_up (va_up z 2 0) 8 0) D M 0 (N s.toNat) (by first | assumption | omega) hA (by first | assumption | omega)) (rcv_ob F 0 (ci := 3) rfl rfl) q4004 q4006 qs71 q120 q4007 nd_X4_lets rfl (by decide) [0, 1, 2, 3, 4, 5] rfl [aL (xg x) (a 3) 12 N, aI (xg x) 0 (a 4) 12 Sc, aI (xg x) 4 (a 5) 12 Hs] rfl 0 0 ⟨by omega, by omega⟩ [] rfl (Nat.le_of_ble_eq_true rfl) dX4_divide_153 rfl (fun _ _ h => h.elim) (fun v Ws h => ?_)
                  obtain ⟨D1_6, M1_7, rfl, hU_8, rfl⟩ := h
                  show SW x [tmO (xg x) o a (va_up (va_up z 2 0) 8 0), aN (xg x) 0 (a 0) 2400 D1_6, aN (xg x) 0 (a 1) 10 M1_7, aL (xg x) (a 3) 12 N, aI (xg x) 0 (a 4) 12 Sc, aI (xg x) 4 (a 5) 12 Hs] _ _ _ _ []
                  have a_9 := hU_8.1
                  have r_10 : rok D1_6 M1_7 0 ((N s.toNat).natAbs) := hU_8.2.2.2
                  have v_11 := hU_8.rv
                  refine sw_aload_n (n := 157) F 0 (some o) rfl rfl rfl dX4_divide_156 rfl ?_
                  refine sw_iconst (n := 158) F (0) (by decide) dX4_divide_157 rfl ?_
                  refine sw_iload (n := 160) F 6 rfl dX4_divide_158 rfl ?_
                  refine sw_callV (n := 163) F (ct_X4_shifts (g := xg x) (l := xl x) o a (va_up (va_up z 2 0) 8 0) D1_6 M1_7 0 (((Sc s2.toNat) - (Sc s.toNat)) + sc) ((N s.toNat).natAbs) (by first | assumption | omega) a_9 r_10 (by first | assumption | omega) (by first | assumption | omega)) (rcv_ob F 0 (ci := 3) rfl rfl) q4000 q4002 qs70 q120 q4003 nd_X4_shifts rfl (by decide) [0, 1, 2, 3, 4, 5] rfl [aL (xg x) (a 3) 12 N, aI (xg x) 0 (a 4) 12 Sc, aI (xg x) 4 (a 5) 12 Hs] rfl 0 0 ⟨by omega, by omega⟩ [] rfl (Nat.le_of_ble_eq_true rfl) dX4_divide_160 rfl (fun _ _ h => h.elim) (fun v Ws h => ?_)
                  obtain ⟨D1_12, M1_13, rfl, hU_14, rfl⟩ := h
                  show SW x [tmO (xg x) o a (va_up (va_up z 2 0) 8 0), aN (xg x) 0 (a 0) 2400 D1_12, aN (xg x) 0 (a 1) 10 M1_13, aL (xg x) (a 3) 12 N, aI (xg x) 0 (a 4) 12 Sc, aI (xg x) 4 (a 5) 12 Hs] _ _ _ _ []
                  have a_15 := hU_14.1
                  have r_16 : rok D1_12 M1_13 0 (((N s.toNat).natAbs) * 10 ^ (((Sc s2.toNat) - (Sc s.toNat)) + sc).toNat) := hU_14.2.2.2
                  have v_17 := (v_11.mono (T := [0]) (by simp)).trans hU_14.rv (by simp)
                  refine sw_aload_n (n := 164) F 0 (some o) rfl rfl rfl dX4_divide_163 rfl ?_
                  refine sw_iconst (n := 165) F (1) (by decide) dX4_divide_164 rfl ?_
                  refine sw_aload_n (n := 166) F 0 (some o) rfl rfl rfl dX4_divide_165 rfl ?_
                  refine sw_get (n := 169) F 0 rfl (k := 3) ⟨(RX4, TX4, 50), rfl, by decide, q3802, in_X4, Or.inl rfl⟩ (v := .ref (a 3)) rfl dX4_divide_166 rfl ?_
                  refine sw_iload_n (n := 170) F 2 rfl rfl dX4_divide_169 rfl ?_
                  refine sw_laloadL (n := 171) F 3 rfl (fun _ => rfl) s2.toNat (by omega) (by omega) dX4_divide_170 rfl ?_
                  refine sw_callV (n := 174) F (ct_X4_lets (g := xg x) (l := xl x) o a (va_up (va_up z 2 0) 8 0) D1_12 M1_13 1 (N s2.toNat) (by first | assumption | omega) a_15 (by first | assumption | omega)) (rcv_ob F 0 (ci := 3) rfl rfl) q4004 q4006 qs71 q120 q4007 nd_X4_lets rfl (by decide) [0, 1, 2, 3, 4, 5] rfl [aL (xg x) (a 3) 12 N, aI (xg x) 0 (a 4) 12 Sc, aI (xg x) 4 (a 5) 12 Hs] rfl 0 0 ⟨by omega, by omega⟩ [] rfl (Nat.le_of_ble_eq_true rfl) dX4_divide_171 rfl (fun _ _ h => h.elim) (fun v Ws h => ?_)
                  obtain ⟨D1_18, M1_19, rfl, hU_20, rfl⟩ := h
                  show SW x [tmO (xg x) o a (va_up (va_up z 2 0) 8 0), aN (xg x) 0 (a 0) 2400 D1_18, aN (xg x) 0 (a 1) 10 M1_19, aL (xg x) (a 3) 12 N, aI (xg x) 0 (a 4) 12 Sc, aI (xg x) 4 (a 5) 12 Hs] _ _ _ _ []
                  have a_21 := hU_20.1
                  have r_22 : rok D1_18 M1_19 1 ((N s2.toNat).natAbs) := hU_20.2.2.2
                  have k_23 := hU_20.keep (r := 0) (by first | omega | simp | (simp; omega)) r_16
                  have v_24 := (v_17.mono (T := [0, 1]) (by simp)).trans hU_20.rv (by simp)
                  refine sw_aload_n (n := 175) F 0 (some o) rfl rfl rfl dX4_divide_174 rfl ?_
                  refine sw_iconst (n := 176) F (1) (by decide) dX4_divide_175 rfl ?_
                  refine sw_iload (n := 178) F 6 rfl dX4_divide_176 rfl ?_
                  refine sw_ineg (n := 179) F dX4_divide_178 rfl ?_
                  refine sw_callV (n := 182) F (ct_X4_shifts (g := xg x) (l := xl x) o a (va_up (va_up z 2 0) 8 0) D1_18 M1_19 1 (-(((Sc s2.toNat) - (Sc s.toNat)) + sc)) ((N s2.toNat).natAbs) (by first | assumption | omega) a_21 r_22 (by first | assumption | omega) (by first | assumption | omega)) (rcv_ob F 0 (ci := 3) rfl rfl) q4000 q4002 qs70 q120 q4003 nd_X4_shifts rfl (by decide) [0, 1, 2, 3, 4, 5] rfl [aL (xg x) (a 3) 12 N, aI (xg x) 0 (a 4) 12 Sc, aI (xg x) 4 (a 5) 12 Hs] rfl 0 0 ⟨by omega, by omega⟩ [] rfl (Nat.le_of_ble_eq_true rfl) dX4_divide_179 rfl (fun _ _ h => h.elim) (fun v Ws h => ?_)
                  obtain ⟨D1_25, M1_26, rfl, hU_27, rfl⟩ := h
                  show SW x [tmO (xg x) o a (va_up (va_up z 2 0) 8 0), aN (xg x) 0 (a 0) 2400 D1_25, aN (xg x) 0 (a 1) 10 M1_26, aL (xg x) (a 3) 12 N, aI (xg x) 0 (a 4) 12 Sc, aI (xg x) 4 (a 5) 12 Hs] _ _ _ _ []
                  have a_28 := hU_27.1
                  have r_29 : rok D1_25 M1_26 1 (((N s2.toNat).natAbs) * 10 ^ (-(((Sc s2.toNat) - (Sc s.toNat)) + sc)).toNat) := hU_27.2.2.2
                  have k_30 := hU_27.keep (r := 0) (by first | omega | simp | (simp; omega)) k_23
                  have v_31 := (v_24.mono (T := [0, 1]) (by simp)).trans hU_27.rv (by simp)
                  refine sw_aload_n (n := 183) F 0 (some o) rfl rfl rfl dX4_divide_182 rfl ?_
                  refine sw_iload (n := 185) F 7 rfl dX4_divide_183 rfl ?_
                  refine sw_iload (n := 187) F 4 rfl dX4_divide_185 rfl ?_
                  refine sw_callV (n := 190) F (ct_X4_rounds (g := xg x) (l := xl x) o a (va_up (va_up z 2 0) 8 0) D1_25 M1_26 (((N s.toNat).natAbs) * 10 ^ (((Sc s2.toNat) - (Sc s.toNat)) + sc).toNat) (((N s2.toNat).natAbs) * 10 ^ (-(((Sc s2.toNat) - (Sc s.toNat)) + sc)).toNat) (xrI (N s.toNat) (N s2.toNat)) m a_28 k_30 r_29 hx4 (by first | assumption | omega) (by first | assumption | omega) (by first | assumption | omega) hm (by exact Or.inl rfl)) (rcv_ob F 0 (ci := 3) rfl rfl) q4123 q4125 qs90 q120 q4126 nd_X4_rounds rfl (by decide) [0, 1, 2, 3, 4, 5] rfl [aL (xg x) (a 3) 12 N, aI (xg x) 0 (a 4) 12 Sc, aI (xg x) 4 (a 5) 12 Hs] rfl 0 0 ⟨by omega, by omega⟩ [] rfl (Nat.le_of_ble_eq_true rfl) dX4_divide_187 rfl (fun _ _ h => h.elim) (fun v Ws h => ?_)
                  obtain ⟨D1_32, M1_33, rfl, hV_34, hr_35, rfl⟩ := h
                  show SW x [tmO (xg x) o a (va_up (va_up (va_up z 2 0) 8 0) 2 (rfz m (((N s.toNat).natAbs) * 10 ^ (((Sc s2.toNat) - (Sc s.toNat)) + sc).toNat) (((N s2.toNat).natAbs) * 10 ^ (-(((Sc s2.toNat) - (Sc s.toNat)) + sc)).toNat) ((va_up (va_up z 2 0) 8 0) 2))), aN (xg x) 0 (a 0) 2400 D1_32, aN (xg x) 0 (a 1) 10 M1_33, aL (xg x) (a 3) 12 N, aI (xg x) 0 (a 4) 12 Sc, aI (xg x) 4 (a 5) 12 Hs] _ _ _ _ []
                  have a_36 := hV_34.1
                  have k_37 := hV_34.keep (r := 0) (by first | omega | simp | (simp; omega)) k_30
                  have k_38 := hV_34.keep (r := 1) (by first | omega | simp | (simp; omega)) r_29
                  have v_39 := (v_31.mono (T := [0, 1, 2, 3, 8, 9]) (by simp)).trans hV_34 (by simp)
                  rw [show va_up (va_up z 2 0) 8 0 2 = 0 from rfl, up_282]
                  have hrz := rfz_01 m ((N s.toNat).natAbs * 10 ^ (Sc s2.toNat - Sc s.toNat + sc).toNat) ((N s2.toNat).natAbs * 10 ^ (-(Sc s2.toNat - Sc s.toNat + sc)).toNat)
                  refine sw_aload_n (n := 191) F 0 (some o) rfl rfl rfl dX4_divide_190 rfl ?_
                  refine sw_aload_n (n := 192) F 0 (some o) rfl rfl rfl dX4_divide_191 rfl ?_
                  refine sw_get (n := 195) F 0 rfl (k := 2) ⟨(RX4, TX4, 50), rfl, by decide, q3801, in_X4, Or.inl rfl⟩ (v := .int (jI (rfz m ((N s.toNat).natAbs * 10 ^ (Sc s2.toNat - Sc s.toNat + sc).toNat) ((N s2.toNat).natAbs * 10 ^ (-(Sc s2.toNat - Sc s.toNat + sc)).toNat) 0))) rfl dX4_divide_192 rfl ?_
                  refine sw_if_ne (n := 198) F (by omega) (tgt := 215) dX4_divide_195 (by decide) rfl (fun c_195 => ?_) (fun c_195 => ?_)
                  ·
                    refine sw_iconst (n := 216) F (4) (by decide) dX4_divide_215 rfl ?_
                    refine sw_callV (n := 219) F (ct_X4_fails (g := xg x) (l := xl x) o a (va_up (va_up z 2 (rfz m ((N s.toNat).natAbs * 10 ^ (Sc s2.toNat - Sc s.toNat + sc).toNat) ((N s2.toNat).natAbs * 10 ^ (-(Sc s2.toNat - Sc s.toNat + sc)).toNat) 0)) 8 0) 4 (by first | assumption | omega)) (rcv_ob F 0 (ci := 3) rfl rfl) q3973 q3975 qs68 q120 q3976 nd_X4_fails rfl (by decide) [0, 1, 2, 3, 4, 5] rfl [aN (xg x) 0 (a 0) 2400 D1_32, aN (xg x) 0 (a 1) 10 M1_33, aL (xg x) (a 3) 12 N, aI (xg x) 0 (a 4) 12 Sc, aI (xg x) 4 (a 5) 12 Hs] rfl 0 0 ⟨by omega, by omega⟩ [] rfl (Nat.le_of_ble_eq_true rfl) dX4_divide_216 rfl (fun _ _ h => h.elim) (fun v Ws h => ?_)
                    obtain ⟨rfl, hps_40, rfl⟩ := h
                    show SW x [tmO (xg x) o a (va_up (va_up (va_up z 2 (rfz m ((N s.toNat).natAbs * 10 ^ (Sc s2.toNat - Sc s.toNat + sc).toNat) ((N s2.toNat).natAbs * 10 ^ (-(Sc s2.toNat - Sc s.toNat + sc)).toNat) 0)) 8 0) 8 4), aN (xg x) 0 (a 0) 2400 D1_32, aN (xg x) 0 (a 1) 10 M1_33, aL (xg x) (a 3) 12 N, aI (xg x) 0 (a 4) 12 Sc, aI (xg x) 4 (a 5) 12 Hs] _ _ _ _ [.int (jI 1)]
                    refine sw_if_eq (n := 222) F (by decide) (tgt := 226) dX4_divide_219 (by decide) rfl (fun c_219 => ?_) (fun c_219 => ?_)
                    · exfalso; exact absurd c_219 (by decide)
                    ·
                      refine sw_iconst (n := 223) F (0) (by decide) dX4_divide_222 rfl ?_
                      refine sw_goto F (n := 236) dX4_divide_223 (by decide) ?_
                      have eP : dvP s s2 sc m t Hs N = 0 := by unfold dvP; (repeat' split) <;> omega
                      have e : dvC (dvP s s2 sc m t Hs N) (rnd m (xrI (N s.toNat) (N s2.toNat)) ((N s.toNat).natAbs * 10 ^ (Sc s2.toNat - Sc s.toNat + sc).toNat) ((N s2.toNat).natAbs * 10 ^ (-(Sc s2.toNat - Sc s.toNat + sc)).toNat)) (rfz m ((N s.toNat).natAbs * 10 ^ (Sc s2.toNat - Sc s.toNat + sc).toNat) ((N s2.toNat).natAbs * 10 ^ (-(Sc s2.toNat - Sc s.toNat + sc)).toNat) 0) sc = 4 := by unfold dvC; (repeat' split) <;> omega
                      exact sw_iret F _ rfl (by first | rfl | exact jI_nz (by omega) | exact jI_nc (by omega)) dX4_divide_236 (by rw [hPo]; exact ⟨D1_32, M1_33, (by rw [e]; first | rfl | (rw [if0_0, l1, up1_11, va_up_self, sgn_na])), v_39, (by rw [e, eP]; simp only [up0_4, up0_0, up_88])⟩)
                  ·
                    refine sw_aload_n (n := 199) F 0 (some o) rfl rfl rfl dX4_divide_198 rfl ?_
                    refine sw_iload (n := 201) F 5 rfl dX4_divide_199 rfl ?_
                    refine sw_iconst (n := 202) F (2) (by decide) dX4_divide_201 rfl ?_
                    refine sw_iload (n := 204) F 7 rfl dX4_divide_202 rfl ?_
                    refine sw_iload_n (n := 205) F 3 rfl rfl dX4_divide_204 rfl ?_
                    rw [show (↑(t.toNat) : Int) = ↑t.toNat by omega]
                    refine sw_callV (n := 208) F (ct_X4_lays (g := xg x) (l := xl x) o a (va_up (va_up z 2 (rfz m ((N s.toNat).natAbs * 10 ^ (Sc s2.toNat - Sc s.toNat + sc).toNat) ((N s2.toNat).natAbs * 10 ^ (-(Sc s2.toNat - Sc s.toNat + sc)).toNat) 0)) 8 0) D1_32 M1_33 N Sc Hs t.toNat 2 (rnd m (xrI (N s.toNat) (N s2.toNat)) (((N s.toNat).natAbs) * 10 ^ (((Sc s2.toNat) - (Sc s.toNat)) + sc).toNat) (((N s2.toNat).natAbs) * 10 ^ (-(((Sc s2.toNat) - (Sc s.toNat)) + sc)).toNat)) (xrI (N s.toNat) (N s2.toNat)) sc (by first | assumption | omega) (by first | assumption | omega) a_36 hr_35 (by first | assumption | omega) hsc) (rcv_ob F 0 (ci := 3) rfl rfl) q4020 q4022 qs75 q120 q4023 nd_X4_lays rfl (by decide) [0, 1, 2, 3, 4, 5] rfl [] rfl 0 0 ⟨by omega, by omega⟩ [.ref o] rfl (Nat.le_of_ble_eq_true rfl) dX4_divide_205 rfl (fun _ _ h => h.elim) (fun v Ws h => ?_)
                    obtain ⟨rfl, hl_41, rfl⟩ := h
                    show SW x [tmO (xg x) o a (va_up (va_up z 2 (rfz m ((N s.toNat).natAbs * 10 ^ (Sc s2.toNat - Sc s.toNat + sc).toNat) ((N s2.toNat).natAbs * 10 ^ (-(Sc s2.toNat - Sc s.toNat + sc)).toNat) 0)) 8 0), aN (xg x) 0 (a 0) 2400 D1_32, aN (xg x) 0 (a 1) 10 M1_33, aL (xg x) (a 3) 12 (up1 (laI (rnd m (xrI (N s.toNat) (N s2.toNat)) (((N s.toNat).natAbs) * 10 ^ (((Sc s2.toNat) - (Sc s.toNat)) + sc).toNat) (((N s2.toNat).natAbs) * 10 ^ (-(((Sc s2.toNat) - (Sc s.toNat)) + sc)).toNat)) sc) N t.toNat (sgn (xrI (N s.toNat) (N s2.toNat)) (rnd m (xrI (N s.toNat) (N s2.toNat)) (((N s.toNat).natAbs) * 10 ^ (((Sc s2.toNat) - (Sc s.toNat)) + sc).toNat) (((N s2.toNat).natAbs) * 10 ^ (-(((Sc s2.toNat) - (Sc s.toNat)) + sc)).toNat)))), aI (xg x) 0 (a 4) 12 (up1 (laI (rnd m (xrI (N s.toNat) (N s2.toNat)) (((N s.toNat).natAbs) * 10 ^ (((Sc s2.toNat) - (Sc s.toNat)) + sc).toNat) (((N s2.toNat).natAbs) * 10 ^ (-(((Sc s2.toNat) - (Sc s.toNat)) + sc)).toNat)) sc) Sc t.toNat sc), aI (xg x) 4 (a 5) 12 (up1 (laI (rnd m (xrI (N s.toNat) (N s2.toNat)) (((N s.toNat).natAbs) * 10 ^ (((Sc s2.toNat) - (Sc s.toNat)) + sc).toNat) (((N s2.toNat).natAbs) * 10 ^ (-(((Sc s2.toNat) - (Sc s.toNat)) + sc)).toNat)) sc) Hs t.toNat 1)] _ _ _ _ [.int (jI (laI (rnd m (xrI (N s.toNat) (N s2.toNat)) (((N s.toNat).natAbs) * 10 ^ (((Sc s2.toNat) - (Sc s.toNat)) + sc).toNat) (((N s2.toNat).natAbs) * 10 ^ (-(((Sc s2.toNat) - (Sc s.toNat)) + sc)).toNat)) sc)), .ref o]
                    refine sw_if_eq (n := 211) F (by omega) (tgt := 215) dX4_divide_208 (by decide) rfl (fun c_208 => ?_) (fun c_208 => ?_)
                    ·
                      refine sw_iconst (n := 216) F (4) (by decide) dX4_divide_215 rfl ?_
                      refine sw_callV (n := 219) F (ct_X4_fails (g := xg x) (l := xl x) o a (va_up (va_up z 2 (rfz m ((N s.toNat).natAbs * 10 ^ (Sc s2.toNat - Sc s.toNat + sc).toNat) ((N s2.toNat).natAbs * 10 ^ (-(Sc s2.toNat - Sc s.toNat + sc)).toNat) 0)) 8 0) 4 (by first | assumption | omega)) (rcv_ob F 0 (ci := 3) rfl rfl) q3973 q3975 qs68 q120 q3976 nd_X4_fails rfl (by decide) [0, 1, 2, 3, 4, 5] rfl [aN (xg x) 0 (a 0) 2400 D1_32, aN (xg x) 0 (a 1) 10 M1_33, aL (xg x) (a 3) 12 (up1 (laI (rnd m (xrI (N s.toNat) (N s2.toNat)) (((N s.toNat).natAbs) * 10 ^ (((Sc s2.toNat) - (Sc s.toNat)) + sc).toNat) (((N s2.toNat).natAbs) * 10 ^ (-(((Sc s2.toNat) - (Sc s.toNat)) + sc)).toNat)) sc) N t.toNat (sgn (xrI (N s.toNat) (N s2.toNat)) (rnd m (xrI (N s.toNat) (N s2.toNat)) (((N s.toNat).natAbs) * 10 ^ (((Sc s2.toNat) - (Sc s.toNat)) + sc).toNat) (((N s2.toNat).natAbs) * 10 ^ (-(((Sc s2.toNat) - (Sc s.toNat)) + sc)).toNat)))), aI (xg x) 0 (a 4) 12 (up1 (laI (rnd m (xrI (N s.toNat) (N s2.toNat)) (((N s.toNat).natAbs) * 10 ^ (((Sc s2.toNat) - (Sc s.toNat)) + sc).toNat) (((N s2.toNat).natAbs) * 10 ^ (-(((Sc s2.toNat) - (Sc s.toNat)) + sc)).toNat)) sc) Sc t.toNat sc), aI (xg x) 4 (a 5) 12 (up1 (laI (rnd m (xrI (N s.toNat) (N s2.toNat)) (((N s.toNat).natAbs) * 10 ^ (((Sc s2.toNat) - (Sc s.toNat)) + sc).toNat) (((N s2.toNat).natAbs) * 10 ^ (-(((Sc s2.toNat) - (Sc s.toNat)) + sc)).toNat)) sc) Hs t.toNat 1)] rfl 0 0 ⟨by omega, by omega⟩ [] rfl (Nat.le_of_ble_eq_true rfl) dX4_divide_216 rfl (fun _ _ h => h.elim) (fun v Ws h => ?_)
                      obtain ⟨rfl, hps_42, rfl⟩ := h
                      show SW x [tmO (xg x) o a (va_up (va_up (va_up z 2 (rfz m ((N s.toNat).natAbs * 10 ^ (Sc s2.toNat - Sc s.toNat + sc).toNat) ((N s2.toNat).natAbs * 10 ^ (-(Sc s2.toNat - Sc s.toNat + sc)).toNat) 0)) 8 0) 8 4), aN (xg x) 0 (a 0) 2400 D1_32, aN (xg x) 0 (a 1) 10 M1_33, aL (xg x) (a 3) 12 (up1 (laI (rnd m (xrI (N s.toNat) (N s2.toNat)) (((N s.toNat).natAbs) * 10 ^ (((Sc s2.toNat) - (Sc s.toNat)) + sc).toNat) (((N s2.toNat).natAbs) * 10 ^ (-(((Sc s2.toNat) - (Sc s.toNat)) + sc)).toNat)) sc) N t.toNat (sgn (xrI (N s.toNat) (N s2.toNat)) (rnd m (xrI (N s.toNat) (N s2.toNat)) (((N s.toNat).natAbs) * 10 ^ (((Sc s2.toNat) - (Sc s.toNat)) + sc).toNat) (((N s2.toNat).natAbs) * 10 ^ (-(((Sc s2.toNat) - (Sc s.toNat)) + sc)).toNat)))), aI (xg x) 0 (a 4) 12 (up1 (laI (rnd m (xrI (N s.toNat) (N s2.toNat)) (((N s.toNat).natAbs) * 10 ^ (((Sc s2.toNat) - (Sc s.toNat)) + sc).toNat) (((N s2.toNat).natAbs) * 10 ^ (-(((Sc s2.toNat) - (Sc s.toNat)) + sc)).toNat)) sc) Sc t.toNat sc), aI (xg x) 4 (a 5) 12 (up1 (laI (rnd m (xrI (N s.toNat) (N s2.toNat)) (((N s.toNat).natAbs) * 10 ^ (((Sc s2.toNat) - (Sc s.toNat)) + sc).toNat) (((N s2.toNat).natAbs) * 10 ^ (-(((Sc s2.toNat) - (Sc s.toNat)) + sc)).toNat)) sc) Hs t.toNat 1)] _ _ _ _ [.int (jI 1)]
                      refine sw_if_eq (n := 222) F (by decide) (tgt := 226) dX4_divide_219 (by decide) rfl (fun c_219 => ?_) (fun c_219 => ?_)
                      · exfalso; exact absurd c_219 (by decide)
                      ·
                        refine sw_iconst (n := 223) F (0) (by decide) dX4_divide_222 rfl ?_
                        refine sw_goto F (n := 236) dX4_divide_223 (by decide) ?_
                        have eP : dvP s s2 sc m t Hs N = 0 := by unfold dvP; (repeat' split) <;> omega
                        have e : dvC (dvP s s2 sc m t Hs N) (rnd m (xrI (N s.toNat) (N s2.toNat)) ((N s.toNat).natAbs * 10 ^ (Sc s2.toNat - Sc s.toNat + sc).toNat) ((N s2.toNat).natAbs * 10 ^ (-(Sc s2.toNat - Sc s.toNat + sc)).toNat)) (rfz m ((N s.toNat).natAbs * 10 ^ (Sc s2.toNat - Sc s.toNat + sc).toNat) ((N s2.toNat).natAbs * 10 ^ (-(Sc s2.toNat - Sc s.toNat + sc)).toNat) 0) sc = 4 := by unfold dvC; (repeat' split) <;> omega
                        exact sw_iret F _ rfl (by first | rfl | exact jI_nz (by omega) | exact jI_nc (by omega)) dX4_divide_236 (by rw [hPo]; exact ⟨D1_32, M1_33, (by rw [e]; first | rfl | (rw [if0_0, l1, up1_11, va_up_self, sgn_na])), v_39, (by rw [e, eP]; simp only [up0_4, up0_0, up_88, c_208, up1_00])⟩)
                    ·
                      refine sw_iconst (n := 212) F (0) (by decide) dX4_divide_211 rfl ?_
                      refine sw_goto F (n := 216) dX4_divide_212 (by decide) ?_
                      refine sw_callV (n := 219) F (ct_X4_fails (g := xg x) (l := xl x) o a (va_up (va_up z 2 (rfz m ((N s.toNat).natAbs * 10 ^ (Sc s2.toNat - Sc s.toNat + sc).toNat) ((N s2.toNat).natAbs * 10 ^ (-(Sc s2.toNat - Sc s.toNat + sc)).toNat) 0)) 8 0) 0 (by first | assumption | omega)) (rcv_ob F 0 (ci := 3) rfl rfl) q3973 q3975 qs68 q120 q3976 nd_X4_fails rfl (by decide) [0, 1, 2, 3, 4, 5] rfl [aN (xg x) 0 (a 0) 2400 D1_32, aN (xg x) 0 (a 1) 10 M1_33, aL (xg x) (a 3) 12 (up1 (laI (rnd m (xrI (N s.toNat) (N s2.toNat)) (((N s.toNat).natAbs) * 10 ^ (((Sc s2.toNat) - (Sc s.toNat)) + sc).toNat) (((N s2.toNat).natAbs) * 10 ^ (-(((Sc s2.toNat) - (Sc s.toNat)) + sc)).toNat)) sc) N t.toNat (sgn (xrI (N s.toNat) (N s2.toNat)) (rnd m (xrI (N s.toNat) (N s2.toNat)) (((N s.toNat).natAbs) * 10 ^ (((Sc s2.toNat) - (Sc s.toNat)) + sc).toNat) (((N s2.toNat).natAbs) * 10 ^ (-(((Sc s2.toNat) - (Sc s.toNat)) + sc)).toNat)))), aI (xg x) 0 (a 4) 12 (up1 (laI (rnd m (xrI (N s.toNat) (N s2.toNat)) (((N s.toNat).natAbs) * 10 ^ (((Sc s2.toNat) - (Sc s.toNat)) + sc).toNat) (((N s2.toNat).natAbs) * 10 ^ (-(((Sc s2.toNat) - (Sc s.toNat)) + sc)).toNat)) sc) Sc t.toNat sc), aI (xg x) 4 (a 5) 12 (up1 (laI (rnd m (xrI (N s.toNat) (N s2.toNat)) (((N s.toNat).natAbs) * 10 ^ (((Sc s2.toNat) - (Sc s.toNat)) + sc).toNat) (((N s2.toNat).natAbs) * 10 ^ (-(((Sc s2.toNat) - (Sc s.toNat)) + sc)).toNat)) sc) Hs t.toNat 1)] rfl 0 0 ⟨by omega, by omega⟩ [] rfl (Nat.le_of_ble_eq_true rfl) dX4_divide_216 rfl (fun _ _ h => h.elim) (fun v Ws h => ?_)
                      obtain ⟨rfl, hps_43, rfl⟩ := h
                      show SW x [tmO (xg x) o a (va_up (va_up (va_up z 2 (rfz m ((N s.toNat).natAbs * 10 ^ (Sc s2.toNat - Sc s.toNat + sc).toNat) ((N s2.toNat).natAbs * 10 ^ (-(Sc s2.toNat - Sc s.toNat + sc)).toNat) 0)) 8 0) 8 0), aN (xg x) 0 (a 0) 2400 D1_32, aN (xg x) 0 (a 1) 10 M1_33, aL (xg x) (a 3) 12 (up1 (laI (rnd m (xrI (N s.toNat) (N s2.toNat)) (((N s.toNat).natAbs) * 10 ^ (((Sc s2.toNat) - (Sc s.toNat)) + sc).toNat) (((N s2.toNat).natAbs) * 10 ^ (-(((Sc s2.toNat) - (Sc s.toNat)) + sc)).toNat)) sc) N t.toNat (sgn (xrI (N s.toNat) (N s2.toNat)) (rnd m (xrI (N s.toNat) (N s2.toNat)) (((N s.toNat).natAbs) * 10 ^ (((Sc s2.toNat) - (Sc s.toNat)) + sc).toNat) (((N s2.toNat).natAbs) * 10 ^ (-(((Sc s2.toNat) - (Sc s.toNat)) + sc)).toNat)))), aI (xg x) 0 (a 4) 12 (up1 (laI (rnd m (xrI (N s.toNat) (N s2.toNat)) (((N s.toNat).natAbs) * 10 ^ (((Sc s2.toNat) - (Sc s.toNat)) + sc).toNat) (((N s2.toNat).natAbs) * 10 ^ (-(((Sc s2.toNat) - (Sc s.toNat)) + sc)).toNat)) sc) Sc t.toNat sc), aI (xg x) 4 (a 5) 12 (up1 (laI (rnd m (xrI (N s.toNat) (N s2.toNat)) (((N s.toNat).natAbs) * 10 ^ (((Sc s2.toNat) - (Sc s.toNat)) + sc).toNat) (((N s2.toNat).natAbs) * 10 ^ (-(((Sc s2.toNat) - (Sc s.toNat)) + sc)).toNat)) sc) Hs t.toNat 1)] _ _ _ _ [.int (jI 0)]
                      refine sw_if_eq (n := 222) F (by decide) (tgt := 226) dX4_divide_219 (by decide) rfl (fun c_219 => ?_) (fun c_219 => ?_)
                      ·
                        refine sw_aload_n (n := 227) F 0 (some o) rfl rfl rfl dX4_divide_226 rfl ?_
                        refine sw_get (n := 230) F 0 rfl (k := 3) ⟨(RX4, TX4, 50), rfl, by decide, q3802, in_X4, Or.inl rfl⟩ (v := .ref (a 3)) rfl dX4_divide_227 rfl ?_
                        refine sw_iload (n := 232) F 5 rfl dX4_divide_230 rfl ?_
                        refine sw_laloadL (n := 233) F 3 rfl (fun _ => rfl) t.toNat rfl (by omega) dX4_divide_232 rfl ?_
                        refine sw_callS (n := 236) F (ct_X4_digitsOf (g := xg x) (l := xl x) ((up1 (laI (rnd m (xrI (N s.toNat) (N s2.toNat)) (((N s.toNat).natAbs) * 10 ^ (((Sc s2.toNat) - (Sc s.toNat)) + sc).toNat) (((N s2.toNat).natAbs) * 10 ^ (-(((Sc s2.toNat) - (Sc s.toNat)) + sc)).toNat)) sc) N t.toNat (sgn (xrI (N s.toNat) (N s2.toNat)) (rnd m (xrI (N s.toNat) (N s2.toNat)) (((N s.toNat).natAbs) * 10 ^ (((Sc s2.toNat) - (Sc s.toNat)) + sc).toNat) (((N s2.toNat).natAbs) * 10 ^ (-(((Sc s2.toNat) - (Sc s.toNat)) + sc)).toNat)))) t.toNat) (by exact rng_la (by omega))) q3977 q3978 q120 q3979 nd_X4_digitsOf rfl (by decide) [0, 1, 2, 3, 4, 5] rfl [tmO (xg x) o a (va_up (va_up (va_up z 2 (rfz m ((N s.toNat).natAbs * 10 ^ (Sc s2.toNat - Sc s.toNat + sc).toNat) ((N s2.toNat).natAbs * 10 ^ (-(Sc s2.toNat - Sc s.toNat + sc)).toNat) 0)) 8 0) 8 0), aN (xg x) 0 (a 0) 2400 D1_32, aN (xg x) 0 (a 1) 10 M1_33, aL (xg x) (a 3) 12 (up1 (laI (rnd m (xrI (N s.toNat) (N s2.toNat)) (((N s.toNat).natAbs) * 10 ^ (((Sc s2.toNat) - (Sc s.toNat)) + sc).toNat) (((N s2.toNat).natAbs) * 10 ^ (-(((Sc s2.toNat) - (Sc s.toNat)) + sc)).toNat)) sc) N t.toNat (sgn (xrI (N s.toNat) (N s2.toNat)) (rnd m (xrI (N s.toNat) (N s2.toNat)) (((N s.toNat).natAbs) * 10 ^ (((Sc s2.toNat) - (Sc s.toNat)) + sc).toNat) (((N s2.toNat).natAbs) * 10 ^ (-(((Sc s2.toNat) - (Sc s.toNat)) + sc)).toNat)))), aI (xg x) 0 (a 4) 12 (up1 (laI (rnd m (xrI (N s.toNat) (N s2.toNat)) (((N s.toNat).natAbs) * 10 ^ (((Sc s2.toNat) - (Sc s.toNat)) + sc).toNat) (((N s2.toNat).natAbs) * 10 ^ (-(((Sc s2.toNat) - (Sc s.toNat)) + sc)).toNat)) sc) Sc t.toNat sc), aI (xg x) 4 (a 5) 12 (up1 (laI (rnd m (xrI (N s.toNat) (N s2.toNat)) (((N s.toNat).natAbs) * 10 ^ (((Sc s2.toNat) - (Sc s.toNat)) + sc).toNat) (((N s2.toNat).natAbs) * 10 ^ (-(((Sc s2.toNat) - (Sc s.toNat)) + sc)).toNat)) sc) Hs t.toNat 1)] rfl 0 0 ⟨by omega, by omega⟩ [] rfl (Nat.le_of_ble_eq_true rfl) dX4_divide_233 rfl (fun _ _ h => h.elim) (fun v Ws h => ?_)
                        obtain ⟨rfl, rfl⟩ := h
                        show SW x [tmO (xg x) o a (va_up (va_up (va_up z 2 (rfz m ((N s.toNat).natAbs * 10 ^ (Sc s2.toNat - Sc s.toNat + sc).toNat) ((N s2.toNat).natAbs * 10 ^ (-(Sc s2.toNat - Sc s.toNat + sc)).toNat) 0)) 8 0) 8 0), aN (xg x) 0 (a 0) 2400 D1_32, aN (xg x) 0 (a 1) 10 M1_33, aL (xg x) (a 3) 12 (up1 (laI (rnd m (xrI (N s.toNat) (N s2.toNat)) (((N s.toNat).natAbs) * 10 ^ (((Sc s2.toNat) - (Sc s.toNat)) + sc).toNat) (((N s2.toNat).natAbs) * 10 ^ (-(((Sc s2.toNat) - (Sc s.toNat)) + sc)).toNat)) sc) N t.toNat (sgn (xrI (N s.toNat) (N s2.toNat)) (rnd m (xrI (N s.toNat) (N s2.toNat)) (((N s.toNat).natAbs) * 10 ^ (((Sc s2.toNat) - (Sc s.toNat)) + sc).toNat) (((N s2.toNat).natAbs) * 10 ^ (-(((Sc s2.toNat) - (Sc s.toNat)) + sc)).toNat)))), aI (xg x) 0 (a 4) 12 (up1 (laI (rnd m (xrI (N s.toNat) (N s2.toNat)) (((N s.toNat).natAbs) * 10 ^ (((Sc s2.toNat) - (Sc s.toNat)) + sc).toNat) (((N s2.toNat).natAbs) * 10 ^ (-(((Sc s2.toNat) - (Sc s.toNat)) + sc)).toNat)) sc) Sc t.toNat sc), aI (xg x) 4 (a 5) 12 (up1 (laI (rnd m (xrI (N s.toNat) (N s2.toNat)) (((N s.toNat).natAbs) * 10 ^ (((Sc s2.toNat) - (Sc s.toNat)) + sc).toNat) (((N s2.toNat).natAbs) * 10 ^ (-(((Sc s2.toNat) - (Sc s.toNat)) + sc)).toNat)) sc) Hs t.toNat 1)] _ _ _ _ [.int (jI (↑(dgc ((up1 (laI (rnd m (xrI (N s.toNat) (N s2.toNat)) (((N s.toNat).natAbs) * 10 ^ (((Sc s2.toNat) - (Sc s.toNat)) + sc).toNat) (((N s2.toNat).natAbs) * 10 ^ (-(((Sc s2.toNat) - (Sc s.toNat)) + sc)).toNat)) sc) N t.toNat (sgn (xrI (N s.toNat) (N s2.toNat)) (rnd m (xrI (N s.toNat) (N s2.toNat)) (((N s.toNat).natAbs) * 10 ^ (((Sc s2.toNat) - (Sc s.toNat)) + sc).toNat) (((N s2.toNat).natAbs) * 10 ^ (-(((Sc s2.toNat) - (Sc s.toNat)) + sc)).toNat)))) t.toNat).natAbs)))]
                        have eP : dvP s s2 sc m t Hs N = 0 := by unfold dvP; (repeat' split) <;> omega
                        have e : dvC (dvP s s2 sc m t Hs N) (rnd m (xrI (N s.toNat) (N s2.toNat)) ((N s.toNat).natAbs * 10 ^ (Sc s2.toNat - Sc s.toNat + sc).toNat) ((N s2.toNat).natAbs * 10 ^ (-(Sc s2.toNat - Sc s.toNat + sc)).toNat)) (rfz m ((N s.toNat).natAbs * 10 ^ (Sc s2.toNat - Sc s.toNat + sc).toNat) ((N s2.toNat).natAbs * 10 ^ (-(Sc s2.toNat - Sc s.toNat + sc)).toNat) 0) sc = 0 := by unfold dvC; (repeat' split) <;> omega
                        have l1 : laI (rnd m (xrI (N s.toNat) (N s2.toNat)) ((N s.toNat).natAbs * 10 ^ (Sc s2.toNat - Sc s.toNat + sc).toNat) ((N s2.toNat).natAbs * 10 ^ (-(Sc s2.toNat - Sc s.toNat + sc)).toNat)) sc = 1 := by omega
                        exact sw_iret F _ rfl (by first | rfl | exact jI_nz (by omega) | exact jI_nc (by omega)) dX4_divide_236 (by rw [hPo]; exact ⟨D1_32, M1_33, (by rw [e]; first | rfl | (rw [if0_0, l1, up1_11, va_up_self, sgn_na])), v_39, (by rw [e, eP]; simp only [up0_0, up0_0, up_88, l1, up1_11])⟩)
                      · exfalso; exact absurd c_219 (by decide)
                refine sw_get (n := 102) F 0 rfl (k := 3) ⟨(RX4, TX4, 50), rfl, by decide, q3802, in_X4, Or.inl rfl⟩ (v := .ref (a 3)) rfl dX4_divide_99 rfl ?_
                refine sw_iload_n (n := 103) F 2 rfl rfl dX4_divide_102 rfl ?_
                refine sw_laloadL (n := 104) F 3 rfl (fun _ => rfl) s.toNat (by omega) (by omega) dX4_divide_103 rfl ?_
                refine sw_lconst (n := 105) F 0 (by decide) dX4_divide_104 rfl ?_
                refine sw_lcmp (n := 106) F (by omega) (by decide) dX4_divide_105 rfl ?_
                refine sw_if_ge (n := 109) F (by omega) (tgt := 113) dX4_divide_106 (by decide) rfl (fun c_106 => ?_) (fun c_106 => ?_)
                ·
                  have c_106 : N s.toNat ≥ 0 := by revert c_106; (repeat' split) <;> omega
                  refine sw_iconst (n := 114) F (0) (by decide) dX4_divide_113 rfl ?_
                  refine sw_aload_n (n := 115) F 1 (some o) rfl rfl rfl dX4_divide_114 rfl ?_
                  refine sw_get (n := 118) F 0 rfl (k := 3) ⟨(RX4, TX4, 50), rfl, by decide, q3802, in_X4, Or.inl rfl⟩ (v := .ref (a 3)) rfl dX4_divide_115 rfl ?_
                  refine sw_iload_n (n := 119) F 3 rfl rfl dX4_divide_118 rfl ?_
                  refine sw_laloadL (n := 120) F 3 rfl (fun _ => rfl) s2.toNat (by omega) (by omega) dX4_divide_119 rfl ?_
                  refine sw_lconst (n := 121) F 0 (by decide) dX4_divide_120 rfl ?_
                  refine sw_lcmp (n := 122) F (by omega) (by decide) dX4_divide_121 rfl ?_
                  refine sw_if_ge (n := 125) F (by omega) (tgt := 129) dX4_divide_122 (by decide) rfl (fun c_122 => ?_) (fun c_122 => ?_)
                  ·
                    have c_122 : N s2.toNat ≥ 0 := by revert c_122; (repeat' split) <;> omega
                    refine sw_iconst (n := 130) F (0) (by decide) dX4_divide_129 rfl ?_
                    refine sw_icmp_eq (n := 133) F (by decide) (by decide) (tgt := 137) dX4_divide_130 (by decide) rfl (fun c_130 => ?_) (fun c_130 => ?_)
                    ·
                      refine sw_iconst (n := 138) F (0) (by decide) dX4_divide_137 rfl ?_
                      refine sw_istore (n := 140) F (L2 := [(7, .int (jI 0)), (6, .int (jI (((Sc s2.toNat) - (Sc s.toNat)) + sc))), (0, .ref o), (1, .int (jI (↑(s.toNat)))), (2, .int (jI (↑(s2.toNat)))), (3, .int (jI sc)), (4, .int (jI m)), (5, .int (jI (↑(t.toNat))))]) rfl (by decide) dX4_divide_138 rfl ?_
                      refine sw_loc [2, 3, 4, 5, 6, 7, 1, 0] (L2 := [(0, .ref o), (1, .int (jI (↑(s.toNat)))), (2, .int (jI (↑(s2.toNat)))), (3, .int (jI sc)), (4, .int (jI m)), (5, .int (jI (↑(t.toNat)))), (6, .int (jI (((Sc s2.toNat) - (Sc s.toNat)) + sc))), (7, .int (jI 0))]) rfl ?_
                      exact K140 0 (by first | rw [xrI_0 (by omega)] | rw [xrI_1 (by omega)])
                    · exfalso; exact absurd c_130 (by decide)
                  ·
                    have c_122 : N s2.toNat < 0 := by revert c_122; (repeat' split) <;> omega
                    refine sw_iconst (n := 126) F (1) (by decide) dX4_divide_125 rfl ?_
                    refine sw_goto F (n := 130) dX4_divide_126 (by decide) ?_
                    refine sw_icmp_eq (n := 133) F (by decide) (by decide) (tgt := 137) dX4_divide_130 (by decide) rfl (fun c_130 => ?_) (fun c_130 => ?_)
                    · exfalso; exact absurd c_130 (by decide)
                    ·
                      refine sw_iconst (n := 134) F (1) (by decide) dX4_divide_133 rfl ?_
                      refine sw_goto F (n := 138) dX4_divide_134 (by decide) ?_
                      refine sw_istore (n := 140) F (L2 := [(7, .int (jI 1)), (6, .int (jI (((Sc s2.toNat) - (Sc s.toNat)) + sc))), (0, .ref o), (1, .int (jI (↑(s.toNat)))), (2, .int (jI (↑(s2.toNat)))), (3, .int (jI sc)), (4, .int (jI m)), (5, .int (jI (↑(t.toNat))))]) rfl (by decide) dX4_divide_138 rfl ?_
                      refine sw_loc [2, 3, 4, 5, 6, 7, 1, 0] (L2 := [(0, .ref o), (1, .int (jI (↑(s.toNat)))), (2, .int (jI (↑(s2.toNat)))), (3, .int (jI sc)), (4, .int (jI m)), (5, .int (jI (↑(t.toNat)))), (6, .int (jI (((Sc s2.toNat) - (Sc s.toNat)) + sc))), (7, .int (jI 1))]) rfl ?_
                      exact K140 1 (by first | rw [xrI_0 (by omega)] | rw [xrI_1 (by omega)])
                ·
                  have c_106 : N s.toNat < 0 := by revert c_106; (repeat' split) <;> omega
                  refine sw_iconst (n := 110) F (1) (by decide) dX4_divide_109 rfl ?_
                  refine sw_goto F (n := 114) dX4_divide_110 (by decide) ?_
                  refine sw_aload_n (n := 115) F 1 (some o) rfl rfl rfl dX4_divide_114 rfl ?_
                  refine sw_get (n := 118) F 0 rfl (k := 3) ⟨(RX4, TX4, 50), rfl, by decide, q3802, in_X4, Or.inl rfl⟩ (v := .ref (a 3)) rfl dX4_divide_115 rfl ?_
                  refine sw_iload_n (n := 119) F 3 rfl rfl dX4_divide_118 rfl ?_
                  refine sw_laloadL (n := 120) F 3 rfl (fun _ => rfl) s2.toNat (by omega) (by omega) dX4_divide_119 rfl ?_
                  refine sw_lconst (n := 121) F 0 (by decide) dX4_divide_120 rfl ?_
                  refine sw_lcmp (n := 122) F (by omega) (by decide) dX4_divide_121 rfl ?_
                  refine sw_if_ge (n := 125) F (by omega) (tgt := 129) dX4_divide_122 (by decide) rfl (fun c_122 => ?_) (fun c_122 => ?_)
                  ·
                    have c_122 : N s2.toNat ≥ 0 := by revert c_122; (repeat' split) <;> omega
                    refine sw_iconst (n := 130) F (0) (by decide) dX4_divide_129 rfl ?_
                    refine sw_icmp_eq (n := 133) F (by decide) (by decide) (tgt := 137) dX4_divide_130 (by decide) rfl (fun c_130 => ?_) (fun c_130 => ?_)
                    · exfalso; exact absurd c_130 (by decide)
                    ·
                      refine sw_iconst (n := 134) F (1) (by decide) dX4_divide_133 rfl ?_
                      refine sw_goto F (n := 138) dX4_divide_134 (by decide) ?_
                      refine sw_istore (n := 140) F (L2 := [(7, .int (jI 1)), (6, .int (jI (((Sc s2.toNat) - (Sc s.toNat)) + sc))), (0, .ref o), (1, .int (jI (↑(s.toNat)))), (2, .int (jI (↑(s2.toNat)))), (3, .int (jI sc)), (4, .int (jI m)), (5, .int (jI (↑(t.toNat))))]) rfl (by decide) dX4_divide_138 rfl ?_
                      refine sw_loc [2, 3, 4, 5, 6, 7, 1, 0] (L2 := [(0, .ref o), (1, .int (jI (↑(s.toNat)))), (2, .int (jI (↑(s2.toNat)))), (3, .int (jI sc)), (4, .int (jI m)), (5, .int (jI (↑(t.toNat)))), (6, .int (jI (((Sc s2.toNat) - (Sc s.toNat)) + sc))), (7, .int (jI 1))]) rfl ?_
                      exact K140 1 (by first | rw [xrI_0 (by omega)] | rw [xrI_1 (by omega)])
                  ·
                    have c_122 : N s2.toNat < 0 := by revert c_122; (repeat' split) <;> omega
                    refine sw_iconst (n := 126) F (1) (by decide) dX4_divide_125 rfl ?_
                    refine sw_goto F (n := 130) dX4_divide_126 (by decide) ?_
                    refine sw_icmp_eq (n := 133) F (by decide) (by decide) (tgt := 137) dX4_divide_130 (by decide) rfl (fun c_130 => ?_) (fun c_130 => ?_)
                    ·
                      refine sw_iconst (n := 138) F (0) (by decide) dX4_divide_137 rfl ?_
                      refine sw_istore (n := 140) F (L2 := [(7, .int (jI 0)), (6, .int (jI (((Sc s2.toNat) - (Sc s.toNat)) + sc))), (0, .ref o), (1, .int (jI (↑(s.toNat)))), (2, .int (jI (↑(s2.toNat)))), (3, .int (jI sc)), (4, .int (jI m)), (5, .int (jI (↑(t.toNat))))]) rfl (by decide) dX4_divide_138 rfl ?_
                      refine sw_loc [2, 3, 4, 5, 6, 7, 1, 0] (L2 := [(0, .ref o), (1, .int (jI (↑(s.toNat)))), (2, .int (jI (↑(s2.toNat)))), (3, .int (jI sc)), (4, .int (jI m)), (5, .int (jI (↑(t.toNat)))), (6, .int (jI (((Sc s2.toNat) - (Sc s.toNat)) + sc))), (7, .int (jI 0))]) rfl ?_
                      exact K140 0 (by first | rw [xrI_0 (by omega)] | rw [xrI_1 (by omega)])
                    · exfalso; exact absurd c_130 (by decide)
              · exfalso; exact absurd c_76 (by decide)
            ·
              have c_65 : N ((s2 : Int).toNat) = 0 := by revert c_65; (repeat' split) <;> omega
              refine sw_iconst (n := 69) F (4) (by decide) dX4_divide_68 rfl ?_
              refine sw_goto F (n := 73) dX4_divide_69 (by decide) ?_
              refine sw_callV (n := 76) F (ct_X4_fails (g := xg x) (l := xl x) o a z 4 (by first | assumption | omega)) (rcv_ob F 0 (ci := 3) rfl rfl) q3973 q3975 qs68 q120 q3976 nd_X4_fails rfl (by decide) [0, 1, 2, 3, 4, 5] rfl [aN (xg x) 0 (a 0) 2400 D, aN (xg x) 0 (a 1) 10 M, aL (xg x) (a 3) 12 N, aI (xg x) 0 (a 4) 12 Sc, aI (xg x) 4 (a 5) 12 Hs] rfl 0 0 ⟨by omega, by omega⟩ [] rfl (Nat.le_of_ble_eq_true rfl) dX4_divide_73 rfl (fun _ _ h => h.elim) (fun v Ws h => ?_)
              obtain ⟨rfl, hps_44, rfl⟩ := h
              show SW x [tmO (xg x) o a (va_up z 8 4), aN (xg x) 0 (a 0) 2400 D, aN (xg x) 0 (a 1) 10 M, aL (xg x) (a 3) 12 N, aI (xg x) 0 (a 4) 12 Sc, aI (xg x) 4 (a 5) 12 Hs] _ _ _ _ [.int (jI 1)]
              refine sw_if_eq (n := 79) F (by decide) (tgt := 81) dX4_divide_76 (by decide) rfl (fun c_76 => ?_) (fun c_76 => ?_)
              · exfalso; exact absurd c_76 (by decide)
              ·
                refine sw_iconst (n := 80) F (0) (by decide) dX4_divide_79 rfl ?_
                have eP : dvP s s2 sc m t Hs N = 4 := by unfold dvP; (repeat' split) <;> omega
                have e : dvC (dvP s s2 sc m t Hs N) (rnd m (xrI (N s.toNat) (N s2.toNat)) ((N s.toNat).natAbs * 10 ^ (Sc s2.toNat - Sc s.toNat + sc).toNat) ((N s2.toNat).natAbs * 10 ^ (-(Sc s2.toNat - Sc s.toNat + sc)).toNat)) (rfz m ((N s.toNat).natAbs * 10 ^ (Sc s2.toNat - Sc s.toNat + sc).toNat) ((N s2.toNat).natAbs * 10 ^ (-(Sc s2.toNat - Sc s.toNat + sc)).toNat) 0) sc = 4 := by unfold dvC; (repeat' split) <;> omega
                exact sw_iret F _ rfl (by first | rfl | exact jI_nz (by omega) | exact jI_nc (by omega)) dX4_divide_80 (by rw [hPo]; exact ⟨D, M, (by rw [e]; first | rfl | (rw [if0_0, l1, up1_11, va_up_self, sgn_na])), (by exact (RV.rf hA).mono (S := []) (by simp)), (by rw [e, eP]; simp only [up0_4, up0_4, up_88])⟩)
          ·
            refine sw_iconst (n := 54) F (3) (by decide) dX4_divide_53 rfl ?_
            refine sw_goto F (n := 73) dX4_divide_54 (by decide) ?_
            refine sw_callV (n := 76) F (ct_X4_fails (g := xg x) (l := xl x) o a z 3 (by first | assumption | omega)) (rcv_ob F 0 (ci := 3) rfl rfl) q3973 q3975 qs68 q120 q3976 nd_X4_fails rfl (by decide) [0, 1, 2, 3, 4, 5] rfl [aN (xg x) 0 (a 0) 2400 D, aN (xg x) 0 (a 1) 10 M, aL (xg x) (a 3) 12 N, aI (xg x) 0 (a 4) 12 Sc, aI (xg x) 4 (a 5) 12 Hs] rfl 0 0 ⟨by omega, by omega⟩ [] rfl (Nat.le_of_ble_eq_true rfl) dX4_divide_73 rfl (fun _ _ h => h.elim) (fun v Ws h => ?_)
            obtain ⟨rfl, hps_45, rfl⟩ := h
            show SW x [tmO (xg x) o a (va_up z 8 3), aN (xg x) 0 (a 0) 2400 D, aN (xg x) 0 (a 1) 10 M, aL (xg x) (a 3) 12 N, aI (xg x) 0 (a 4) 12 Sc, aI (xg x) 4 (a 5) 12 Hs] _ _ _ _ [.int (jI 1)]
            refine sw_if_eq (n := 79) F (by decide) (tgt := 81) dX4_divide_76 (by decide) rfl (fun c_76 => ?_) (fun c_76 => ?_)
            · exfalso; exact absurd c_76 (by decide)
            ·
              refine sw_iconst (n := 80) F (0) (by decide) dX4_divide_79 rfl ?_
              have eP : dvP s s2 sc m t Hs N = 3 := by unfold dvP; (repeat' split) <;> omega
              have e : dvC (dvP s s2 sc m t Hs N) (rnd m (xrI (N s.toNat) (N s2.toNat)) ((N s.toNat).natAbs * 10 ^ (Sc s2.toNat - Sc s.toNat + sc).toNat) ((N s2.toNat).natAbs * 10 ^ (-(Sc s2.toNat - Sc s.toNat + sc)).toNat)) (rfz m ((N s.toNat).natAbs * 10 ^ (Sc s2.toNat - Sc s.toNat + sc).toNat) ((N s2.toNat).natAbs * 10 ^ (-(Sc s2.toNat - Sc s.toNat + sc)).toNat) 0) sc = 3 := by unfold dvC; (repeat' split) <;> omega
              exact sw_iret F _ rfl (by first | rfl | exact jI_nz (by omega) | exact jI_nc (by omega)) dX4_divide_80 (by rw [hPo]; exact ⟨D, M, (by rw [e]; first | rfl | (rw [if0_0, l1, up1_11, va_up_self, sgn_na])), (by exact (RV.rf hA).mono (S := []) (by simp)), (by rw [e, eP]; simp only [up0_3, up0_3, up_88])⟩)
      ·
        refine sw_iconst (n := 32) F (2) (by decide) dX4_divide_31 rfl ?_
        refine sw_goto F (n := 73) dX4_divide_32 (by decide) ?_
        refine sw_callV (n := 76) F (ct_X4_fails (g := xg x) (l := xl x) o a z 2 (by first | assumption | omega)) (rcv_ob F 0 (ci := 3) rfl rfl) q3973 q3975 qs68 q120 q3976 nd_X4_fails rfl (by decide) [0, 1, 2, 3, 4, 5] rfl [aN (xg x) 0 (a 0) 2400 D, aN (xg x) 0 (a 1) 10 M, aL (xg x) (a 3) 12 N, aI (xg x) 0 (a 4) 12 Sc, aI (xg x) 4 (a 5) 12 Hs] rfl 0 0 ⟨by omega, by omega⟩ [] rfl (Nat.le_of_ble_eq_true rfl) dX4_divide_73 rfl (fun _ _ h => h.elim) (fun v Ws h => ?_)
        obtain ⟨rfl, hps_46, rfl⟩ := h
        show SW x [tmO (xg x) o a (va_up z 8 2), aN (xg x) 0 (a 0) 2400 D, aN (xg x) 0 (a 1) 10 M, aL (xg x) (a 3) 12 N, aI (xg x) 0 (a 4) 12 Sc, aI (xg x) 4 (a 5) 12 Hs] _ _ _ _ [.int (jI 1)]
        refine sw_if_eq (n := 79) F (by decide) (tgt := 81) dX4_divide_76 (by decide) rfl (fun c_76 => ?_) (fun c_76 => ?_)
        · exfalso; exact absurd c_76 (by decide)
        ·
          refine sw_iconst (n := 80) F (0) (by decide) dX4_divide_79 rfl ?_
          have eP : dvP s s2 sc m t Hs N = 2 := by unfold dvP; (repeat' split) <;> omega
          have e : dvC (dvP s s2 sc m t Hs N) (rnd m (xrI (N s.toNat) (N s2.toNat)) ((N s.toNat).natAbs * 10 ^ (Sc s2.toNat - Sc s.toNat + sc).toNat) ((N s2.toNat).natAbs * 10 ^ (-(Sc s2.toNat - Sc s.toNat + sc)).toNat)) (rfz m ((N s.toNat).natAbs * 10 ^ (Sc s2.toNat - Sc s.toNat + sc).toNat) ((N s2.toNat).natAbs * 10 ^ (-(Sc s2.toNat - Sc s.toNat + sc)).toNat) 0) sc = 2 := by unfold dvC; (repeat' split) <;> omega
          exact sw_iret F _ rfl (by first | rfl | exact jI_nz (by omega) | exact jI_nc (by omega)) dX4_divide_80 (by rw [hPo]; exact ⟨D, M, (by rw [e]; first | rfl | (rw [if0_0, l1, up1_11, va_up_self, sgn_na])), (by exact (RV.rf hA).mono (S := []) (by simp)), (by rw [e, eP]; simp only [up0_2, up0_2, up_88])⟩)
  ·
    refine sw_iconst (n := 13) F (1) (by decide) dX4_divide_12 rfl ?_
    refine sw_goto F (n := 73) dX4_divide_13 (by decide) ?_
    refine sw_callV (n := 76) F (ct_X4_fails (g := xg x) (l := xl x) o a z 1 (by first | assumption | omega)) (rcv_ob F 0 (ci := 3) rfl rfl) q3973 q3975 qs68 q120 q3976 nd_X4_fails rfl (by decide) [0, 1, 2, 3, 4, 5] rfl [aN (xg x) 0 (a 0) 2400 D, aN (xg x) 0 (a 1) 10 M, aL (xg x) (a 3) 12 N, aI (xg x) 0 (a 4) 12 Sc, aI (xg x) 4 (a 5) 12 Hs] rfl 0 0 ⟨by omega, by omega⟩ [] rfl (Nat.le_of_ble_eq_true rfl) dX4_divide_73 rfl (fun _ _ h => h.elim) (fun v Ws h => ?_)
    obtain ⟨rfl, hps_47, rfl⟩ := h
    show SW x [tmO (xg x) o a (va_up z 8 1), aN (xg x) 0 (a 0) 2400 D, aN (xg x) 0 (a 1) 10 M, aL (xg x) (a 3) 12 N, aI (xg x) 0 (a 4) 12 Sc, aI (xg x) 4 (a 5) 12 Hs] _ _ _ _ [.int (jI 1)]
    refine sw_if_eq (n := 79) F (by decide) (tgt := 81) dX4_divide_76 (by decide) rfl (fun c_76 => ?_) (fun c_76 => ?_)
    · exfalso; exact absurd c_76 (by decide)
    ·
      refine sw_iconst (n := 80) F (0) (by decide) dX4_divide_79 rfl ?_
      have eP : dvP s s2 sc m t Hs N = 1 := by unfold dvP; (repeat' split) <;> omega
      have e : dvC (dvP s s2 sc m t Hs N) (rnd m (xrI (N s.toNat) (N s2.toNat)) ((N s.toNat).natAbs * 10 ^ (Sc s2.toNat - Sc s.toNat + sc).toNat) ((N s2.toNat).natAbs * 10 ^ (-(Sc s2.toNat - Sc s.toNat + sc)).toNat)) (rfz m ((N s.toNat).natAbs * 10 ^ (Sc s2.toNat - Sc s.toNat + sc).toNat) ((N s2.toNat).natAbs * 10 ^ (-(Sc s2.toNat - Sc s.toNat + sc)).toNat) 0) sc = 1 := by unfold dvC; (repeat' split) <;> omega
      exact sw_iret F _ rfl (by first | rfl | exact jI_nz (by omega) | exact jI_nc (by omega)) dX4_divide_80 (by rw [hPo]; exact ⟨D, M, (by rw [e]; first | rfl | (rw [if0_0, l1, up1_11, va_up_self, sgn_na])), (by exact (RV.rf hA).mono (S := []) (by simp)), (by rw [e, eP]; simp only [up0_1, up0_1, up_88])⟩)
