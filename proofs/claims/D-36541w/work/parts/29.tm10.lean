def npI (a b c : Int) : Int := if a < 0 ∨ 11 < a ∨ b < 0 ∨ 11 < b ∨ c < 0 ∨ 11 < c then 1 else 0
theorem npI_cases (a b c : Int) : (npI a b c = 1 ∧ (a < 0 ∨ 11 < a ∨ b < 0 ∨ 11 < b ∨ c < 0 ∨ 11 < c)) ∨ (npI a b c = 0 ∧ 0 ≤ a ∧ a ≤ 11 ∧ 0 ≤ b ∧ b ≤ 11 ∧ 0 ≤ c ∧ c ≤ 11) := by unfold npI; split <;> omega
def eqI (s t : Int) (N Sc H : Nat → Int) : Int := if cmC s t H = 0 ∧ N s.toNat = N t.toNat ∧ Sc s.toNat = Sc t.toNat then 1 else 0
theorem up_upI (z : Nat → Int) (k : Nat) (a b : Int) : va_up (va_up z k a) k b = va_up z k b := by funext j; unfold va_up; split <;> rfl
theorem l76 {x e : Nat} (h : x < 10 ^ 18) (he : e ≤ 58) : x * 10 ^ e < 10 ^ 76 := by
  have h1 : x * 10 ^ e < 10 ^ 18 * 10 ^ e := Nat.mul_lt_mul_of_pos_right h (Nat.pow_pos (by decide))
  rw [← Nat.pow_add] at h1
  exact Nat.lt_of_lt_of_le h1 (Nat.pow_le_pow_right (by decide) (by omega))
theorem b76 {n : Nat} (h : n < 10 ^ 76) : n < big ∧ n < big - 1 ∧ n * 10 < big := by
  have h1 : 10 ^ 76 * 10 ≤ big := by rw [← Nat.pow_succ]; exact Nat.pow_le_pow_right (by decide) (by decide)
  omega
theorem nd_X4_noPair : yX4_noPair.cls ≠ "java/lang/invoke/MethodHandle" ∧ yX4_noPair.cls ≠ "java/lang/invoke/VarHandle" ∧ (parseMethodDescriptor yX4_noPair.desc).map (fun d => d.parameters.length) = some 3 := by decide +kernel
set_option maxRecDepth 100000 in
set_option maxHeartbeats 1000000 in
theorem ct_X4_noPair {g : GG} {l : Launch} (o : Nat) (a : Nat → Nat) (z : Nat → Int) (p : Int) (q : Int) (t : Int) (hp : -2147483648 ≤ p ∧ p ≤ 2147483647) (hq : -2147483648 ≤ q ∧ q ≤ 2147483647) (ht : -2147483648 ≤ t ∧ t ≤ 2147483647) : Ct g l yX4_noPair (ws_ yX4_noPair cX4_noPair 4 (Option.some Jvm.ClassFile.FieldType.int)) 3 57 0 0 [.ref o, .int (jI p), .int (jI q), .int (jI t)] [tmO g o a z] (fun v9 Ws9 => v9 = some (.int (jI (npI p q t))) ∧ ((npI p q t = 1 ∧ (p < 0 ∨ 11 < p ∨ q < 0 ∨ 11 < q ∨ t < 0 ∨ 11 < t)) ∨ (npI p q t = 0 ∧ 0 ≤ p ∧ p ≤ 11 ∧ 0 ≤ q ∧ q ≤ 11 ∧ 0 ≤ t ∧ t ≤ 11)) ∧ Ws9 = [tmO g o a z]) (nox) := by
  refine Ct.of (cc := cX4_noPair) (nL := 4) (ret := (Option.some Jvm.ClassFile.FieldType.int)) (by decide) rfl (Nat.le_of_ble_eq_true rfl) ?_
  intro x hg hl hPo hPx hmc hms F
  subst hg; subst hl
  refine SW.cast (L' := [(0, .ref o), (1, .int (jI p)), (2, .int (jI q)), (3, .int (jI t))]) ?_ rfl rfl rfl
  refine sw_iload_n (n := 1) F 1 rfl rfl dX4_noPair_0 rfl ?_
  refine sw_callS (n := 4) F (ct_X4_isShelf (g := xg x) (l := xl x) p hp) q3959 q3960 q120 q3961 nd_X4_isShelf rfl (by decide) [0] rfl [tmO (xg x) o a z] rfl 0 0 ⟨by omega, by omega⟩ [] rfl (Nat.le_of_ble_eq_true rfl) dX4_noPair_1 rfl (fun _ _ h => h.elim) (fun v Ws h => ?_)
  obtain ⟨rfl, hs_1, rfl⟩ := h
  show SW x [tmO (xg x) o a z] _ _ _ _ [.int (jI (inI p 0 11))]
  refine sw_if_eq (n := 7) F (by omega) (tgt := 21) dX4_noPair_4 (by decide) rfl (fun c_4 => ?_) (fun c_4 => ?_)
  ·
    refine sw_iconst (n := 22) F (1) (by decide) dX4_noPair_21 rfl ?_
    refine sw_goto F (n := 26) dX4_noPair_22 (by decide) ?_
    have e9 : npI p q t = 1 := by unfold npI; (repeat' split) <;> omega
    exact sw_iret F _ rfl (by first | rfl | exact jI_nz (by omega) | exact jI_nc (by omega)) dX4_noPair_26 (by rw [hPo]; exact ⟨(by rw [e9]), (by exact npI_cases _ _ _), rfl⟩)
  ·
    refine sw_iload_n (n := 8) F 2 rfl rfl dX4_noPair_7 rfl ?_
    refine sw_callS (n := 11) F (ct_X4_isShelf (g := xg x) (l := xl x) q hq) q3959 q3960 q120 q3961 nd_X4_isShelf rfl (by decide) [0] rfl [tmO (xg x) o a z] rfl 0 0 ⟨by omega, by omega⟩ [] rfl (Nat.le_of_ble_eq_true rfl) dX4_noPair_8 rfl (fun _ _ h => h.elim) (fun v Ws h => ?_)
    obtain ⟨rfl, hs_2, rfl⟩ := h
    show SW x [tmO (xg x) o a z] _ _ _ _ [.int (jI (inI q 0 11))]
    refine sw_if_eq (n := 14) F (by omega) (tgt := 21) dX4_noPair_11 (by decide) rfl (fun c_11 => ?_) (fun c_11 => ?_)
    ·
      refine sw_iconst (n := 22) F (1) (by decide) dX4_noPair_21 rfl ?_
      refine sw_goto F (n := 26) dX4_noPair_22 (by decide) ?_
      have e9 : npI p q t = 1 := by unfold npI; (repeat' split) <;> omega
      exact sw_iret F _ rfl (by first | rfl | exact jI_nz (by omega) | exact jI_nc (by omega)) dX4_noPair_26 (by rw [hPo]; exact ⟨(by rw [e9]), (by exact npI_cases _ _ _), rfl⟩)
    ·
      refine sw_iload_n (n := 15) F 3 rfl rfl dX4_noPair_14 rfl ?_
      refine sw_callS (n := 18) F (ct_X4_isShelf (g := xg x) (l := xl x) t ht) q3959 q3960 q120 q3961 nd_X4_isShelf rfl (by decide) [0] rfl [tmO (xg x) o a z] rfl 0 0 ⟨by omega, by omega⟩ [] rfl (Nat.le_of_ble_eq_true rfl) dX4_noPair_15 rfl (fun _ _ h => h.elim) (fun v Ws h => ?_)
      obtain ⟨rfl, hs_3, rfl⟩ := h
      show SW x [tmO (xg x) o a z] _ _ _ _ [.int (jI (inI t 0 11))]
      refine sw_if_ne (n := 21) F (by omega) (tgt := 25) dX4_noPair_18 (by decide) rfl (fun c_18 => ?_) (fun c_18 => ?_)
      ·
        refine sw_iconst (n := 26) F (0) (by decide) dX4_noPair_25 rfl ?_
        have e9 : npI p q t = 0 := by unfold npI; (repeat' split) <;> omega
        exact sw_iret F _ rfl (by first | rfl | exact jI_nz (by omega) | exact jI_nc (by omega)) dX4_noPair_26 (by rw [hPo]; exact ⟨(by rw [e9]), (by exact npI_cases _ _ _), rfl⟩)
      ·
        refine sw_iconst (n := 22) F (1) (by decide) dX4_noPair_21 rfl ?_
        refine sw_goto F (n := 26) dX4_noPair_22 (by decide) ?_
        have e9 : npI p q t = 1 := by unfold npI; (repeat' split) <;> omega
        exact sw_iret F _ rfl (by first | rfl | exact jI_nz (by omega) | exact jI_nc (by omega)) dX4_noPair_26 (by rw [hPo]; exact ⟨(by rw [e9]), (by exact npI_cases _ _ _), rfl⟩)
theorem nd_X4_isEqual : yX4_isEqual.cls ≠ "java/lang/invoke/MethodHandle" ∧ yX4_isEqual.cls ≠ "java/lang/invoke/VarHandle" ∧ (parseMethodDescriptor yX4_isEqual.desc).map (fun d => d.parameters.length) = some 2 := by decide +kernel
set_option maxRecDepth 100000 in
set_option maxHeartbeats 1000000 in
theorem ct_X4_isEqual {g : GG} {l : Launch} (o : Nat) (a : Nat → Nat) (z : Nat → Int) (N : Nat → Int) (Sc : Nat → Int) (Hs : Nat → Int) (s : Int) (t : Int) (hs : -2147483648 ≤ s ∧ s ≤ 2147483647) (ht : -2147483648 ≤ t ∧ t ≤ 2147483647) (hN : NB N) (hSc : SB Sc) (hB : HB Hs) : Ct g l yX4_isEqual (ws_ yX4_isEqual cX4_isEqual 3 (Option.some Jvm.ClassFile.FieldType.boolean)) 3 57 0 0 [.ref o, .int (jI s), .int (jI t)] [tmO g o a z, aL g (a 3) 12 N, aI g 0 (a 4) 12 Sc, aI g 4 (a 5) 12 Hs] (fun v9 Ws9 => v9 = some (.int (jI (eqI s t N Sc Hs))) ∧ Ws9 = [tmO g o a (va_up z 8 (cmC s t Hs)), aL g (a 3) 12 N, aI g 0 (a 4) 12 Sc, aI g 4 (a 5) 12 Hs]) (nox) := by
  refine Ct.of (cc := cX4_isEqual) (nL := 3) (ret := (Option.some Jvm.ClassFile.FieldType.boolean)) (by decide) rfl (Nat.le_of_ble_eq_true rfl) ?_
  intro x hg hl hPo hPx hmc hms F
  subst hg; subst hl
  refine SW.cast (L' := [(0, .ref o), (1, .int (jI s)), (2, .int (jI t))]) ?_ rfl rfl rfl
  have hq1 := hB s.toNat
  have hq2 := hB t.toNat
  have hn := hN s.toNat
  have hn2 := hN t.toNat
  have hss := hSc s.toNat
  have hss2 := hSc t.toNat
  refine sw_aload_n (n := 1) F 0 (some o) rfl rfl rfl dX4_isEqual_0 rfl ?_
  refine sw_iload_n (n := 2) F 1 rfl rfl dX4_isEqual_1 rfl ?_
  refine sw_callS (n := 5) F (ct_X4_isShelf (g := xg x) (l := xl x) s hs) q3959 q3960 q120 q3961 nd_X4_isShelf rfl (by decide) [0, 1, 2, 3] rfl [tmO (xg x) o a z, aL (xg x) (a 3) 12 N, aI (xg x) 0 (a 4) 12 Sc, aI (xg x) 4 (a 5) 12 Hs] rfl 0 0 ⟨by omega, by omega⟩ [.ref o] rfl (Nat.le_of_ble_eq_true rfl) dX4_isEqual_2 rfl (fun _ _ h => h.elim) (fun v Ws h => ?_)
  obtain ⟨rfl, hs_1, rfl⟩ := h
  show SW x [tmO (xg x) o a z, aL (xg x) (a 3) 12 N, aI (xg x) 0 (a 4) 12 Sc, aI (xg x) 4 (a 5) 12 Hs] _ _ _ _ [.int (jI (inI s 0 11)), .ref o]
  refine sw_if_eq (n := 8) F (by omega) (tgt := 15) dX4_isEqual_5 (by decide) rfl (fun c_5 => ?_) (fun c_5 => ?_)
  ·
    refine sw_iconst (n := 16) F (1) (by decide) dX4_isEqual_15 rfl ?_
    refine sw_goto F (n := 42) dX4_isEqual_16 (by decide) ?_
    refine sw_callV (n := 45) F (ct_X4_fails (g := xg x) (l := xl x) o a z 1 (by first | assumption | omega)) (rcv_ob F 0 (ci := 3) rfl rfl) q3973 q3975 qs68 q120 q3976 nd_X4_fails rfl (by decide) [0, 1, 2, 3] rfl [aL (xg x) (a 3) 12 N, aI (xg x) 0 (a 4) 12 Sc, aI (xg x) 4 (a 5) 12 Hs] rfl 0 0 ⟨by omega, by omega⟩ [] rfl (Nat.le_of_ble_eq_true rfl) dX4_isEqual_42 rfl (fun _ _ h => h.elim) (fun v Ws h => ?_)
    obtain ⟨rfl, hps_2, rfl⟩ := h
    show SW x [tmO (xg x) o a (va_up z 8 1), aL (xg x) (a 3) 12 N, aI (xg x) 0 (a 4) 12 Sc, aI (xg x) 4 (a 5) 12 Hs] _ _ _ _ [.int (jI 1)]
    refine sw_if_ne (n := 48) F (by decide) (tgt := 83) dX4_isEqual_45 (by decide) rfl (fun c_45 => ?_) (fun c_45 => ?_)
    ·
      refine sw_iconst (n := 84) F (0) (by decide) dX4_isEqual_83 rfl ?_
      have e : cmC s t Hs = 1 := by unfold cmC; (repeat' split) <;> omega
      have e9 : eqI s t N Sc Hs = 0 := by unfold eqI; (repeat' split) <;> omega
      exact sw_iret F _ rfl (by first | rfl | exact jI_nz (by omega) | exact jI_nc (by omega)) dX4_isEqual_84 (by rw [hPo]; exact ⟨(by rw [e9]), (by simp only [e, up0_1])⟩)
    · exfalso; exact absurd c_45 (by decide)
  ·
    refine sw_iload_n (n := 9) F 2 rfl rfl dX4_isEqual_8 rfl ?_
    refine sw_callS (n := 12) F (ct_X4_isShelf (g := xg x) (l := xl x) t ht) q3959 q3960 q120 q3961 nd_X4_isShelf rfl (by decide) [0, 1, 2, 3] rfl [tmO (xg x) o a z, aL (xg x) (a 3) 12 N, aI (xg x) 0 (a 4) 12 Sc, aI (xg x) 4 (a 5) 12 Hs] rfl 0 0 ⟨by omega, by omega⟩ [.ref o] rfl (Nat.le_of_ble_eq_true rfl) dX4_isEqual_9 rfl (fun _ _ h => h.elim) (fun v Ws h => ?_)
    obtain ⟨rfl, hs_3, rfl⟩ := h
    show SW x [tmO (xg x) o a z, aL (xg x) (a 3) 12 N, aI (xg x) 0 (a 4) 12 Sc, aI (xg x) 4 (a 5) 12 Hs] _ _ _ _ [.int (jI (inI t 0 11)), .ref o]
    refine sw_if_ne (n := 15) F (by omega) (tgt := 19) dX4_isEqual_12 (by decide) rfl (fun c_12 => ?_) (fun c_12 => ?_)
    ·
      refine sw_aload_n (n := 20) F 0 (some o) rfl rfl rfl dX4_isEqual_19 rfl ?_
      refine sw_get (n := 23) F 0 rfl (k := 5) ⟨(RX4, TX4, 50), rfl, by decide, q3804, in_X4, Or.inl rfl⟩ (v := .ref (a 5)) rfl dX4_isEqual_20 rfl ?_
      refine sw_iload_n (n := 24) F 1 rfl rfl dX4_isEqual_23 rfl ?_
      refine sw_zaloadI (n := 25) F 3 rfl (fun _ => rfl) ((s : Int).toNat) (by omega) (by omega) dX4_isEqual_24 rfl ?_
      refine sw_if_eq (n := 28) F (by omega) (tgt := 37) dX4_isEqual_25 (by decide) rfl (fun c_25 => ?_) (fun c_25 => ?_)
      ·
        refine sw_iconst (n := 38) F (2) (by decide) dX4_isEqual_37 rfl ?_
        refine sw_goto F (n := 42) dX4_isEqual_38 (by decide) ?_
        refine sw_callV (n := 45) F (ct_X4_fails (g := xg x) (l := xl x) o a z 2 (by first | assumption | omega)) (rcv_ob F 0 (ci := 3) rfl rfl) q3973 q3975 qs68 q120 q3976 nd_X4_fails rfl (by decide) [0, 1, 2, 3] rfl [aL (xg x) (a 3) 12 N, aI (xg x) 0 (a 4) 12 Sc, aI (xg x) 4 (a 5) 12 Hs] rfl 0 0 ⟨by omega, by omega⟩ [] rfl (Nat.le_of_ble_eq_true rfl) dX4_isEqual_42 rfl (fun _ _ h => h.elim) (fun v Ws h => ?_)
        obtain ⟨rfl, hps_4, rfl⟩ := h
        show SW x [tmO (xg x) o a (va_up z 8 2), aL (xg x) (a 3) 12 N, aI (xg x) 0 (a 4) 12 Sc, aI (xg x) 4 (a 5) 12 Hs] _ _ _ _ [.int (jI 1)]
        refine sw_if_ne (n := 48) F (by decide) (tgt := 83) dX4_isEqual_45 (by decide) rfl (fun c_45 => ?_) (fun c_45 => ?_)
        ·
          refine sw_iconst (n := 84) F (0) (by decide) dX4_isEqual_83 rfl ?_
          have e : cmC s t Hs = 2 := by unfold cmC; (repeat' split) <;> omega
          have e9 : eqI s t N Sc Hs = 0 := by unfold eqI; (repeat' split) <;> omega
          exact sw_iret F _ rfl (by first | rfl | exact jI_nz (by omega) | exact jI_nc (by omega)) dX4_isEqual_84 (by rw [hPo]; exact ⟨(by rw [e9]), (by simp only [e, up0_2])⟩)
        · exfalso; exact absurd c_45 (by decide)
      ·
        refine sw_aload_n (n := 29) F 0 (some o) rfl rfl rfl dX4_isEqual_28 rfl ?_
        refine sw_get (n := 32) F 0 rfl (k := 5) ⟨(RX4, TX4, 50), rfl, by decide, q3804, in_X4, Or.inl rfl⟩ (v := .ref (a 5)) rfl dX4_isEqual_29 rfl ?_
        refine sw_iload_n (n := 33) F 2 rfl rfl dX4_isEqual_32 rfl ?_
        refine sw_zaloadI (n := 34) F 3 rfl (fun _ => rfl) ((t : Int).toNat) (by omega) (by omega) dX4_isEqual_33 rfl ?_
        refine sw_if_ne (n := 37) F (by omega) (tgt := 41) dX4_isEqual_34 (by decide) rfl (fun c_34 => ?_) (fun c_34 => ?_)
        ·
          refine sw_iconst (n := 42) F (0) (by decide) dX4_isEqual_41 rfl ?_
          refine sw_callV (n := 45) F (ct_X4_fails (g := xg x) (l := xl x) o a z 0 (by first | assumption | omega)) (rcv_ob F 0 (ci := 3) rfl rfl) q3973 q3975 qs68 q120 q3976 nd_X4_fails rfl (by decide) [0, 1, 2, 3] rfl [aL (xg x) (a 3) 12 N, aI (xg x) 0 (a 4) 12 Sc, aI (xg x) 4 (a 5) 12 Hs] rfl 0 0 ⟨by omega, by omega⟩ [] rfl (Nat.le_of_ble_eq_true rfl) dX4_isEqual_42 rfl (fun _ _ h => h.elim) (fun v Ws h => ?_)
          obtain ⟨rfl, hps_5, rfl⟩ := h
          show SW x [tmO (xg x) o a (va_up z 8 0), aL (xg x) (a 3) 12 N, aI (xg x) 0 (a 4) 12 Sc, aI (xg x) 4 (a 5) 12 Hs] _ _ _ _ [.int (jI 0)]
          refine sw_if_ne (n := 48) F (by decide) (tgt := 83) dX4_isEqual_45 (by decide) rfl (fun c_45 => ?_) (fun c_45 => ?_)
          · exfalso; exact absurd c_45 (by decide)
          ·
            refine sw_aload_n (n := 49) F 0 (some o) rfl rfl rfl dX4_isEqual_48 rfl ?_
            refine sw_get (n := 52) F 0 rfl (k := 3) ⟨(RX4, TX4, 50), rfl, by decide, q3802, in_X4, Or.inl rfl⟩ (v := .ref (a 3)) rfl dX4_isEqual_49 rfl ?_
            refine sw_iload_n (n := 53) F 1 rfl rfl dX4_isEqual_52 rfl ?_
            refine sw_laloadL (n := 54) F 1 rfl (fun _ => rfl) ((s : Int).toNat) (by omega) (by omega) dX4_isEqual_53 rfl ?_
            refine sw_aload_n (n := 55) F 0 (some o) rfl rfl rfl dX4_isEqual_54 rfl ?_
            refine sw_get (n := 58) F 0 rfl (k := 3) ⟨(RX4, TX4, 50), rfl, by decide, q3802, in_X4, Or.inl rfl⟩ (v := .ref (a 3)) rfl dX4_isEqual_55 rfl ?_
            refine sw_iload_n (n := 59) F 2 rfl rfl dX4_isEqual_58 rfl ?_
            refine sw_laloadL (n := 60) F 1 rfl (fun _ => rfl) ((t : Int).toNat) (by omega) (by omega) dX4_isEqual_59 rfl ?_
            refine sw_lcmp (n := 61) F (by omega) (by omega) dX4_isEqual_60 rfl ?_
            refine sw_if_ne (n := 64) F (by omega) (tgt := 83) dX4_isEqual_61 (by decide) rfl (fun c_61 => ?_) (fun c_61 => ?_)
            ·
              have c_61 : N ((s : Int).toNat) ≠ N ((t : Int).toNat) := by revert c_61; (repeat' split) <;> omega
              refine sw_iconst (n := 84) F (0) (by decide) dX4_isEqual_83 rfl ?_
              have e : cmC s t Hs = 0 := by unfold cmC; (repeat' split) <;> omega
              have e9 : eqI s t N Sc Hs = 0 := by unfold eqI; (repeat' split) <;> omega
              exact sw_iret F _ rfl (by first | rfl | exact jI_nz (by omega) | exact jI_nc (by omega)) dX4_isEqual_84 (by rw [hPo]; exact ⟨(by rw [e9]), (by simp only [e, up0_0])⟩)
            ·
              have c_61 : N ((s : Int).toNat) = N ((t : Int).toNat) := by revert c_61; (repeat' split) <;> omega
              refine sw_aload_n (n := 65) F 0 (some o) rfl rfl rfl dX4_isEqual_64 rfl ?_
              refine sw_get (n := 68) F 0 rfl (k := 4) ⟨(RX4, TX4, 50), rfl, by decide, q3803, in_X4, Or.inl rfl⟩ (v := .ref (a 4)) rfl dX4_isEqual_65 rfl ?_
              refine sw_iload_n (n := 69) F 1 rfl rfl dX4_isEqual_68 rfl ?_
              refine sw_ialoadI (n := 70) F 2 rfl (fun _ => rfl) ((s : Int).toNat) (by omega) (by omega) dX4_isEqual_69 rfl ?_
              refine sw_aload_n (n := 71) F 0 (some o) rfl rfl rfl dX4_isEqual_70 rfl ?_
              refine sw_get (n := 74) F 0 rfl (k := 4) ⟨(RX4, TX4, 50), rfl, by decide, q3803, in_X4, Or.inl rfl⟩ (v := .ref (a 4)) rfl dX4_isEqual_71 rfl ?_
              refine sw_iload_n (n := 75) F 2 rfl rfl dX4_isEqual_74 rfl ?_
              refine sw_ialoadI (n := 76) F 2 rfl (fun _ => rfl) ((t : Int).toNat) (by omega) (by omega) dX4_isEqual_75 rfl ?_
              refine sw_icmp_ne (n := 79) F (by omega) (by omega) (tgt := 83) dX4_isEqual_76 (by decide) rfl (fun c_76 => ?_) (fun c_76 => ?_)
              ·
                refine sw_iconst (n := 84) F (0) (by decide) dX4_isEqual_83 rfl ?_
                have e : cmC s t Hs = 0 := by unfold cmC; (repeat' split) <;> omega
                have e9 : eqI s t N Sc Hs = 0 := by unfold eqI; (repeat' split) <;> omega
                exact sw_iret F _ rfl (by first | rfl | exact jI_nz (by omega) | exact jI_nc (by omega)) dX4_isEqual_84 (by rw [hPo]; exact ⟨(by rw [e9]), (by simp only [e, up0_0])⟩)
              ·
                refine sw_iconst (n := 80) F (1) (by decide) dX4_isEqual_79 rfl ?_
                refine sw_goto F (n := 84) dX4_isEqual_80 (by decide) ?_
                have e : cmC s t Hs = 0 := by unfold cmC; (repeat' split) <;> omega
                have e9 : eqI s t N Sc Hs = 1 := by unfold eqI; (repeat' split) <;> omega
                exact sw_iret F _ rfl (by first | rfl | exact jI_nz (by omega) | exact jI_nc (by omega)) dX4_isEqual_84 (by rw [hPo]; exact ⟨(by rw [e9]), (by simp only [e, up0_0])⟩)
        ·
          refine sw_iconst (n := 38) F (2) (by decide) dX4_isEqual_37 rfl ?_
          refine sw_goto F (n := 42) dX4_isEqual_38 (by decide) ?_
          refine sw_callV (n := 45) F (ct_X4_fails (g := xg x) (l := xl x) o a z 2 (by first | assumption | omega)) (rcv_ob F 0 (ci := 3) rfl rfl) q3973 q3975 qs68 q120 q3976 nd_X4_fails rfl (by decide) [0, 1, 2, 3] rfl [aL (xg x) (a 3) 12 N, aI (xg x) 0 (a 4) 12 Sc, aI (xg x) 4 (a 5) 12 Hs] rfl 0 0 ⟨by omega, by omega⟩ [] rfl (Nat.le_of_ble_eq_true rfl) dX4_isEqual_42 rfl (fun _ _ h => h.elim) (fun v Ws h => ?_)
          obtain ⟨rfl, hps_6, rfl⟩ := h
          show SW x [tmO (xg x) o a (va_up z 8 2), aL (xg x) (a 3) 12 N, aI (xg x) 0 (a 4) 12 Sc, aI (xg x) 4 (a 5) 12 Hs] _ _ _ _ [.int (jI 1)]
          refine sw_if_ne (n := 48) F (by decide) (tgt := 83) dX4_isEqual_45 (by decide) rfl (fun c_45 => ?_) (fun c_45 => ?_)
          ·
            refine sw_iconst (n := 84) F (0) (by decide) dX4_isEqual_83 rfl ?_
            have e : cmC s t Hs = 2 := by unfold cmC; (repeat' split) <;> omega
            have e9 : eqI s t N Sc Hs = 0 := by unfold eqI; (repeat' split) <;> omega
            exact sw_iret F _ rfl (by first | rfl | exact jI_nz (by omega) | exact jI_nc (by omega)) dX4_isEqual_84 (by rw [hPo]; exact ⟨(by rw [e9]), (by simp only [e, up0_2])⟩)
          · exfalso; exact absurd c_45 (by decide)
    ·
      refine sw_iconst (n := 16) F (1) (by decide) dX4_isEqual_15 rfl ?_
      refine sw_goto F (n := 42) dX4_isEqual_16 (by decide) ?_
      refine sw_callV (n := 45) F (ct_X4_fails (g := xg x) (l := xl x) o a z 1 (by first | assumption | omega)) (rcv_ob F 0 (ci := 3) rfl rfl) q3973 q3975 qs68 q120 q3976 nd_X4_fails rfl (by decide) [0, 1, 2, 3] rfl [aL (xg x) (a 3) 12 N, aI (xg x) 0 (a 4) 12 Sc, aI (xg x) 4 (a 5) 12 Hs] rfl 0 0 ⟨by omega, by omega⟩ [] rfl (Nat.le_of_ble_eq_true rfl) dX4_isEqual_42 rfl (fun _ _ h => h.elim) (fun v Ws h => ?_)
      obtain ⟨rfl, hps_7, rfl⟩ := h
      show SW x [tmO (xg x) o a (va_up z 8 1), aL (xg x) (a 3) 12 N, aI (xg x) 0 (a 4) 12 Sc, aI (xg x) 4 (a 5) 12 Hs] _ _ _ _ [.int (jI 1)]
      refine sw_if_ne (n := 48) F (by decide) (tgt := 83) dX4_isEqual_45 (by decide) rfl (fun c_45 => ?_) (fun c_45 => ?_)
      ·
        refine sw_iconst (n := 84) F (0) (by decide) dX4_isEqual_83 rfl ?_
        have e : cmC s t Hs = 1 := by unfold cmC; (repeat' split) <;> omega
        have e9 : eqI s t N Sc Hs = 0 := by unfold eqI; (repeat' split) <;> omega
        exact sw_iret F _ rfl (by first | rfl | exact jI_nz (by omega) | exact jI_nc (by omega)) dX4_isEqual_84 (by rw [hPo]; exact ⟨(by rw [e9]), (by simp only [e, up0_1])⟩)
      · exfalso; exact absurd c_45 (by decide)
theorem nd_X4_scales : yX4_scales.cls ≠ "java/lang/invoke/MethodHandle" ∧ yX4_scales.cls ≠ "java/lang/invoke/VarHandle" ∧ (parseMethodDescriptor yX4_scales.desc).map (fun d => d.parameters.length) = some 3 := by decide +kernel
set_option maxRecDepth 100000 in
set_option maxHeartbeats 1000000 in
theorem ct_X4_scales {g : GG} {l : Launch} (o : Nat) (a : Nat → Nat) (z : Nat → Int) (D : Nat → Nat) (M : Nat → Nat) (N : Nat → Int) (Sc : Nat → Int) (s : Nat) (sc : Int) (m : Int) (hs : s < 12) (hsc : sc - Sc s ≤ 58 ∧ Sc s - sc ≤ 58) (hm : 0 ≤ m ∧ m ≤ 65535) (hA : Dok D M) (hN : NB N) (hSc : SB Sc) : Ct g l yX4_scales (ws_ yX4_scales cX4_scales 4 (Option.none : Option Jvm.ClassFile.FieldType)) 6 127 0 0 [.ref o, .int (jI (↑s)), .int (jI sc), .int (jI m)] [tmO g o a z, aN g 0 (a 0) 2400 D, aN g 0 (a 1) 10 M, aL g (a 3) 12 N, aI g 0 (a 4) 12 Sc] (fun v9 Ws9 => ∃ D1 : Nat → Nat, ∃ M1 : Nat → Nat, v9 = none ∧ (RV [0, 1, 2, 3, 8, 9] D M D1 M1) ∧ (rok D1 M1 2 (rnd m (bl (N s)) ((N s).natAbs * 10 ^ (sc - Sc s).toNat) (1 * 10 ^ (Sc s - sc).toNat))) ∧ Ws9 = [tmO g o a (va_up z 2 (rfz m ((N s).natAbs * 10 ^ (sc - Sc s).toNat) (1 * 10 ^ (Sc s - sc).toNat) 0)), aN g 0 (a 0) 2400 D1, aN g 0 (a 1) 10 M1, aL g (a 3) 12 N, aI g 0 (a 4) 12 Sc]) (nox) := by
  refine Ct.of (cc := cX4_scales) (nL := 4) (ret := (Option.none : Option Jvm.ClassFile.FieldType)) (by decide) rfl (Nat.le_of_ble_eq_true rfl) ?_
  intro x hg hl hPo hPx hmc hms F
  subst hg; subst hl
  refine SW.cast (L' := [(0, .ref o), (1, .int (jI (↑s))), (2, .int (jI sc)), (3, .int (jI m))]) ?_ rfl rfl rfl
  have hn := hN s
  have hss := hSc s
  have hsr : -100 ≤ sc ∧ sc ≤ 100 := by omega
  have hx1 := b76 (l76 (e := (sc - Sc s).toNat) (abs_18 hn) (by omega))
  have hx2 := b76 (l76 (x := 1) (e := (Sc s - sc).toNat) (by decide) (by omega))
  have hx3 : 0 < 10 ^ (Sc s - sc).toNat := Nat.pow_pos (by decide)
  have hx4 : 0 < 1 * 10 ^ (Sc s - sc).toNat := by omega
  refine sw_aload_n (n := 1) F 0 (some o) rfl rfl rfl dX4_scales_0 rfl ?_
  refine sw_iconst (n := 2) F (0) (by decide) dX4_scales_1 rfl ?_
  refine sw_put (n := 5) F 0 rfl (k := 2) ⟨(RX4, TX4, 50), rfl, by decide, q3801, in_X4, Or.inl rfl⟩ .boolean ⟨(RX4, TX4, 50), rfl, rfl, tyX4_ok 2 (by decide), nmX4, tyX4, tyX4_ok⟩ (jI_nz (by first | decide | omega)) (jI_fz (by first | decide | omega)) (Nat.le_of_ble_eq_true rfl) (fs' := tmF a (va_up z 2 0)) rfl [tmO (xg x) o a (va_up z 2 0), aN (xg x) 0 (a 0) 2400 D, aN (xg x) 0 (a 1) 10 M, aL (xg x) (a 3) 12 N, aI (xg x) 0 (a 4) 12 Sc] rfl dX4_scales_2 rfl ?_
  refine sw_aload_n (n := 6) F 0 (some o) rfl rfl rfl dX4_scales_5 rfl ?_
  refine sw_iconst (n := 7) F (0) (by decide) dX4_scales_6 rfl ?_
  refine sw_aload_n (n := 8) F 0 (some o) rfl rfl rfl dX4_scales_7 rfl ?_
  refine sw_get (n := 11) F 0 rfl (k := 3) ⟨(RX4, TX4, 50), rfl, by decide, q3802, in_X4, Or.inl rfl⟩ (v := .ref (a 3)) rfl dX4_scales_8 rfl ?_
  refine sw_iload_n (n := 12) F 1 rfl rfl dX4_scales_11 rfl ?_
  refine sw_laloadL (n := 13) F 3 rfl (fun _ => rfl) s rfl (by omega) dX4_scales_12 rfl ?_
  refine sw_callV (n := 16) F (ct_X4_lets (g := xg x) (l := xl x) o a (va_up z 2 0) D M 0 (N s) (by first | assumption | omega) hA (by first | assumption | omega)) (rcv_ob F 0 (ci := 3) rfl rfl) q4004 q4006 qs71 q120 q4007 nd_X4_lets rfl (by decide) [0, 1, 2, 3, 4] rfl [aL (xg x) (a 3) 12 N, aI (xg x) 0 (a 4) 12 Sc] rfl 0 0 ⟨by omega, by omega⟩ [] rfl (Nat.le_of_ble_eq_true rfl) dX4_scales_13 rfl (fun _ _ h => h.elim) (fun v Ws h => ?_)
  obtain ⟨D1_1, M1_2, rfl, hU_3, rfl⟩ := h
  show SW x [tmO (xg x) o a (va_up z 2 0), aN (xg x) 0 (a 0) 2400 D1_1, aN (xg x) 0 (a 1) 10 M1_2, aL (xg x) (a 3) 12 N, aI (xg x) 0 (a 4) 12 Sc] _ _ _ _ []
  have a_4 := hU_3.1
  have r_5 : rok D1_1 M1_2 0 ((N s).natAbs) := hU_3.2.2.2
  have v_6 := hU_3.rv
  refine sw_aload_n (n := 17) F 0 (some o) rfl rfl rfl dX4_scales_16 rfl ?_
  refine sw_iconst (n := 18) F (0) (by decide) dX4_scales_17 rfl ?_
  refine sw_iload_n (n := 19) F 2 rfl rfl dX4_scales_18 rfl ?_
  refine sw_aload_n (n := 20) F 0 (some o) rfl rfl rfl dX4_scales_19 rfl ?_
  refine sw_get (n := 23) F 0 rfl (k := 4) ⟨(RX4, TX4, 50), rfl, by decide, q3803, in_X4, Or.inl rfl⟩ (v := .ref (a 4)) rfl dX4_scales_20 rfl ?_
  refine sw_iload_n (n := 24) F 1 rfl rfl dX4_scales_23 rfl ?_
  refine sw_ialoadI (n := 25) F 4 rfl (fun _ => rfl) s rfl (by omega) dX4_scales_24 rfl ?_
  refine sw_isub (n := 26) F dX4_scales_25 rfl ?_
  refine sw_callV (n := 29) F (ct_X4_shifts (g := xg x) (l := xl x) o a (va_up z 2 0) D1_1 M1_2 0 (sc - (Sc s)) ((N s).natAbs) (by first | assumption | omega) a_4 r_5 (by first | assumption | omega) (by first | assumption | omega)) (rcv_ob F 0 (ci := 3) rfl rfl) q4000 q4002 qs70 q120 q4003 nd_X4_shifts rfl (by decide) [0, 1, 2, 3, 4] rfl [aL (xg x) (a 3) 12 N, aI (xg x) 0 (a 4) 12 Sc] rfl 0 0 ⟨by omega, by omega⟩ [] rfl (Nat.le_of_ble_eq_true rfl) dX4_scales_26 rfl (fun _ _ h => h.elim) (fun v Ws h => ?_)
  obtain ⟨D1_7, M1_8, rfl, hU_9, rfl⟩ := h
  show SW x [tmO (xg x) o a (va_up z 2 0), aN (xg x) 0 (a 0) 2400 D1_7, aN (xg x) 0 (a 1) 10 M1_8, aL (xg x) (a 3) 12 N, aI (xg x) 0 (a 4) 12 Sc] _ _ _ _ []
  have a_10 := hU_9.1
  have r_11 : rok D1_7 M1_8 0 (((N s).natAbs) * 10 ^ (sc - (Sc s)).toNat) := hU_9.2.2.2
  have v_12 := (v_6.mono (T := [0]) (by simp)).trans hU_9.rv (by simp)
  refine sw_aload_n (n := 30) F 0 (some o) rfl rfl rfl dX4_scales_29 rfl ?_
  refine sw_iconst (n := 31) F (1) (by decide) dX4_scales_30 rfl ?_
  refine sw_lconst (n := 32) F 1 (by decide) dX4_scales_31 rfl ?_
  refine sw_callV (n := 35) F (ct_X4_lets (g := xg x) (l := xl x) o a (va_up z 2 0) D1_7 M1_8 1 1 (by first | assumption | omega) a_10 (by first | assumption | omega)) (rcv_ob F 0 (ci := 3) rfl rfl) q4004 q4006 qs71 q120 q4007 nd_X4_lets rfl (by decide) [0, 1, 2, 3, 4] rfl [aL (xg x) (a 3) 12 N, aI (xg x) 0 (a 4) 12 Sc] rfl 0 0 ⟨by omega, by omega⟩ [] rfl (Nat.le_of_ble_eq_true rfl) dX4_scales_32 rfl (fun _ _ h => h.elim) (fun v Ws h => ?_)
  obtain ⟨D1_13, M1_14, rfl, hU_15, rfl⟩ := h
  show SW x [tmO (xg x) o a (va_up z 2 0), aN (xg x) 0 (a 0) 2400 D1_13, aN (xg x) 0 (a 1) 10 M1_14, aL (xg x) (a 3) 12 N, aI (xg x) 0 (a 4) 12 Sc] _ _ _ _ []
  have a_16 := hU_15.1
  have r_17 : rok D1_13 M1_14 1 1 := hU_15.2.2.2
  have k_18 := hU_15.keep (r := 0) (by first | omega | simp | (simp; omega)) r_11
  have v_19 := (v_12.mono (T := [0, 1]) (by simp)).trans hU_15.rv (by simp)
  refine sw_aload_n (n := 36) F 0 (some o) rfl rfl rfl dX4_scales_35 rfl ?_
  refine sw_iconst (n := 37) F (1) (by decide) dX4_scales_36 rfl ?_
  refine sw_aload_n (n := 38) F 0 (some o) rfl rfl rfl dX4_scales_37 rfl ?_
  refine sw_get (n := 41) F 0 rfl (k := 4) ⟨(RX4, TX4, 50), rfl, by decide, q3803, in_X4, Or.inl rfl⟩ (v := .ref (a 4)) rfl dX4_scales_38 rfl ?_
  refine sw_iload_n (n := 42) F 1 rfl rfl dX4_scales_41 rfl ?_
  refine sw_ialoadI (n := 43) F 4 rfl (fun _ => rfl) s rfl (by omega) dX4_scales_42 rfl ?_
  refine sw_iload_n (n := 44) F 2 rfl rfl dX4_scales_43 rfl ?_
  refine sw_isub (n := 45) F dX4_scales_44 rfl ?_
  refine sw_callV (n := 48) F (ct_X4_shifts (g := xg x) (l := xl x) o a (va_up z 2 0) D1_13 M1_14 1 ((Sc s) - sc) 1 (by first | assumption | omega) a_16 r_17 (by first | assumption | omega) (by first | assumption | omega)) (rcv_ob F 0 (ci := 3) rfl rfl) q4000 q4002 qs70 q120 q4003 nd_X4_shifts rfl (by decide) [0, 1, 2, 3, 4] rfl [aL (xg x) (a 3) 12 N, aI (xg x) 0 (a 4) 12 Sc] rfl 0 0 ⟨by omega, by omega⟩ [] rfl (Nat.le_of_ble_eq_true rfl) dX4_scales_45 rfl (fun _ _ h => h.elim) (fun v Ws h => ?_)
  obtain ⟨D1_20, M1_21, rfl, hU_22, rfl⟩ := h
  show SW x [tmO (xg x) o a (va_up z 2 0), aN (xg x) 0 (a 0) 2400 D1_20, aN (xg x) 0 (a 1) 10 M1_21, aL (xg x) (a 3) 12 N, aI (xg x) 0 (a 4) 12 Sc] _ _ _ _ []
  have a_23 := hU_22.1
  have r_24 : rok D1_20 M1_21 1 (1 * 10 ^ ((Sc s) - sc).toNat) := hU_22.2.2.2
  have k_25 := hU_22.keep (r := 0) (by first | omega | simp | (simp; omega)) k_18
  have v_26 := (v_19.mono (T := [0, 1]) (by simp)).trans hU_22.rv (by simp)
  refine sw_aload_n (n := 49) F 0 (some o) rfl rfl rfl dX4_scales_48 rfl ?_
  refine sw_aload_n (n := 50) F 0 (some o) rfl rfl rfl dX4_scales_49 rfl ?_
  refine sw_get (n := 53) F 0 rfl (k := 3) ⟨(RX4, TX4, 50), rfl, by decide, q3802, in_X4, Or.inl rfl⟩ (v := .ref (a 3)) rfl dX4_scales_50 rfl ?_
  refine sw_iload_n (n := 54) F 1 rfl rfl dX4_scales_53 rfl ?_
  refine sw_laloadL (n := 55) F 3 rfl (fun _ => rfl) s rfl (by omega) dX4_scales_54 rfl ?_
  refine sw_lconst (n := 56) F 0 (by decide) dX4_scales_55 rfl ?_
  refine sw_lcmp (n := 57) F (by omega) (by decide) dX4_scales_56 rfl ?_
  refine sw_if_ge (n := 60) F (by omega) (tgt := 64) dX4_scales_57 (by decide) rfl (fun c_57 => ?_) (fun c_57 => ?_)
  ·
    have c_57 : N s ≥ 0 := by revert c_57; (repeat' split) <;> omega
    refine sw_iconst (n := 65) F (0) (by decide) dX4_scales_64 rfl ?_
    refine sw_iload_n (n := 66) F 3 rfl rfl dX4_scales_65 rfl ?_
    refine sw_callV (n := 69) F (ct_X4_rounds (g := xg x) (l := xl x) o a (va_up z 2 0) D1_20 M1_21 (((N s).natAbs) * 10 ^ (sc - (Sc s)).toNat) (1 * 10 ^ ((Sc s) - sc).toNat) 0 m a_23 k_25 r_24 hx4 (by first | assumption | omega) (by first | assumption | omega) (by first | assumption | omega) hm (by exact Or.inl rfl)) (rcv_ob F 0 (ci := 3) rfl rfl) q4123 q4125 qs90 q120 q4126 nd_X4_rounds rfl (by decide) [0, 1, 2, 3, 4] rfl [aL (xg x) (a 3) 12 N, aI (xg x) 0 (a 4) 12 Sc] rfl 0 0 ⟨by omega, by omega⟩ [] rfl (Nat.le_of_ble_eq_true rfl) dX4_scales_66 rfl (fun _ _ h => h.elim) (fun v Ws h => ?_)
    obtain ⟨D1_27, M1_28, rfl, hV_29, hr_30, rfl⟩ := h
    show SW x [tmO (xg x) o a (va_up (va_up z 2 0) 2 (rfz m (((N s).natAbs) * 10 ^ (sc - (Sc s)).toNat) (1 * 10 ^ ((Sc s) - sc).toNat) ((va_up z 2 0) 2))), aN (xg x) 0 (a 0) 2400 D1_27, aN (xg x) 0 (a 1) 10 M1_28, aL (xg x) (a 3) 12 N, aI (xg x) 0 (a 4) 12 Sc] _ _ _ _ []
    have a_31 := hV_29.1
    have k_32 := hV_29.keep (r := 0) (by first | omega | simp | (simp; omega)) k_25
    have k_33 := hV_29.keep (r := 1) (by first | omega | simp | (simp; omega)) r_24
    have v_34 := (v_26.mono (T := [0, 1, 2, 3, 8, 9]) (by simp)).trans hV_29 (by simp)
    exact sw_vret F rfl dX4_scales_69 (by rw [hPo]; exact ⟨D1_27, M1_28, rfl, v_34, (by first | (rw [show bl (N s) = 1 by unfold bl; split <;> omega]; assumption) | (rw [show bl (N s) = 0 by unfold bl; split <;> omega]; assumption)), (by rw [up_upI]; rfl)⟩)
  ·
    have c_57 : N s < 0 := by revert c_57; (repeat' split) <;> omega
    refine sw_iconst (n := 61) F (1) (by decide) dX4_scales_60 rfl ?_
    refine sw_goto F (n := 65) dX4_scales_61 (by decide) ?_
    refine sw_iload_n (n := 66) F 3 rfl rfl dX4_scales_65 rfl ?_
    refine sw_callV (n := 69) F (ct_X4_rounds (g := xg x) (l := xl x) o a (va_up z 2 0) D1_20 M1_21 (((N s).natAbs) * 10 ^ (sc - (Sc s)).toNat) (1 * 10 ^ ((Sc s) - sc).toNat) 1 m a_23 k_25 r_24 hx4 (by first | assumption | omega) (by first | assumption | omega) (by first | assumption | omega) hm (by exact Or.inl rfl)) (rcv_ob F 0 (ci := 3) rfl rfl) q4123 q4125 qs90 q120 q4126 nd_X4_rounds rfl (by decide) [0, 1, 2, 3, 4] rfl [aL (xg x) (a 3) 12 N, aI (xg x) 0 (a 4) 12 Sc] rfl 0 0 ⟨by omega, by omega⟩ [] rfl (Nat.le_of_ble_eq_true rfl) dX4_scales_66 rfl (fun _ _ h => h.elim) (fun v Ws h => ?_)
    obtain ⟨D1_35, M1_36, rfl, hV_37, hr_38, rfl⟩ := h
    show SW x [tmO (xg x) o a (va_up (va_up z 2 0) 2 (rfz m (((N s).natAbs) * 10 ^ (sc - (Sc s)).toNat) (1 * 10 ^ ((Sc s) - sc).toNat) ((va_up z 2 0) 2))), aN (xg x) 0 (a 0) 2400 D1_35, aN (xg x) 0 (a 1) 10 M1_36, aL (xg x) (a 3) 12 N, aI (xg x) 0 (a 4) 12 Sc] _ _ _ _ []
    have a_39 := hV_37.1
    have k_40 := hV_37.keep (r := 0) (by first | omega | simp | (simp; omega)) k_25
    have k_41 := hV_37.keep (r := 1) (by first | omega | simp | (simp; omega)) r_24
    have v_42 := (v_26.mono (T := [0, 1, 2, 3, 8, 9]) (by simp)).trans hV_37 (by simp)
    exact sw_vret F rfl dX4_scales_69 (by rw [hPo]; exact ⟨D1_35, M1_36, rfl, v_42, (by first | (rw [show bl (N s) = 1 by unfold bl; split <;> omega]; assumption) | (rw [show bl (N s) = 0 by unfold bl; split <;> omega]; assumption)), (by rw [up_upI]; rfl)⟩)
