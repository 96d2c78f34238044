set_option maxRecDepth 100000
def dkwJ8_inflated_0 : List UInt8 := [42, 180, 0, 28, 199, 0, 11, 42, 180, 0, 24, 184, 0, 193, 176, 42, 180, 0, 28, 176]
abbrev dktJ8_inflated_0 : List UInt8 := dkwJ8_inflated_0 ++ []
theorem dksJ8_inflated_0 : cJ8_inflated.data.toList.drop 0 = dktJ8_inflated_0 := by decide +kernel
theorem dJ8_inflated_0 : decode cJ8_inflated 0 = .ok (.aload_n 0, 1) := dk_42 (dk_at dksJ8_inflated_0 0 rfl rfl)
theorem dJ8_inflated_1 : decode cJ8_inflated 1 = .ok (.getfield 28, 3) := dk_180 0 28 (dk_at dksJ8_inflated_0 1 rfl rfl)
theorem dJ8_inflated_4 : decode cJ8_inflated 4 = .ok (.ifnonnull 11, 3) := dk_199 0 11 (dk_at dksJ8_inflated_0 4 rfl rfl)
theorem dJ8_inflated_7 : decode cJ8_inflated 7 = .ok (.aload_n 0, 1) := dk_42 (dk_at dksJ8_inflated_0 7 rfl rfl)
theorem dJ8_inflated_8 : decode cJ8_inflated 8 = .ok (.getfield 24, 3) := dk_180 0 24 (dk_at dksJ8_inflated_0 8 rfl rfl)
theorem dJ8_inflated_11 : decode cJ8_inflated 11 = .ok (.invokestatic 193, 3) := dk_184 0 193 (dk_at dksJ8_inflated_0 11 rfl rfl)
theorem dJ8_inflated_14 : decode cJ8_inflated 14 = .ok (.areturn, 1) := dk_176 (dk_at dksJ8_inflated_0 14 rfl rfl)
theorem dJ8_inflated_15 : decode cJ8_inflated 15 = .ok (.aload_n 0, 1) := dk_42 (dk_at dksJ8_inflated_0 15 rfl rfl)
theorem dJ8_inflated_16 : decode cJ8_inflated 16 = .ok (.getfield 28, 3) := dk_180 0 28 (dk_at dksJ8_inflated_0 16 rfl rfl)
theorem dJ8_inflated_19 : decode cJ8_inflated 19 = .ok (.areturn, 1) := dk_176 (dk_at dksJ8_inflated_0 19 rfl rfl)
theorem dJ8_unscaledValue_0 : decode cJ8_unscaledValue 0 = .ok (.aload_n 0, 1) := by decide +kernel
theorem dJ8_unscaledValue_1 : decode cJ8_unscaledValue 1 = .ok (.invokevirtual 302, 3) := by decide +kernel
theorem dJ8_unscaledValue_4 : decode cJ8_unscaledValue 4 = .ok (.areturn, 1) := by decide +kernel
theorem dJ19_signum_0 : decode cJ19_signum 0 = .ok (.aload_n 0, 1) := by decide +kernel
theorem dJ19_signum_1 : decode cJ19_signum 1 = .ok (.getfield 32, 3) := by decide +kernel
theorem dJ19_signum_4 : decode cJ19_signum 4 = .ok (.ireturn, 1) := by decide +kernel
theorem w1_ok {m : Int} (h : 0 < m ∧ m < 4294967296) : wOK 1 (fun j => if j = 0 then m.toNat else 0) ∧ wv (fun j => if j = 0 then m.toNat else 0) 1 = m.natAbs := by
  refine ⟨⟨fun k hk => ?_, fun _ => ?_⟩, ?_⟩
  · show (if k = 0 then m.toNat else 0) < 4294967296; split <;> omega
  · show (if 0 = 0 then m.toNat else 0) ≠ 0; rw [if_pos rfl]; omega
  · show 0 * 4294967296 + (if 0 = 0 then m.toNat else 0) = m.natAbs; rw [if_pos rfl]; omega
theorem w2_ok {m : Int} (h : 4294967296 ≤ m ∧ m < 18446744073709551616) : wOK 2 (fun j => if j = 0 then (m / 4294967296).toNat else if j = 1 then (m % 4294967296).toNat else 0) ∧ wv (fun j => if j = 0 then (m / 4294967296).toNat else if j = 1 then (m % 4294967296).toNat else 0) 2 = m.natAbs := by
  refine ⟨⟨fun k hk => ?_, fun _ => ?_⟩, ?_⟩
  · show (if k = 0 then (m / 4294967296).toNat else if k = 1 then (m % 4294967296).toNat else 0) < 4294967296; (repeat' split) <;> omega
  · show (if 0 = 0 then (m / 4294967296).toNat else if 0 = 1 then (m % 4294967296).toNat else 0) ≠ 0; rw [if_pos rfl]; omega
  · show (0 * 4294967296 + (if 0 = 0 then (m / 4294967296).toNat else if 0 = 1 then (m % 4294967296).toNat else 0)) * 4294967296 + (if 1 = 0 then (m / 4294967296).toNat else if 1 = 1 then (m % 4294967296).toNat else 0) = m.natAbs
    rw [if_pos rfl, if_neg (by decide), if_pos rfl]; omega
theorem nd_J19_init : yJ19_init.cls ≠ "java/lang/invoke/MethodHandle" ∧ yJ19_init.cls ≠ "java/lang/invoke/VarHandle" ∧ (parseMethodDescriptor yJ19_init.desc).map (fun d => d.parameters.length) = some 1 := by decide +kernel
set_option maxRecDepth 100000 in
set_option maxHeartbeats 16000000 in
theorem ct_J19_init {g : GG} {l : Launch} (q : Nat) (v : Int) (hv : -9223372036854775808 ≤ v ∧ v ≤ 9223372036854775807) (hv0 : v ≠ 0) : Ct g l yJ19_init (ws_ yJ19_init cJ19_init 4 (Option.none : Option Jvm.ClassFile.FieldType)) 2 32 1 2 [.ref q, .long (jL v)] [ob g q 16 [.int (jI 0), .null, .int (jI 0), .int (jI 0), .int (jI 0), .int (jI 0)]] (fun v9 Ws9 => ∃ a1 : Nat, ∃ n1 : Nat, ∃ f1 : Nat → Nat, v9 = none ∧ (wOK n1 f1) ∧ (wv f1 n1 = v.natAbs) ∧ Ws9 = [ob g q 16 [.int (jI (sgI v)), .ref a1, .int (jI 0), .int (jI 0), .int (jI 0), .int (jI 0)], aN g 0 a1 n1 f1]) (nox) := by
  refine Ct.of (cc := cJ19_init) (nL := 4) (ret := (Option.none : Option Jvm.ClassFile.FieldType)) (by decide) rfl (Nat.le_of_ble_eq_true rfl) ?_
  intro x hg hl hPo hPx hmc hms F
  subst hg; subst hl
  refine SW.cast (L' := [(0, .ref q), (1, .long (jL v))]) ?_ rfl rfl rfl
  refine sw_aload_n (n := 1) F 0 (some q) rfl rfl rfl dJ19_init_0 rfl ?_
  refine sw_callI (n := 4) F (ct_J7_init (g := xg x) (l := xl x) q ) q1069 q257 q111 q258 rfl nd_J7_init rfl (by decide) [0] rfl [ob (xg x) q 16 [.int (jI 0), .null, .int (jI 0), .int (jI 0), .int (jI 0), .int (jI 0)]] rfl 1 2 ⟨by omega, by omega⟩ [] rfl (Nat.le_of_ble_eq_true rfl) dJ19_init_1 rfl (fun _ _ h => h.elim) (fun v Ws h => ?_)
  obtain ⟨rfl, rfl⟩ := h
  show SW x [ob (xg x) q 16 [.int (jI 0), .null, .int (jI 0), .int (jI 0), .int (jI 0), .int (jI 0)]] _ _ _ _ []
  have K26 : ∀ (m : Int), (m = v ∧ 0 < v ∨ m = -v ∧ v < 0) → SW x [ob (xg x) q 16 [.int (jI (sgI v)), .null, .int (jI 0), .int (jI 0), .int (jI 0), .int (jI 0)]] 1 2 26 [(0, .ref q), (1, .long (jL m))] [] := by
    intro m hm
    refine sw_lload_n (n := 27) F 1 rfl rfl dJ19_init_26 rfl ?_
    refine sw_bipush (n := 29) F (32) (by decide) dJ19_init_27 rfl ?_
    refine sw_lushr (n := 30) F _ (jL_ushr32 _) dJ19_init_29 rfl ?_
    refine SW.cast (st' := [.long (jL (m / 4294967296))]) ?_ rfl rfl (by rw [Int.emod_eq_of_lt (by omega) (by omega)])
    refine sw_l2i (n := 31) F dJ19_init_30 rfl ?_
    refine sw_istore_n (n := 32) F (L2 := [(3, .int (jI (m / 4294967296))), (0, .ref q), (1, .long (jL m))]) rfl (by decide) rfl dJ19_init_31 rfl ?_
    refine sw_iload_n (n := 33) F 0 rfl rfl dJ19_init_32 rfl ?_
    refine sw_if_neU (n := 36) F (by omega) (tgt := 54) dJ19_init_33 (by decide) rfl (fun c_33 => ?_) (fun c_33 => ?_)
    ·
      refine sw_aload_n (n := 55) F 1 (some q) rfl rfl rfl dJ19_init_54 rfl ?_
      refine sw_iconst (n := 56) F (2) (by decide) dJ19_init_55 rfl ?_
      refine sw_newa (n := 58) F (.int) 0 rfl q1091 (fun _ => rfl) (2) (by first | omega | rfl) (by omega) 0 0 ⟨by omega, by omega⟩ dJ19_init_56 rfl (fun q_1 => ?_)
      show SW x [aI (xg x) 0 q_1 2 (fun _ => 0), ob (xg x) q 16 [.int (jI (sgI v)), .null, .int (jI 0), .int (jI 0), .int (jI 0), .int (jI 0)]] _ _ _ _ [.ref q_1, .ref q]
      refine sw_putF (n := 61) F rfl 1 rfl (k := 1) ⟨(RJ19, TJ19, 6), rfl, by decide, q1072, in_J19, Or.inl rfl⟩ (tyJ19 1) ⟨(RJ19, TJ19, 6), rfl, rfl, rfl, tyJ19_ok 1 (by decide), nmJ19, tyJ19, tyJ19_ok⟩ rfl rfl (Nat.le_of_ble_eq_true rfl) rfl [aI (xg x) 0 q_1 2 (fun _ => 0), ob (xg x) q 16 [.int (jI (sgI v)), .ref q_1, .int (jI 0), .int (jI 0), .int (jI 0), .int (jI 0)]] rfl dJ19_init_58 rfl ?_
      refine sw_aload_n (n := 62) F 1 (some q) rfl rfl rfl dJ19_init_61 rfl ?_
      refine sw_get (n := 65) F 1 rfl (k := 1) ⟨(RJ19, TJ19, 6), rfl, by decide, q1072, in_J19, Or.inl rfl⟩ rfl dJ19_init_62 rfl ?_
      refine sw_iconst (n := 66) F (0) (by decide) dJ19_init_65 rfl ?_
      refine sw_iload_n (n := 67) F 0 rfl rfl dJ19_init_66 rfl ?_
      refine sw_iastoreI (n := 68) F 0 rfl (fun _ => rfl) 0 rfl (by omega) [aI (xg x) 0 q_1 2 (va_up (fun _ => 0) 0 (m / 4294967296)), ob (xg x) q 16 [.int (jI (sgI v)), .ref q_1, .int (jI 0), .int (jI 0), .int (jI 0), .int (jI 0)]] (by rfl) dJ19_init_67 rfl ?_
      refine sw_aload_n (n := 69) F 1 (some q) rfl rfl rfl dJ19_init_68 rfl ?_
      refine sw_get (n := 72) F 1 rfl (k := 1) ⟨(RJ19, TJ19, 6), rfl, by decide, q1072, in_J19, Or.inl rfl⟩ rfl dJ19_init_69 rfl ?_
      refine sw_iconst (n := 73) F (1) (by decide) dJ19_init_72 rfl ?_
      refine sw_lload_n (n := 74) F 2 rfl rfl dJ19_init_73 rfl ?_
      refine sw_l2i (n := 75) F dJ19_init_74 rfl ?_
      refine sw_iastoreI (n := 76) F 0 rfl (fun _ => rfl) 1 rfl (by omega) [aI (xg x) 0 q_1 2 (va_up (va_up (fun _ => 0) 0 (m / 4294967296)) 1 m), ob (xg x) q 16 [.int (jI (sgI v)), .ref q_1, .int (jI 0), .int (jI 0), .int (jI 0), .int (jI 0)]] (by rfl) dJ19_init_75 rfl ?_
      refine SW.cast (Ps' := [aN (xg x) 0 q_1 2 (fun j => if j = 0 then (m / 4294967296).toNat else if j = 1 then (m % 4294967296).toNat else 0), ob (xg x) q 16 [.int (jI (sgI v)), .ref q_1, .int (jI 0), .int (jI 0), .int (jI 0), .int (jI 0)]]) ?_ (by rw [aI_aN (f := fun j => if j = 0 then (m / 4294967296).toNat else if j = 1 then (m % 4294967296).toNat else 0) (fun j => by simp only [va_up]; (repeat' split) <;> omega)]) rfl rfl
      have hwk := w2_ok (m := m) (by omega)
      refine sw_perm [1, 0] rfl [ob (xg x) q 16 [.int (jI (sgI v)), .ref q_1, .int (jI 0), .int (jI 0), .int (jI 0), .int (jI 0)], aN (xg x) 0 q_1 2 (fun j => if j = 0 then (m / 4294967296).toNat else if j = 1 then (m % 4294967296).toNat else 0)] rfl ?_
      exact sw_vret F rfl dJ19_init_76 (by rw [hPo]; exact ⟨q_1, 2, fun j => if j = 0 then (m / 4294967296).toNat else if j = 1 then (m % 4294967296).toNat else 0, rfl, (by exact hwk.1), (by rw [hwk.2]; omega), rfl⟩)
    ·
      refine sw_aload_n (n := 37) F 1 (some q) rfl rfl rfl dJ19_init_36 rfl ?_
      refine sw_iconst (n := 38) F (1) (by decide) dJ19_init_37 rfl ?_
      refine sw_newa (n := 40) F (.int) 0 rfl q1091 (fun _ => rfl) (1) (by first | omega | rfl) (by omega) 0 1 ⟨by omega, by omega⟩ dJ19_init_38 rfl (fun q_2 => ?_)
      show SW x [aI (xg x) 0 q_2 1 (fun _ => 0), ob (xg x) q 16 [.int (jI (sgI v)), .null, .int (jI 0), .int (jI 0), .int (jI 0), .int (jI 0)]] _ _ _ _ [.ref q_2, .ref q]
      refine sw_putF (n := 43) F rfl 1 rfl (k := 1) ⟨(RJ19, TJ19, 6), rfl, by decide, q1072, in_J19, Or.inl rfl⟩ (tyJ19 1) ⟨(RJ19, TJ19, 6), rfl, rfl, rfl, tyJ19_ok 1 (by decide), nmJ19, tyJ19, tyJ19_ok⟩ rfl rfl (Nat.le_of_ble_eq_true rfl) rfl [aI (xg x) 0 q_2 1 (fun _ => 0), ob (xg x) q 16 [.int (jI (sgI v)), .ref q_2, .int (jI 0), .int (jI 0), .int (jI 0), .int (jI 0)]] rfl dJ19_init_40 rfl ?_
      refine sw_aload_n (n := 44) F 1 (some q) rfl rfl rfl dJ19_init_43 rfl ?_
      refine sw_get (n := 47) F 1 rfl (k := 1) ⟨(RJ19, TJ19, 6), rfl, by decide, q1072, in_J19, Or.inl rfl⟩ rfl dJ19_init_44 rfl ?_
      refine sw_iconst (n := 48) F (0) (by decide) dJ19_init_47 rfl ?_
      refine sw_lload_n (n := 49) F 2 rfl rfl dJ19_init_48 rfl ?_
      refine sw_l2i (n := 50) F dJ19_init_49 rfl ?_
      refine sw_iastoreI (n := 51) F 0 rfl (fun _ => rfl) 0 rfl (by omega) [aI (xg x) 0 q_2 1 (va_up (fun _ => 0) 0 m), ob (xg x) q 16 [.int (jI (sgI v)), .ref q_2, .int (jI 0), .int (jI 0), .int (jI 0), .int (jI 0)]] (by rfl) dJ19_init_50 rfl ?_
      refine sw_goto F (n := 76) dJ19_init_51 (by decide) ?_
      refine SW.cast (Ps' := [aN (xg x) 0 q_2 1 (fun j => if j = 0 then m.toNat else 0), ob (xg x) q 16 [.int (jI (sgI v)), .ref q_2, .int (jI 0), .int (jI 0), .int (jI 0), .int (jI 0)]]) ?_ (by rw [aI_aN (f := fun j => if j = 0 then m.toNat else 0) (fun j => by simp only [va_up]; (repeat' split) <;> omega)]) rfl rfl
      have hwk := w1_ok (m := m) (by omega)
      refine sw_perm [1, 0] rfl [ob (xg x) q 16 [.int (jI (sgI v)), .ref q_2, .int (jI 0), .int (jI 0), .int (jI 0), .int (jI 0)], aN (xg x) 0 q_2 1 (fun j => if j = 0 then m.toNat else 0)] rfl ?_
      exact sw_vret F rfl dJ19_init_76 (by rw [hPo]; exact ⟨q_2, 1, fun j => if j = 0 then m.toNat else 0, rfl, (by exact hwk.1), (by rw [hwk.2]; omega), rfl⟩)
  refine sw_lload_n (n := 5) F 1 rfl rfl dJ19_init_4 rfl ?_
  refine sw_lconst (n := 6) F 0 (by decide) dJ19_init_5 rfl ?_
  refine sw_lcmp (n := 7) F (by omega) (by decide) dJ19_init_6 rfl ?_
  refine sw_if_ge (n := 10) F (by omega) (tgt := 21) dJ19_init_7 (by decide) rfl (fun c_7 => ?_) (fun c_7 => ?_)
  ·
    have c_7 : v ≥ 0 := by revert c_7; (repeat' split) <;> omega
    refine sw_aload_n (n := 22) F 0 (some q) rfl rfl rfl dJ19_init_21 rfl ?_
    refine sw_iconst (n := 23) F (1) (by decide) dJ19_init_22 rfl ?_
    refine sw_putF (n := 26) F rfl 0 rfl (k := 0) ⟨(RJ19, TJ19, 6), rfl, by decide, q1070, in_J19, Or.inl rfl⟩ .int ⟨(RJ19, TJ19, 6), rfl, rfl, rfl, tyJ19_ok 0 (by decide), nmJ19, tyJ19, tyJ19_ok⟩ rfl rfl (Nat.le_of_ble_eq_true rfl) rfl [ob (xg x) q 16 [.int (jI 1), .null, .int (jI 0), .int (jI 0), .int (jI 0), .int (jI 0)]] rfl dJ19_init_23 rfl ?_
    refine SW.cast (Ps' := [ob (xg x) q 16 [.int (jI (sgI v)), .null, .int (jI 0), .int (jI 0), .int (jI 0), .int (jI 0)]]) ?_ (by rw [show sgI v = 1 by have := sgI_cases v; omega]) rfl rfl
    exact K26 v (by omega)
  ·
    have c_7 : v < 0 := by revert c_7; (repeat' split) <;> omega
    refine sw_lload_n (n := 11) F 1 rfl rfl dJ19_init_10 rfl ?_
    refine sw_lneg (n := 12) F dJ19_init_11 rfl ?_
    refine sw_lstore_n (n := 13) F (L2 := [(1, .long (jL (-v))), (0, .ref q)]) rfl (by decide) rfl dJ19_init_12 rfl ?_
    refine sw_aload_n (n := 14) F 1 (some q) rfl rfl rfl dJ19_init_13 rfl ?_
    refine sw_iconst (n := 15) F (-1) (by decide) dJ19_init_14 rfl ?_
    refine sw_putF (n := 18) F rfl 0 rfl (k := 0) ⟨(RJ19, TJ19, 6), rfl, by decide, q1070, in_J19, Or.inl rfl⟩ .int ⟨(RJ19, TJ19, 6), rfl, rfl, rfl, tyJ19_ok 0 (by decide), nmJ19, tyJ19, tyJ19_ok⟩ rfl rfl (Nat.le_of_ble_eq_true rfl) rfl [ob (xg x) q 16 [.int (jI (-1)), .null, .int (jI 0), .int (jI 0), .int (jI 0), .int (jI 0)]] rfl dJ19_init_15 rfl ?_
    refine sw_goto F (n := 26) dJ19_init_18 (by decide) ?_
    refine SW.cast (Ps' := [ob (xg x) q 16 [.int (jI (sgI v)), .null, .int (jI 0), .int (jI 0), .int (jI 0), .int (jI 0)]]) ?_ (by rw [show sgI v = -1 by have := sgI_cases v; omega]) rfl rfl
    refine sw_loc [1, 0] (L2 := [(0, .ref q), (1, .long (jL (-v)))]) rfl ?_
    exact K26 (-v) (by omega)
theorem nd_J19_valueOf : yJ19_valueOf.cls ≠ "java/lang/invoke/MethodHandle" ∧ yJ19_valueOf.cls ≠ "java/lang/invoke/VarHandle" ∧ (parseMethodDescriptor yJ19_valueOf.desc).map (fun d => d.parameters.length) = some 1 := by decide +kernel
set_option maxRecDepth 100000 in
set_option maxHeartbeats 16000000 in
theorem ct_J19_valueOf {g : GG} {l : Launch} (M : Nat → Option PV) (v : Int) (hv : -9223372036854775808 ≤ v ∧ v ≤ 9223372036854775807) : Ct g l yJ19_valueOf (ws_ yJ19_valueOf cJ19_valueOf 2 (Option.some (Jvm.ClassFile.FieldType.object "java/math/BigInteger"))) 3 55 2 8 [.long (jL v)] [pl g M] (fun v9 Ws9 => ∃ M1 : Nat → Option PV, ∃ r1 : Nat, ∃ a1 : Nat, v9 = some (.ref r1) ∧ (le_ M M1) ∧ (at_ g M1 r1 (vI v a1)) ∧ Ws9 = [pl g M1]) (nox) := by
  refine Ct.of (cc := cJ19_valueOf) (nL := 2) (ret := (Option.some (Jvm.ClassFile.FieldType.object "java/math/BigInteger"))) (by decide) rfl (Nat.le_of_ble_eq_true rfl) ?_
  intro x hg hl hPo hPx hmc hms F
  subst hg; subst hl
  refine SW.cast (L' := [(0, .long (jL v))]) ?_ rfl rfl rfl
  refine sw_lload_n (n := 1) F 0 rfl rfl dJ19_valueOf_0 rfl ?_
  refine sw_lconst (n := 2) F 0 (by decide) dJ19_valueOf_1 rfl ?_
  refine sw_lcmp (n := 3) F (by omega) (by decide) dJ19_valueOf_2 rfl ?_
  refine sw_if_ne (n := 6) F (by omega) (tgt := 10) dJ19_valueOf_3 (by decide) rfl (fun c_3 => ?_) (fun c_3 => ?_)
  ·
    have c_3 : v ≠ 0 := by revert c_3; (repeat' split) <;> omega
    refine sw_lload_n (n := 11) F 0 rfl rfl dJ19_valueOf_10 rfl ?_
    refine sw_lconst (n := 12) F 0 (by decide) dJ19_valueOf_11 rfl ?_
    refine sw_lcmp (n := 13) F (by omega) (by decide) dJ19_valueOf_12 rfl ?_
    refine sw_if_le (n := 16) F (by omega) (tgt := 31) dJ19_valueOf_13 (by decide) rfl (fun c_13 => ?_) (fun c_13 => ?_)
    ·
      have c_13 : v ≤ 0 := by revert c_13; (repeat' split) <;> omega
      refine sw_lload_n (n := 32) F 0 rfl rfl dJ19_valueOf_31 rfl ?_
      refine sw_lconst (n := 33) F 0 (by decide) dJ19_valueOf_32 rfl ?_
      refine sw_lcmp (n := 34) F (by omega) (by decide) dJ19_valueOf_33 rfl ?_
      refine sw_if_ge (n := 37) F (by omega) (tgt := 53) dJ19_valueOf_34 (by decide) rfl (fun c_34 => ?_) (fun c_34 => ?_)
      ·
        have c_34 : v ≥ 0 := by revert c_34; (repeat' split) <;> omega
        refine sw_new (n := 56) F (ci := 16) (N := 6) RJ19 TJ19 tyJ19 rfl q1064 q1065 q127 in_J19 tyJ19_ok (fs := [.int (jI 0), .null, .int (jI 0), .int (jI 0), .int (jI 0), .int (jI 0)]) rfl 1 2 ⟨by omega, by omega⟩ dJ19_valueOf_53 rfl (fun q_1 => ?_)
        refine sw_dup (n := 57) F rfl dJ19_valueOf_56 rfl ?_
        refine sw_lload_n (n := 58) F 0 rfl rfl dJ19_valueOf_57 rfl ?_
        refine sw_callI (n := 61) F (ct_J19_init (g := xg x) (l := xl x) q_1 v hv c_3) q1066 q1067 q127 q1068 rfl nd_J19_init rfl (by decide) [0, 1] rfl [pl (xg x) M] rfl 0 0 ⟨by omega, by omega⟩ [.ref q_1] rfl (Nat.le_of_ble_eq_true rfl) dJ19_valueOf_58 rfl (fun _ _ h => h.elim) (fun v Ws h => ?_)
        obtain ⟨a1_2, n1_3, f1_4, rfl, hw_5, hwv_6, rfl⟩ := h
        show SW x [ob (xg x) q_1 16 [.int (jI (sgI v)), .ref a1_2, .int (jI 0), .int (jI 0), .int (jI 0), .int (jI 0)], aN (xg x) 0 a1_2 n1_3 f1_4, pl (xg x) M] _ _ _ _ [.ref q_1]
        refine sw_perm [1, 2, 0] rfl [aN (xg x) 0 a1_2 n1_3 f1_4, pl (xg x) M, ob (xg x) q_1 16 [.int (jI (sgI v)), .ref a1_2, .int (jI 0), .int (jI 0), .int (jI 0), .int (jI 0)]] rfl ?_
        refine sw_absA F (fun M_7 hle_8 hat_9 => ?_)
        show SW x [pl (xg x) M_7, ob (xg x) q_1 16 [.int (jI (sgI v)), .ref a1_2, .int (jI 0), .int (jI 0), .int (jI 0), .int (jI 0)]] _ _ _ _ [.ref q_1]
        refine sw_perm [1, 0] rfl [ob (xg x) q_1 16 [.int (jI (sgI v)), .ref a1_2, .int (jI 0), .int (jI 0), .int (jI 0), .int (jI 0)], pl (xg x) M_7] rfl ?_
        refine SW.cast (Ps' := ob (xg x) q_1 16 (flI v a1_2 0 0 0 0) :: [pl (xg x) M_7]) ?_ (by rfl) rfl rfl
        refine sw_absI F (Or.inr rfl) hat_9 hw_5 hwv_6 (fun M_10 hle_11 hat_12 => ?_)
        show SW x [pl (xg x) M_10] _ _ _ _ [.ref q_1]
        exact sw_aret F (some q_1) _ rfl rfl (by first | exact Or.inl ⟨_, rfl⟩ | exact Or.inr ⟨_, rfl⟩) dJ19_valueOf_61 (by rw [hPo]; exact ⟨M_10, q_1, a1_2, rfl, (le_.tr hle_8 hle_11), hat_12, rfl⟩)
      ·
        have c_34 : v < 0 := by revert c_34; (repeat' split) <;> omega
        refine sw_lload_n (n := 38) F 0 rfl rfl dJ19_valueOf_37 rfl ?_
        refine sw_ldc2 (n := 41) F (-16) q1061 (by decide) dJ19_valueOf_38 rfl ?_
        refine sw_lcmp (n := 42) F (by omega) (by decide) dJ19_valueOf_41 rfl ?_
        refine sw_if_lt (n := 45) F (by omega) (tgt := 53) dJ19_valueOf_42 (by decide) rfl (fun c_42 => ?_) (fun c_42 => ?_)
        ·
          have c_42 : v < -16 := by revert c_42; (repeat' split) <;> omega
          refine sw_new (n := 56) F (ci := 16) (N := 6) RJ19 TJ19 tyJ19 rfl q1064 q1065 q127 in_J19 tyJ19_ok (fs := [.int (jI 0), .null, .int (jI 0), .int (jI 0), .int (jI 0), .int (jI 0)]) rfl 1 2 ⟨by omega, by omega⟩ dJ19_valueOf_53 rfl (fun q_13 => ?_)
          refine sw_dup (n := 57) F rfl dJ19_valueOf_56 rfl ?_
          refine sw_lload_n (n := 58) F 0 rfl rfl dJ19_valueOf_57 rfl ?_
          refine sw_callI (n := 61) F (ct_J19_init (g := xg x) (l := xl x) q_13 v hv c_3) q1066 q1067 q127 q1068 rfl nd_J19_init rfl (by decide) [0, 1] rfl [pl (xg x) M] rfl 0 0 ⟨by omega, by omega⟩ [.ref q_13] rfl (Nat.le_of_ble_eq_true rfl) dJ19_valueOf_58 rfl (fun _ _ h => h.elim) (fun v Ws h => ?_)
          obtain ⟨a1_14, n1_15, f1_16, rfl, hw_17, hwv_18, rfl⟩ := h
          show SW x [ob (xg x) q_13 16 [.int (jI (sgI v)), .ref a1_14, .int (jI 0), .int (jI 0), .int (jI 0), .int (jI 0)], aN (xg x) 0 a1_14 n1_15 f1_16, pl (xg x) M] _ _ _ _ [.ref q_13]
          refine sw_perm [1, 2, 0] rfl [aN (xg x) 0 a1_14 n1_15 f1_16, pl (xg x) M, ob (xg x) q_13 16 [.int (jI (sgI v)), .ref a1_14, .int (jI 0), .int (jI 0), .int (jI 0), .int (jI 0)]] rfl ?_
          refine sw_absA F (fun M_19 hle_20 hat_21 => ?_)
          show SW x [pl (xg x) M_19, ob (xg x) q_13 16 [.int (jI (sgI v)), .ref a1_14, .int (jI 0), .int (jI 0), .int (jI 0), .int (jI 0)]] _ _ _ _ [.ref q_13]
          refine sw_perm [1, 0] rfl [ob (xg x) q_13 16 [.int (jI (sgI v)), .ref a1_14, .int (jI 0), .int (jI 0), .int (jI 0), .int (jI 0)], pl (xg x) M_19] rfl ?_
          refine SW.cast (Ps' := ob (xg x) q_13 16 (flI v a1_14 0 0 0 0) :: [pl (xg x) M_19]) ?_ (by rfl) rfl rfl
          refine sw_absI F (Or.inr rfl) hat_21 hw_17 hwv_18 (fun M_22 hle_23 hat_24 => ?_)
          show SW x [pl (xg x) M_22] _ _ _ _ [.ref q_13]
          exact sw_aret F (some q_13) _ rfl rfl (by first | exact Or.inl ⟨_, rfl⟩ | exact Or.inr ⟨_, rfl⟩) dJ19_valueOf_61 (by rw [hPo]; exact ⟨M_22, q_13, a1_14, rfl, (le_.tr hle_20 hle_23), hat_24, rfl⟩)
        ·
          have c_42 : v ≥ -16 := by revert c_42; (repeat' split) <;> omega
          refine sw_gets (n := 48) F (kNC F.gx.1).1 q1062 (Or.inl rfl) dJ19_valueOf_45 rfl ?_
          refine sw_lload_n (n := 49) F 0 rfl rfl dJ19_valueOf_48 rfl ?_
          refine sw_lneg (n := 50) F dJ19_valueOf_49 rfl ?_
          refine sw_l2i (n := 51) F dJ19_valueOf_50 rfl ?_
          refine sw_aaloadK (n := 52) F rfl ((kNC F.gx.1).2.1.A F) ((-v : Int).toNat) (by omega) (by omega) dJ19_valueOf_51 rfl ?_
          rw [if_neg (by omega)]
          have hk_25 : at_ (xg x) M (tR (xg x) (eNC ((-v : Int).toNat))) (vI v (tR (xg x) (.field (eNC ((-v : Int).toNat)) "java/math/BigInteger" "mag" "[I"))) := by have h9 : at_ (xg x) M (tR (xg x) (eNC ((-v : Int).toNat))) (vI (-(↑((-v : Int).toNat))) (tR (xg x) (.field (eNC ((-v : Int).toNat)) "java/math/BigInteger" "mag" "[I"))) := Or.inr ((kNC F.gx.1).2.2 ((-v : Int).toNat) (by omega)); rw [show (((-v : Int).toNat : Nat) : Int) = -v by omega, Int.neg_neg] at h9; exact h9
          exact sw_aret F (some (tR (xg x) (eNC ((-v : Int).toNat)))) _ rfl rfl (by first | exact Or.inl ⟨_, rfl⟩ | exact Or.inr ⟨_, rfl⟩) dJ19_valueOf_52 (by rw [hPo]; exact ⟨M, tR (xg x) (eNC ((-v : Int).toNat)), tR (xg x) (.field (eNC ((-v : Int).toNat)) "java/math/BigInteger" "mag" "[I"), rfl, le_.rf, hk_25, rfl⟩)
    ·
      have c_13 : v > 0 := by revert c_13; (repeat' split) <;> omega
      refine sw_lload_n (n := 17) F 0 rfl rfl dJ19_valueOf_16 rfl ?_
      refine sw_ldc2 (n := 20) F (16) q1058 (by decide) dJ19_valueOf_17 rfl ?_
      refine sw_lcmp (n := 21) F (by omega) (by decide) dJ19_valueOf_20 rfl ?_
      refine sw_if_gt (n := 24) F (by omega) (tgt := 31) dJ19_valueOf_21 (by decide) rfl (fun c_21 => ?_) (fun c_21 => ?_)
      ·
        have c_21 : v > 16 := by revert c_21; (repeat' split) <;> omega
        refine sw_lload_n (n := 32) F 0 rfl rfl dJ19_valueOf_31 rfl ?_
        refine sw_lconst (n := 33) F 0 (by decide) dJ19_valueOf_32 rfl ?_
        refine sw_lcmp (n := 34) F (by omega) (by decide) dJ19_valueOf_33 rfl ?_
        refine sw_if_ge (n := 37) F (by omega) (tgt := 53) dJ19_valueOf_34 (by decide) rfl (fun c_34 => ?_) (fun c_34 => ?_)
        ·
          have c_34 : v ≥ 0 := by revert c_34; (repeat' split) <;> omega
          refine sw_new (n := 56) F (ci := 16) (N := 6) RJ19 TJ19 tyJ19 rfl q1064 q1065 q127 in_J19 tyJ19_ok (fs := [.int (jI 0), .null, .int (jI 0), .int (jI 0), .int (jI 0), .int (jI 0)]) rfl 1 2 ⟨by omega, by omega⟩ dJ19_valueOf_53 rfl (fun q_26 => ?_)
          refine sw_dup (n := 57) F rfl dJ19_valueOf_56 rfl ?_
          refine sw_lload_n (n := 58) F 0 rfl rfl dJ19_valueOf_57 rfl ?_
          refine sw_callI (n := 61) F (ct_J19_init (g := xg x) (l := xl x) q_26 v hv c_3) q1066 q1067 q127 q1068 rfl nd_J19_init rfl (by decide) [0, 1] rfl [pl (xg x) M] rfl 0 0 ⟨by omega, by omega⟩ [.ref q_26] rfl (Nat.le_of_ble_eq_true rfl) dJ19_valueOf_58 rfl (fun _ _ h => h.elim) (fun v Ws h => ?_)
          obtain ⟨a1_27, n1_28, f1_29, rfl, hw_30, hwv_31, rfl⟩ := h
          show SW x [ob (xg x) q_26 16 [.int (jI (sgI v)), .ref a1_27, .int (jI 0), .int (jI 0), .int (jI 0), .int (jI 0)], aN (xg x) 0 a1_27 n1_28 f1_29, pl (xg x) M] _ _ _ _ [.ref q_26]
          refine sw_perm [1, 2, 0] rfl [aN (xg x) 0 a1_27 n1_28 f1_29, pl (xg x) M, ob (xg x) q_26 16 [.int (jI (sgI v)), .ref a1_27, .int (jI 0), .int (jI 0), .int (jI 0), .int (jI 0)]] rfl ?_
          refine sw_absA F (fun M_32 hle_33 hat_34 => ?_)
          show SW x [pl (xg x) M_32, ob (xg x) q_26 16 [.int (jI (sgI v)), .ref a1_27, .int (jI 0), .int (jI 0), .int (jI 0), .int (jI 0)]] _ _ _ _ [.ref q_26]
          refine sw_perm [1, 0] rfl [ob (xg x) q_26 16 [.int (jI (sgI v)), .ref a1_27, .int (jI 0), .int (jI 0), .int (jI 0), .int (jI 0)], pl (xg x) M_32] rfl ?_
          refine SW.cast (Ps' := ob (xg x) q_26 16 (flI v a1_27 0 0 0 0) :: [pl (xg x) M_32]) ?_ (by rfl) rfl rfl
          refine sw_absI F (Or.inr rfl) hat_34 hw_30 hwv_31 (fun M_35 hle_36 hat_37 => ?_)
          show SW x [pl (xg x) M_35] _ _ _ _ [.ref q_26]
          exact sw_aret F (some q_26) _ rfl rfl (by first | exact Or.inl ⟨_, rfl⟩ | exact Or.inr ⟨_, rfl⟩) dJ19_valueOf_61 (by rw [hPo]; exact ⟨M_35, q_26, a1_27, rfl, (le_.tr hle_33 hle_36), hat_37, rfl⟩)
        ·
          have c_34 : v < 0 := by revert c_34; (repeat' split) <;> omega
          refine sw_lload_n (n := 38) F 0 rfl rfl dJ19_valueOf_37 rfl ?_
          refine sw_ldc2 (n := 41) F (-16) q1061 (by decide) dJ19_valueOf_38 rfl ?_
          refine sw_lcmp (n := 42) F (by omega) (by decide) dJ19_valueOf_41 rfl ?_
          refine sw_if_lt (n := 45) F (by omega) (tgt := 53) dJ19_valueOf_42 (by decide) rfl (fun c_42 => ?_) (fun c_42 => ?_)
          ·
            have c_42 : v < -16 := by revert c_42; (repeat' split) <;> omega
            refine sw_new (n := 56) F (ci := 16) (N := 6) RJ19 TJ19 tyJ19 rfl q1064 q1065 q127 in_J19 tyJ19_ok (fs := [.int (jI 0), .null, .int (jI 0), .int (jI 0), .int (jI 0), .int (jI 0)]) rfl 1 2 ⟨by omega, by omega⟩ dJ19_valueOf_53 rfl (fun q_38 => ?_)
            refine sw_dup (n := 57) F rfl dJ19_valueOf_56 rfl ?_
            refine sw_lload_n (n := 58) F 0 rfl rfl dJ19_valueOf_57 rfl ?_
            refine sw_callI (n := 61) F (ct_J19_init (g := xg x) (l := xl x) q_38 v hv c_3) q1066 q1067 q127 q1068 rfl nd_J19_init rfl (by decide) [0, 1] rfl [pl (xg x) M] rfl 0 0 ⟨by omega, by omega⟩ [.ref q_38] rfl (Nat.le_of_ble_eq_true rfl) dJ19_valueOf_58 rfl (fun _ _ h => h.elim) (fun v Ws h => ?_)
            obtain ⟨a1_39, n1_40, f1_41, rfl, hw_42, hwv_43, rfl⟩ := h
            show SW x [ob (xg x) q_38 16 [.int (jI (sgI v)), .ref a1_39, .int (jI 0), .int (jI 0), .int (jI 0), .int (jI 0)], aN (xg x) 0 a1_39 n1_40 f1_41, pl (xg x) M] _ _ _ _ [.ref q_38]
            refine sw_perm [1, 2, 0] rfl [aN (xg x) 0 a1_39 n1_40 f1_41, pl (xg x) M, ob (xg x) q_38 16 [.int (jI (sgI v)), .ref a1_39, .int (jI 0), .int (jI 0), .int (jI 0), .int (jI 0)]] rfl ?_
            refine sw_absA F (fun M_44 hle_45 hat_46 => ?_)
            show SW x [pl (xg x) M_44, ob (xg x) q_38 16 [.int (jI (sgI v)), .ref a1_39, .int (jI 0), .int (jI 0), .int (jI 0), .int (jI 0)]] _ _ _ _ [.ref q_38]
            refine sw_perm [1, 0] rfl [ob (xg x) q_38 16 [.int (jI (sgI v)), .ref a1_39, .int (jI 0), .int (jI 0), .int (jI 0), .int (jI 0)], pl (xg x) M_44] rfl ?_
            refine SW.cast (Ps' := ob (xg x) q_38 16 (flI v a1_39 0 0 0 0) :: [pl (xg x) M_44]) ?_ (by rfl) rfl rfl
            refine sw_absI F (Or.inr rfl) hat_46 hw_42 hwv_43 (fun M_47 hle_48 hat_49 => ?_)
            show SW x [pl (xg x) M_47] _ _ _ _ [.ref q_38]
            exact sw_aret F (some q_38) _ rfl rfl (by first | exact Or.inl ⟨_, rfl⟩ | exact Or.inr ⟨_, rfl⟩) dJ19_valueOf_61 (by rw [hPo]; exact ⟨M_47, q_38, a1_39, rfl, (le_.tr hle_45 hle_48), hat_49, rfl⟩)
          ·
            have c_42 : v ≥ -16 := by revert c_42; (repeat' split) <;> omega
            refine sw_gets (n := 48) F (kNC F.gx.1).1 q1062 (Or.inl rfl) dJ19_valueOf_45 rfl ?_
            refine sw_lload_n (n := 49) F 0 rfl rfl dJ19_valueOf_48 rfl ?_
            refine sw_lneg (n := 50) F dJ19_valueOf_49 rfl ?_
            refine sw_l2i (n := 51) F dJ19_valueOf_50 rfl ?_
            refine sw_aaloadK (n := 52) F rfl ((kNC F.gx.1).2.1.A F) ((-v : Int).toNat) (by omega) (by omega) dJ19_valueOf_51 rfl ?_
            rw [if_neg (by omega)]
            have hk_50 : at_ (xg x) M (tR (xg x) (eNC ((-v : Int).toNat))) (vI v (tR (xg x) (.field (eNC ((-v : Int).toNat)) "java/math/BigInteger" "mag" "[I"))) := by have h9 : at_ (xg x) M (tR (xg x) (eNC ((-v : Int).toNat))) (vI (-(↑((-v : Int).toNat))) (tR (xg x) (.field (eNC ((-v : Int).toNat)) "java/math/BigInteger" "mag" "[I"))) := Or.inr ((kNC F.gx.1).2.2 ((-v : Int).toNat) (by omega)); rw [show (((-v : Int).toNat : Nat) : Int) = -v by omega, Int.neg_neg] at h9; exact h9
            exact sw_aret F (some (tR (xg x) (eNC ((-v : Int).toNat)))) _ rfl rfl (by first | exact Or.inl ⟨_, rfl⟩ | exact Or.inr ⟨_, rfl⟩) dJ19_valueOf_52 (by rw [hPo]; exact ⟨M, tR (xg x) (eNC ((-v : Int).toNat)), tR (xg x) (.field (eNC ((-v : Int).toNat)) "java/math/BigInteger" "mag" "[I"), rfl, le_.rf, hk_50, rfl⟩)
      ·
        have c_21 : v ≤ 16 := by revert c_21; (repeat' split) <;> omega
        refine sw_gets (n := 27) F (kPC F.gx.1).1 q1059 (Or.inl rfl) dJ19_valueOf_24 rfl ?_
        refine sw_lload_n (n := 28) F 0 rfl rfl dJ19_valueOf_27 rfl ?_
        refine sw_l2i (n := 29) F dJ19_valueOf_28 rfl ?_
        refine sw_aaloadK (n := 30) F rfl ((kPC F.gx.1).2.1.A F) ((v : Int).toNat) (by omega) (by omega) dJ19_valueOf_29 rfl ?_
        rw [if_neg (by omega)]
        have hk_51 : at_ (xg x) M (tR (xg x) (ePC ((v : Int).toNat))) (vI v (tR (xg x) (.field (ePC ((v : Int).toNat)) "java/math/BigInteger" "mag" "[I"))) := by have h9 : at_ (xg x) M (tR (xg x) (ePC ((v : Int).toNat))) (vI (↑((v : Int).toNat)) (tR (xg x) (.field (ePC ((v : Int).toNat)) "java/math/BigInteger" "mag" "[I"))) := Or.inr ((kPC F.gx.1).2.2 ((v : Int).toNat) (by omega)); rw [show (((v : Int).toNat : Nat) : Int) = v by omega] at h9; exact h9
        exact sw_aret F (some (tR (xg x) (ePC ((v : Int).toNat)))) _ rfl rfl (by first | exact Or.inl ⟨_, rfl⟩ | exact Or.inr ⟨_, rfl⟩) dJ19_valueOf_30 (by rw [hPo]; exact ⟨M, tR (xg x) (ePC ((v : Int).toNat)), tR (xg x) (.field (ePC ((v : Int).toNat)) "java/math/BigInteger" "mag" "[I"), rfl, le_.rf, hk_51, rfl⟩)
  ·
    have c_3 : v = 0 := by revert c_3; (repeat' split) <;> omega
    refine sw_gets (n := 9) F (kBZ F.gx.1).1 q1057 (Or.inl rfl) dJ19_valueOf_6 rfl ?_
    have hk_52 : at_ (xg x) M (tR (xg x) (Jvm.Term.static "java/math/BigInteger" "ZERO" "Ljava/math/BigInteger;")) (vI 0 (tR (xg x) (.field (Jvm.Term.static "java/math/BigInteger" "ZERO" "Ljava/math/BigInteger;") "java/math/BigInteger" "mag" "[I"))) := Or.inr (kBZ F.gx.1).2
    exact sw_aret F (some (tR (xg x) (Jvm.Term.static "java/math/BigInteger" "ZERO" "Ljava/math/BigInteger;"))) _ rfl rfl (by first | exact Or.inl ⟨_, rfl⟩ | exact Or.inr ⟨_, rfl⟩) dJ19_valueOf_9 (by rw [hPo]; exact ⟨M, tR (xg x) (Jvm.Term.static "java/math/BigInteger" "ZERO" "Ljava/math/BigInteger;"), tR (xg x) (.field (Jvm.Term.static "java/math/BigInteger" "ZERO" "Ljava/math/BigInteger;") "java/math/BigInteger" "mag" "[I"), rfl, le_.rf, (by rw [show v = 0 by omega]; assumption), rfl⟩)
theorem nd_J19_signum : yJ19_signum.cls ≠ "java/lang/invoke/MethodHandle" ∧ yJ19_signum.cls ≠ "java/lang/invoke/VarHandle" ∧ (parseMethodDescriptor yJ19_signum.desc).map (fun d => d.parameters.length) = some 0 := by decide +kernel
set_option maxRecDepth 100000 in
set_option maxHeartbeats 16000000 in
theorem ct_J19_signum {g : GG} {l : Launch} (M : Nat → Option PV) (q : Nat) (v : Int) (a : Nat) (hx : at_ g M q (vI v a)) : Ct g l yJ19_signum (ws_ yJ19_signum cJ19_signum 1 (Option.some Jvm.ClassFile.FieldType.int)) 1 12 0 0 [.ref q] [pl g M] (fun v9 Ws9 => v9 = some (.int (jI (sgI v))) ∧ Ws9 = [pl g M]) (nox) := by
  refine Ct.of (cc := cJ19_signum) (nL := 1) (ret := (Option.some Jvm.ClassFile.FieldType.int)) (by decide) rfl (Nat.le_of_ble_eq_true rfl) ?_
  intro x hg hl hPo hPx hmc hms F
  subst hg; subst hl
  refine SW.cast (L' := [(0, .ref q)]) ?_ rfl rfl rfl
  refine sw_aload_n (n := 1) F 0 (some q) rfl rfl rfl dJ19_signum_0 rfl ?_
  refine sw_getI (n := 4) F 0 rfl hx (k := 0) ⟨(RJ19, TJ19, 6), rfl, by decide, q1070, in_J19, Or.inl rfl⟩ (.int (jI (sgI v))) (fun _ _ _ _ => rfl) dJ19_signum_1 rfl ?_
  exact sw_iret F _ rfl (by first | rfl | exact jI_nz (by omega) | exact jI_nc (by omega)) dJ19_signum_4 (by rw [hPo]; exact ⟨rfl, rfl⟩)
theorem nd_J8_inflated : yJ8_inflated.cls ≠ "java/lang/invoke/MethodHandle" ∧ yJ8_inflated.cls ≠ "java/lang/invoke/VarHandle" ∧ (parseMethodDescriptor yJ8_inflated.desc).map (fun d => d.parameters.length) = some 0 := by decide +kernel
set_option maxRecDepth 100000 in
set_option maxHeartbeats 16000000 in
theorem ct_J8_inflated {g : GG} {l : Launch} (M : Nat → Option PV) (q : Nat) (u : Int) (s : Int) (o : Option Nat) (hx : at_ g M q (vD u s o)) : Ct g l yJ8_inflated (ws_ yJ8_inflated cJ8_inflated 1 (Option.some (Jvm.ClassFile.FieldType.object "java/math/BigInteger"))) 4 76 2 8 [.ref q] [pl g M] (fun v9 Ws9 => ∃ M1 : Nat → Option PV, ∃ r1 : Nat, ∃ a1 : Nat, v9 = some (.ref r1) ∧ (le_ M M1) ∧ (at_ g M1 r1 (vI u a1)) ∧ Ws9 = [pl g M1]) (nox) := by
  refine Ct.of (cc := cJ8_inflated) (nL := 1) (ret := (Option.some (Jvm.ClassFile.FieldType.object "java/math/BigInteger"))) (by decide) rfl (Nat.le_of_ble_eq_true rfl) ?_
  intro x hg hl hPo hPx hmc hms F
  subst hg; subst hl
  refine SW.cast (L' := [(0, .ref q)]) ?_ rfl rfl rfl
  refine sw_factD 0 rfl hx (fun hfo hfb => ?_)
  refine sw_aload_n (n := 1) F 0 (some q) rfl rfl rfl dJ8_inflated_0 rfl ?_
  refine sw_getD (n := 4) F 0 rfl hx (k := 0) ⟨(RJ8, TJ8, 5), rfl, by decide, q260, in_J8, Or.inl rfl⟩ (va_rf o) (fun _ => rfl) dJ8_inflated_1 rfl ?_
  refine sw_ifnonnull (n := 7) F (o := o) rfl (tgt := 15) dJ8_inflated_4 (by decide) rfl (fun q_1 c_4 => ?_) (fun c_4 => ?_)
  ·
    obtain ⟨a9, hb9⟩ := hfb q_1 c_4
    subst c_4
    refine sw_aload_n (n := 16) F 0 (some q) rfl rfl rfl dJ8_inflated_15 rfl ?_
    refine sw_getD (n := 19) F 0 rfl hx (k := 0) ⟨(RJ8, TJ8, 5), rfl, by decide, q260, in_J8, Or.inl rfl⟩ (.ref q_1) (fun _ => rfl) dJ8_inflated_16 rfl ?_
    exact sw_aret F (some q_1) _ rfl rfl (by first | exact Or.inl ⟨_, rfl⟩ | exact Or.inr ⟨_, rfl⟩) dJ8_inflated_19 (by rw [hPo]; exact ⟨M, q_1, a9, rfl, le_.rf, hb9, rfl⟩)
  ·
    refine sw_aload_n (n := 8) F 0 (some q) rfl rfl rfl dJ8_inflated_7 rfl ?_
    refine sw_getD (n := 11) F 0 rfl hx (k := 4) ⟨(RJ8, TJ8, 5), rfl, by decide, q264, in_J8, Or.inl rfl⟩ (.long (jL (cpt u))) (fun _ => rfl) dJ8_inflated_8 rfl ?_
    have hfit : fit u := hfo c_4
    refine SW.cast (st' := [.long (jL u)]) ?_ rfl rfl (by rw [cpt_1 hfit])
    refine sw_callS (n := 14) F (ct_J19_valueOf (g := xg x) (l := xl x) M u (by unfold fit at hfit; omega)) q1054 q1055 q127 q1056 nd_J19_valueOf rfl (by decide) [0] rfl [] rfl 0 0 ⟨by omega, by omega⟩ [] rfl (Nat.le_of_ble_eq_true rfl) dJ8_inflated_11 rfl (fun _ _ h => h.elim) (fun v Ws h => ?_)
    obtain ⟨M1_2, r1_3, a1_4, rfl, hle_5, hat_6, rfl⟩ := h
    show SW x [pl (xg x) M1_2] _ _ _ _ [.ref r1_3]
    exact sw_aret F (some r1_3) _ rfl rfl (by first | exact Or.inl ⟨_, rfl⟩ | exact Or.inr ⟨_, rfl⟩) dJ8_inflated_14 (by rw [hPo]; exact ⟨M1_2, r1_3, a1_4, rfl, hle_5, hat_6, rfl⟩)
theorem nd_J8_unscaledValue : yJ8_unscaledValue.cls ≠ "java/lang/invoke/MethodHandle" ∧ yJ8_unscaledValue.cls ≠ "java/lang/invoke/VarHandle" ∧ (parseMethodDescriptor yJ8_unscaledValue.desc).map (fun d => d.parameters.length) = some 0 := by decide +kernel
set_option maxRecDepth 100000 in
set_option maxHeartbeats 16000000 in
theorem ct_J8_unscaledValue {g : GG} {l : Launch} (M : Nat → Option PV) (q : Nat) (u : Int) (s : Int) (o : Option Nat) (hx : at_ g M q (vD u s o)) : Ct g l yJ8_unscaledValue (ws_ yJ8_unscaledValue cJ8_unscaledValue 1 (Option.some (Jvm.ClassFile.FieldType.object "java/math/BigInteger"))) 5 96 2 8 [.ref q] [pl g M] (fun v9 Ws9 => ∃ M1 : Nat → Option PV, ∃ r1 : Nat, ∃ a1 : Nat, v9 = some (.ref r1) ∧ (le_ M M1) ∧ (at_ g M1 r1 (vI u a1)) ∧ Ws9 = [pl g M1]) (nox) := by
  refine Ct.of (cc := cJ8_unscaledValue) (nL := 1) (ret := (Option.some (Jvm.ClassFile.FieldType.object "java/math/BigInteger"))) (by decide) rfl (Nat.le_of_ble_eq_true rfl) ?_
  intro x hg hl hPo hPx hmc hms F
  subst hg; subst hl
  refine SW.cast (L' := [(0, .ref q)]) ?_ rfl rfl rfl
  refine sw_aload_n (n := 1) F 0 (some q) rfl rfl rfl dJ8_unscaledValue_0 rfl ?_
  refine sw_callV (n := 4) F (ct_J8_inflated (g := xg x) (l := xl x) M q u s o hx) (rcvD F 0 rfl hx) q1545 q1547 qs14 q112 q1548 nd_J8_inflated rfl (by decide) [0] rfl [] rfl 0 0 ⟨by omega, by omega⟩ [] rfl (Nat.le_of_ble_eq_true rfl) dJ8_unscaledValue_1 rfl (fun _ _ h => h.elim) (fun v Ws h => ?_)
  obtain ⟨M1_1, r1_2, a1_3, rfl, hle_4, hat_5, rfl⟩ := h
  show SW x [pl (xg x) M1_1] _ _ _ _ [.ref r1_2]
  exact sw_aret F (some r1_2) _ rfl rfl (by first | exact Or.inl ⟨_, rfl⟩ | exact Or.inr ⟨_, rfl⟩) dJ8_unscaledValue_4 (by rw [hPo]; exact ⟨M1_1, r1_2, a1_3, rfl, hle_4, hat_5, rfl⟩)
