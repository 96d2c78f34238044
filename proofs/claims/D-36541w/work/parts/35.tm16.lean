theorem nd_X4_fault : yX4_fault.cls ≠ "java/lang/invoke/MethodHandle" ∧ yX4_fault.cls ≠ "java/lang/invoke/VarHandle" ∧ (parseMethodDescriptor yX4_fault.desc).map (fun d => d.parameters.length) = some 0 := by decide +kernel
set_option maxRecDepth 100000 in
set_option maxHeartbeats 1000000 in
theorem ct_X4_fault {g : GG} {l : Launch} (o : Nat) (a : Nat → Nat) (z : Nat → Int) (T : Nat → Int) (hT : TB T) (hz7 : 0 ≤ z 7 ∧ z 7 ≤ 24) : Ct g l yX4_fault (ws_ yX4_fault cX4_fault 1 (Option.some Jvm.ClassFile.FieldType.int)) 3 58 0 0 [.ref o] [tmO g o a z, aI g 2 (a 6) 24 T] (fun v9 Ws9 => v9 = some (.int (jI (ftI T (z 7).toNat))) ∧ Ws9 = [tmO g o a (va_up z 8 0), aI g 2 (a 6) 24 T]) (nox) := by
  refine Ct.of (cc := cX4_fault) (nL := 1) (ret := (Option.some Jvm.ClassFile.FieldType.int)) (by decide) rfl (Nat.le_of_ble_eq_true rfl) ?_
  intro x hg hl hPo hPx hmc hms F
  subst hg; subst hl
  refine SW.cast (L' := [(0, .ref o)]) ?_ rfl rfl rfl
  refine sw_aload_n (n := 1) F 0 (some o) rfl rfl rfl dX4_fault_0 rfl ?_
  refine sw_iconst (n := 2) F (0) (by decide) dX4_fault_1 rfl ?_
  refine sw_put (n := 5) F 0 rfl (k := 8) ⟨(RX4, TX4, 50), rfl, by decide, q3807, in_X4, Or.inl rfl⟩ .int ⟨(RX4, TX4, 50), rfl, rfl, tyX4_ok 8 (by decide), nmX4, tyX4, tyX4_ok⟩ rfl rfl (Nat.le_of_ble_eq_true rfl) (fs' := tmF a (va_up z 8 0)) rfl [tmO (xg x) o a (va_up z 8 0), aI (xg x) 2 (a 6) 24 T] rfl dX4_fault_2 rfl ?_
  refine sw_aload_n (n := 6) F 0 (some o) rfl rfl rfl dX4_fault_5 rfl ?_
  refine sw_callV (n := 9) F (ct_X4_faultOf (g := xg x) (l := xl x) o a (va_up z 8 0) T hT (by exact hz7)) (rcv_ob F 0 (ci := 3) rfl rfl) q3989 q3991 qs69 q120 q3992 nd_X4_faultOf rfl (by decide) [0, 1] rfl [] rfl 0 0 ⟨by omega, by omega⟩ [] rfl (Nat.le_of_ble_eq_true rfl) dX4_fault_6 rfl (fun _ _ h => h.elim) (fun v Ws h => ?_)
  obtain ⟨rfl, rfl⟩ := h
  show SW x [tmO (xg x) o a (va_up z 8 0), aI (xg x) 2 (a 6) 24 T] _ _ _ _ [.int (jI (ftI T ((va_up z 8 0) 7).toNat))]
  exact sw_iret F _ rfl (by first | rfl | exact jI_nz (by omega) | exact jI_nc (by omega)) dX4_fault_9 (by rw [hPo]; exact ⟨(by first | (congr 3; omega) | (congr 2; omega) | rfl), rfl⟩)
