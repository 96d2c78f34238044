def stx (T : Nat → Int) : Nat → Int
  | 0 => 0
  | k + 1 => nxI (stx T k) (T k)
def ftF (T : Nat → Int) : Nat → Int
  | 0 => -1
  | k + 1 => if 0 ≤ ftF T k then ftF T k else if stx T (k + 1) < 0 then (k : Int) else -1
def ftI (T : Nat → Int) (n : Nat) : Int := if 0 ≤ ftF T n then ftF T n else if stx T n = 0 ∨ stx T n = 1 ∨ stx T n = 3 ∨ stx T n = 5 ∨ stx T n = 7 then (n : Int) else -1
def TB (T : Nat → Int) : Prop := ∀ k, 0 ≤ T k ∧ T k ≤ 65535
theorem nxI_rng {s c : Int} (h : -1 ≤ s ∧ s ≤ 10) : -1 ≤ nxI s c ∧ nxI s c ≤ 10 := by unfold nxI; (repeat' split) <;> omega
theorem ft_no {T : Nat → Int} {k : Nat} (h : ftF T k = -1) (h2 : 0 ≤ nxI (stx T k) (T k)) : ftF T (k + 1) = -1 := by
  unfold ftF; rw [if_neg (by omega), if_neg (by unfold stx; omega)]
theorem ft_yes {T : Nat → Int} {k : Nat} (h : ftF T k = -1) (h2 : nxI (stx T k) (T k) < 0) : ∀ d, ftF T (k + 1 + d) = k := fun d => by
  induction d with
  | zero => show ftF T (k + 1) = k; unfold ftF; rw [if_neg (by omega), if_pos (by unfold stx; exact h2)]
  | succ d ih => show ftF T (k + 1 + d + 1) = k; unfold ftF; rw [if_pos (by omega), ih]
theorem ft_at {T : Nat → Int} {k n : Nat} (h : ftF T k = -1) (h2 : nxI (stx T k) (T k) < 0) (hn : k < n) : ftI T n = k := by
  have := ft_yes h h2 (n - (k + 1)); rw [show k + 1 + (n - (k + 1)) = n by omega] at this
  unfold ftI; rw [if_pos (by omega), this]
theorem ft_end {T : Nat → Int} {n : Nat} (h : ftF T n = -1) (h2 : stx T n = 0 ∨ stx T n = 1 ∨ stx T n = 3 ∨ stx T n = 5 ∨ stx T n = 7) : ftI T n = n := by unfold ftI; rw [if_neg (by omega), if_pos h2]
theorem ft_ok {T : Nat → Int} {n : Nat} (h : ftF T n = -1) (h2 : ¬(stx T n = 0 ∨ stx T n = 1 ∨ stx T n = 3 ∨ stx T n = 5 ∨ stx T n = 7)) : ftI T n = -1 := by unfold ftI; rw [if_neg (by omega), if_neg h2]
theorem nd_X4_faultOf : yX4_faultOf.cls ≠ "java/lang/invoke/MethodHandle" ∧ yX4_faultOf.cls ≠ "java/lang/invoke/VarHandle" ∧ (parseMethodDescriptor yX4_faultOf.desc).map (fun d => d.parameters.length) = some 0 := by decide +kernel
set_option maxRecDepth 100000 in
set_option maxHeartbeats 1000000 in
theorem ct_X4_faultOf {g : GG} {l : Launch} (o : Nat) (a : Nat → Nat) (z : Nat → Int) (T : Nat → Int) (hT : TB T) (hz7 : 0 ≤ z 7 ∧ z 7 ≤ 24) : Ct g l yX4_faultOf (ws_ yX4_faultOf cX4_faultOf 3 (Option.some Jvm.ClassFile.FieldType.int)) 2 36 0 0 [.ref o] [tmO g o a z, aI g 2 (a 6) 24 T] (fun v9 Ws9 => v9 = some (.int (jI (ftI T (z 7).toNat))) ∧ Ws9 = [tmO g o a z, aI g 2 (a 6) 24 T]) (nox) := by
  refine Ct.of (cc := cX4_faultOf) (nL := 3) (ret := (Option.some Jvm.ClassFile.FieldType.int)) (by decide) rfl (Nat.le_of_ble_eq_true rfl) ?_
  intro x hg hl hPo hPx hmc hms F
  subst hg; subst hl
  refine SW.cast (L' := [(0, .ref o)]) ?_ rfl rfl rfl
  refine sw_iconst (n := 1) F (0) (by decide) dX4_faultOf_0 rfl ?_
  refine sw_istore_n (n := 2) F (L2 := [(1, .int (jI 0)), (0, .ref o)]) rfl (by decide) rfl dX4_faultOf_1 rfl ?_
  refine sw_iconst (n := 3) F (0) (by decide) dX4_faultOf_2 rfl ?_
  refine sw_istore_n (n := 4) F (L2 := [(2, .int (jI 0)), (1, .int (jI 0)), (0, .ref o)]) rfl (by decide) rfl dX4_faultOf_3 rfl ?_
  have K4 : ∀ N4 : Nat, ∀ (k : Nat) (s : Int), ((k : Int) ≤ z 7) → (0 ≤ s ∧ s ≤ 10) → (s = stx T k) → (ftF T k = -1) → ((24 - k) < N4) → SW x [tmO (xg x) o a z, aI (xg x) 2 (a 6) 24 T] 0 0 4 [(0, .ref o), (1, .int (jI s)), (2, .int (jI (↑k)))] [] := by
    intro N4; induction N4 with
    | zero => intro k s hk hsr hsx hft hmu4; omega
    | succ N4 ih4 =>
      intro k s hk hsr hsx hft hmu4
      refine sw_iload_n (n := 5) F 2 rfl rfl dX4_faultOf_4 rfl ?_
      refine sw_aload_n (n := 6) F 0 (some o) rfl rfl rfl dX4_faultOf_5 rfl ?_
      refine sw_get (n := 9) F 0 rfl (k := 7) ⟨(RX4, TX4, 50), rfl, by decide, q3806, in_X4, Or.inl rfl⟩ (v := .int (jI (z 7))) rfl dX4_faultOf_6 rfl ?_
      refine sw_icmp_ge (n := 12) F (by omega) (by omega) (tgt := 35) dX4_faultOf_9 (by decide) rfl (fun c_9 => ?_) (fun c_9 => ?_)
      ·
        have hkz : (z 7).toNat = k := by omega
        refine sw_iload_n (n := 36) F 1 rfl rfl dX4_faultOf_35 rfl ?_
        refine sw_if_eq (n := 39) F (by omega) (tgt := 60) dX4_faultOf_36 (by decide) rfl (fun c_36 => ?_) (fun c_36 => ?_)
        ·
          refine sw_aload_n (n := 61) F 0 (some o) rfl rfl rfl dX4_faultOf_60 rfl ?_
          refine sw_get (n := 64) F 0 rfl (k := 7) ⟨(RX4, TX4, 50), rfl, by decide, q3806, in_X4, Or.inl rfl⟩ (v := .int (jI (z 7))) rfl dX4_faultOf_61 rfl ?_
          refine sw_goto F (n := 68) dX4_faultOf_64 (by decide) ?_
          exact sw_iret F _ rfl (by first | rfl | exact jI_nz (by omega) | exact jI_nc (by omega)) dX4_faultOf_68 (by rw [hPo]; exact ⟨(by rw [hkz]; first | (rw [ft_end hft (by rw [← hsx]; omega)]; congr 3; omega) | rw [ft_ok hft (by rw [← hsx]; omega)]), rfl⟩)
        ·
          refine sw_iload_n (n := 40) F 1 rfl rfl dX4_faultOf_39 rfl ?_
          refine sw_iconst (n := 41) F (1) (by decide) dX4_faultOf_40 rfl ?_
          refine sw_icmp_eq (n := 44) F (by omega) (by decide) (tgt := 60) dX4_faultOf_41 (by decide) rfl (fun c_41 => ?_) (fun c_41 => ?_)
          ·
            refine sw_aload_n (n := 61) F 0 (some o) rfl rfl rfl dX4_faultOf_60 rfl ?_
            refine sw_get (n := 64) F 0 rfl (k := 7) ⟨(RX4, TX4, 50), rfl, by decide, q3806, in_X4, Or.inl rfl⟩ (v := .int (jI (z 7))) rfl dX4_faultOf_61 rfl ?_
            refine sw_goto F (n := 68) dX4_faultOf_64 (by decide) ?_
            exact sw_iret F _ rfl (by first | rfl | exact jI_nz (by omega) | exact jI_nc (by omega)) dX4_faultOf_68 (by rw [hPo]; exact ⟨(by rw [hkz]; first | (rw [ft_end hft (by rw [← hsx]; omega)]; congr 3; omega) | rw [ft_ok hft (by rw [← hsx]; omega)]), rfl⟩)
          ·
            refine sw_iload_n (n := 45) F 1 rfl rfl dX4_faultOf_44 rfl ?_
            refine sw_iconst (n := 46) F (3) (by decide) dX4_faultOf_45 rfl ?_
            refine sw_icmp_eq (n := 49) F (by omega) (by decide) (tgt := 60) dX4_faultOf_46 (by decide) rfl (fun c_46 => ?_) (fun c_46 => ?_)
            ·
              refine sw_aload_n (n := 61) F 0 (some o) rfl rfl rfl dX4_faultOf_60 rfl ?_
              refine sw_get (n := 64) F 0 rfl (k := 7) ⟨(RX4, TX4, 50), rfl, by decide, q3806, in_X4, Or.inl rfl⟩ (v := .int (jI (z 7))) rfl dX4_faultOf_61 rfl ?_
              refine sw_goto F (n := 68) dX4_faultOf_64 (by decide) ?_
              exact sw_iret F _ rfl (by first | rfl | exact jI_nz (by omega) | exact jI_nc (by omega)) dX4_faultOf_68 (by rw [hPo]; exact ⟨(by rw [hkz]; first | (rw [ft_end hft (by rw [← hsx]; omega)]; congr 3; omega) | rw [ft_ok hft (by rw [← hsx]; omega)]), rfl⟩)
            ·
              refine sw_iload_n (n := 50) F 1 rfl rfl dX4_faultOf_49 rfl ?_
              refine sw_iconst (n := 51) F (5) (by decide) dX4_faultOf_50 rfl ?_
              refine sw_icmp_eq (n := 54) F (by omega) (by decide) (tgt := 60) dX4_faultOf_51 (by decide) rfl (fun c_51 => ?_) (fun c_51 => ?_)
              ·
                refine sw_aload_n (n := 61) F 0 (some o) rfl rfl rfl dX4_faultOf_60 rfl ?_
                refine sw_get (n := 64) F 0 rfl (k := 7) ⟨(RX4, TX4, 50), rfl, by decide, q3806, in_X4, Or.inl rfl⟩ (v := .int (jI (z 7))) rfl dX4_faultOf_61 rfl ?_
                refine sw_goto F (n := 68) dX4_faultOf_64 (by decide) ?_
                exact sw_iret F _ rfl (by first | rfl | exact jI_nz (by omega) | exact jI_nc (by omega)) dX4_faultOf_68 (by rw [hPo]; exact ⟨(by rw [hkz]; first | (rw [ft_end hft (by rw [← hsx]; omega)]; congr 3; omega) | rw [ft_ok hft (by rw [← hsx]; omega)]), rfl⟩)
              ·
                refine sw_iload_n (n := 55) F 1 rfl rfl dX4_faultOf_54 rfl ?_
                refine sw_bipush (n := 57) F (7) (by decide) dX4_faultOf_55 rfl ?_
                refine sw_icmp_ne (n := 60) F (by omega) (by decide) (tgt := 67) dX4_faultOf_57 (by decide) rfl (fun c_57 => ?_) (fun c_57 => ?_)
                ·
                  refine sw_iconst (n := 68) F (-1) (by decide) dX4_faultOf_67 rfl ?_
                  exact sw_iret F _ rfl (by first | rfl | exact jI_nz (by omega) | exact jI_nc (by omega)) dX4_faultOf_68 (by rw [hPo]; exact ⟨(by rw [hkz]; first | (rw [ft_end hft (by rw [← hsx]; omega)]; congr 3; omega) | rw [ft_ok hft (by rw [← hsx]; omega)]), rfl⟩)
                ·
                  refine sw_aload_n (n := 61) F 0 (some o) rfl rfl rfl dX4_faultOf_60 rfl ?_
                  refine sw_get (n := 64) F 0 rfl (k := 7) ⟨(RX4, TX4, 50), rfl, by decide, q3806, in_X4, Or.inl rfl⟩ (v := .int (jI (z 7))) rfl dX4_faultOf_61 rfl ?_
                  refine sw_goto F (n := 68) dX4_faultOf_64 (by decide) ?_
                  exact sw_iret F _ rfl (by first | rfl | exact jI_nz (by omega) | exact jI_nc (by omega)) dX4_faultOf_68 (by rw [hPo]; exact ⟨(by rw [hkz]; first | (rw [ft_end hft (by rw [← hsx]; omega)]; congr 3; omega) | rw [ft_ok hft (by rw [← hsx]; omega)]), rfl⟩)
      ·
        have htk := hT k
        have hnr := nxI_rng (c := T k) (show -1 ≤ s ∧ s ≤ 10 by omega)
        refine sw_iload_n (n := 13) F 1 rfl rfl dX4_faultOf_12 rfl ?_
        refine sw_aload_n (n := 14) F 0 (some o) rfl rfl rfl dX4_faultOf_13 rfl ?_
        refine sw_get (n := 17) F 0 rfl (k := 6) ⟨(RX4, TX4, 50), rfl, by decide, q3805, in_X4, Or.inl rfl⟩ (v := .ref (a 6)) rfl dX4_faultOf_14 rfl ?_
        refine sw_iload_n (n := 18) F 2 rfl rfl dX4_faultOf_17 rfl ?_
        refine sw_caloadI (n := 19) F 1 rfl (fun _ => rfl) k rfl (by omega) dX4_faultOf_18 rfl ?_
        refine sw_callS (n := 22) F (ct_X4_next (g := xg x) (l := xl x) s (T k) (by first | assumption | omega) (by first | assumption | omega)) q3993 q3994 q120 q3995 nd_X4_next rfl (by decide) [0, 1] rfl [tmO (xg x) o a z, aI (xg x) 2 (a 6) 24 T] rfl 0 0 ⟨by omega, by omega⟩ [] rfl (Nat.le_of_ble_eq_true rfl) dX4_faultOf_19 rfl (fun _ _ h => h.elim) (fun v Ws h => ?_)
        obtain ⟨rfl, rfl⟩ := h
        show SW x [tmO (xg x) o a z, aI (xg x) 2 (a 6) 24 T] _ _ _ _ [.int (jI (nxI s (T k)))]
        refine sw_istore_n (n := 23) F (L2 := [(1, .int (jI (nxI s (T k)))), (0, .ref o), (2, .int (jI (↑k)))]) rfl (by decide) rfl dX4_faultOf_22 rfl ?_
        refine sw_iload_n (n := 24) F 0 rfl rfl dX4_faultOf_23 rfl ?_
        refine sw_if_ge (n := 27) F (by omega) (tgt := 29) dX4_faultOf_24 (by decide) rfl (fun c_24 => ?_) (fun c_24 => ?_)
        ·
          refine sw_iinc (n := 32) F 2 (L2 := [(2, .int (jI (↑k + 1))), (1, .int (jI (nxI s (T k)))), (0, .ref o)]) rfl rfl (by decide) dX4_faultOf_29 rfl ?_
          refine sw_goto F (n := 4) dX4_faultOf_32 (by decide) ?_
          refine sw_loc [2, 1, 0] (L2 := [(0, .ref o), (1, .int (jI (nxI s (T k)))), (2, .int (jI (↑k + 1)))]) rfl ?_
          exact ih4 (k + 1) (nxI s (T k)) (by first | assumption | omega) (by first | assumption | omega) (by first | rfl | (rw [hsx]; rfl)) (by first | rfl | exact ft_no hft (by rw [← hsx]; omega)) (by omega)
        ·
          refine sw_iload_n (n := 28) F 2 rfl rfl dX4_faultOf_27 rfl ?_
          exact sw_iret F _ rfl (by first | rfl | exact jI_nz (by omega) | exact jI_nc (by omega)) dX4_faultOf_28 (by rw [hPo]; exact ⟨(by rw [ft_at hft (by rw [← hsx]; omega) (by omega)]), rfl⟩)
  refine sw_loc [2, 1, 0] (L2 := [(0, .ref o), (1, .int (jI 0)), (2, .int (jI 0))]) rfl ?_
  exact K4 _ 0 0 (by first | assumption | omega) (by first | assumption | omega) (by first | rfl | (rw [hsx]; rfl)) (by first | rfl | exact ft_no hft (by rw [← hsx]; omega)) (Nat.lt_succ_self _)
