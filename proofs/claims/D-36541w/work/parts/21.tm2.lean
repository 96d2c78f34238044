theorem nd_X4_times : yX4_times.cls ≠ "java/lang/invoke/MethodHandle" ∧ yX4_times.cls ≠ "java/lang/invoke/VarHandle" ∧ (parseMethodDescriptor yX4_times.desc).map (fun d => d.parameters.length) = some 2 := by decide +kernel
set_option maxRecDepth 100000 in
set_option maxHeartbeats 1000000 in
theorem ct_X4_times {g : GG} {l : Launch} (o : Nat) (a : Nat → Nat) (z : Nat → Int) (D : Nat → Nat) (M : Nat → Nat) (p : Nat) (q : Nat) (u : Nat) (v : Nat) (hp : p < 10) (hq : q < 10) (hp6 : p < 6 ∨ 7 < p) (hq6 : q < 6 ∨ 7 < q) (hA : Dok D M) (hx : rok D M p u) (hy : rok D M q v) (hS : u * v < big) : Ct g l yX4_times (ws_ yX4_times cX4_times 7 (Option.none : Option Jvm.ClassFile.FieldType)) 3 60 0 0 [.ref o, .int (jI (↑p)), .int (jI (↑q))] [tmO g o a z, aN g 0 (a 0) 2400 D, aN g 0 (a 1) 10 M] (fun v9 Ws9 => ∃ D1 : Nat → Nat, ∃ M1 : Nat → Nat, v9 = none ∧ (RV [p, 6, 7] D M D1 M1) ∧ (rok D1 M1 p (u * v)) ∧ Ws9 = [tmO g o a z, aN g 0 (a 0) 2400 D1, aN g 0 (a 1) 10 M1]) (nox) := by
  refine Ct.of (cc := cX4_times) (nL := 7) (ret := (Option.none : Option Jvm.ClassFile.FieldType)) (by decide) rfl (Nat.le_of_ble_eq_true rfl) ?_
  intro x hg hl hPo hPx hmc hms F
  subst hg; subst hl
  refine SW.cast (L' := [(0, .ref o), (1, .int (jI (↑p))), (2, .int (jI (↑q)))]) ?_ rfl rfl rfl
  have hMp := hA.2 p hp
  have hMq := hA.2 q hq
  have hu := rok_lt hx
  have hv := rok_lt hy
  refine sw_aload_n (n := 1) F 0 (some o) rfl rfl rfl dX4_times_0 rfl ?_
  refine sw_get (n := 4) F 0 rfl (k := 1) ⟨(RX4, TX4, 50), rfl, by decide, q3800, in_X4, Or.inl rfl⟩ (v := .ref (a 1)) rfl dX4_times_1 rfl ?_
  refine sw_bipush (n := 6) F (7) (by decide) dX4_times_4 rfl ?_
  refine sw_iconst (n := 7) F (0) (by decide) dX4_times_6 rfl ?_
  refine sw_iastoreN (n := 8) F 2 rfl (fun _ => rfl) 7 rfl (by omega) 0 (by first | omega | rfl) [tmO (xg x) o a z, aN (xg x) 0 (a 0) 2400 D, aN (xg x) 0 (a 1) 10 (va_up M 7 0)] (by rfl) dX4_times_7 rfl ?_
  refine sw_iconst (n := 9) F (0) (by decide) dX4_times_8 rfl ?_
  refine sw_istore_n (n := 10) F (L2 := [(3, .int (jI 0)), (0, .ref o), (1, .int (jI (↑p))), (2, .int (jI (↑q)))]) rfl (by decide) rfl dX4_times_9 rfl ?_
  have K10 : ∀ N10 : Nat, ∀ (D1 : Nat → Nat) (M1 : Nat → Nat) (k : Nat), (RV [6, 7] D M D1 M1) → (k ≤ M p) → (rok D1 M1 7 (u % 10 ^ k * v)) → ((M p - k) < N10) → SW x [tmO (xg x) o a z, aN (xg x) 0 (a 0) 2400 D1, aN (xg x) 0 (a 1) 10 M1] 0 0 10 [(0, .ref o), (1, .int (jI (↑p))), (2, .int (jI (↑q))), (3, .int (jI (↑k)))] [] := by
    intro N10; induction N10 with
    | zero => intro D1 M1 k hV hk0 hs hmu10; omega
    | succ N10 ih10 =>
      intro D1 M1 k hV hk0 hs hmu10
      refine sw_iload_n (n := 11) F 3 rfl rfl dX4_times_10 rfl ?_
      have hA1 : Dok D1 M1 := hV.1
      have hxp : rok D1 M1 p u := hV.keep (r := p) (by simp; omega) hx
      have hyq : rok D1 M1 q v := hV.keep (r := q) (by simp; omega) hy
      have hMp1 := rok_M hxp hx
      refine sw_aload_n (n := 12) F 0 (some o) rfl rfl rfl dX4_times_11 rfl ?_
      refine sw_get (n := 15) F 0 rfl (k := 1) ⟨(RX4, TX4, 50), rfl, by decide, q3800, in_X4, Or.inl rfl⟩ (v := .ref (a 1)) rfl dX4_times_12 rfl ?_
      refine sw_iload_n (n := 16) F 1 rfl rfl dX4_times_15 rfl ?_
      refine sw_ialoadN (n := 17) F 2 rfl (fun _ => rfl) p rfl (by omega) dX4_times_16 rfl ?_
      refine sw_icmp_ge (n := 20) F (by omega) (by omega) (tgt := 120) dX4_times_17 (by decide) rfl (fun c_17 => ?_) (fun c_17 => ?_)
      ·
        have hx7 : rok D1 M1 7 (u * v) := by rw [Nat.mod_eq_of_lt (Nat.lt_of_lt_of_le hu (Nat.pow_le_pow_right (by omega) (by omega)))] at hs; exact hs
        refine sw_aload_n (n := 121) F 0 (some o) rfl rfl rfl dX4_times_120 rfl ?_
        refine sw_bipush (n := 123) F (7) (by decide) dX4_times_121 rfl ?_
        refine sw_iload_n (n := 124) F 1 rfl rfl dX4_times_123 rfl ?_
        refine sw_callV (n := 127) F (ct_X4_copies (g := xg x) (l := xl x) o a z D1 M1 7 p (u * v) (by first | assumption | omega) hp (by first | assumption | omega) hA1 hx7) (rcv_ob F 0 (ci := 3) rfl rfl) q4087 q4089 qs86 q120 q4090 nd_X4_copies rfl (by decide) [0, 1, 2] rfl [] rfl 0 0 ⟨by omega, by omega⟩ [] rfl (Nat.le_of_ble_eq_true rfl) dX4_times_124 rfl (fun _ _ h => h.elim) (fun v Ws h => ?_)
        obtain ⟨D1_1, M1_2, rfl, hU_3, rfl⟩ := h
        show SW x [tmO (xg x) o a z, aN (xg x) 0 (a 0) 2400 D1_1, aN (xg x) 0 (a 1) 10 M1_2] _ _ _ _ []
        have hVe := (hV.mono (T := [p, 6, 7]) (by simp)).trans hU_3.rv (by simp); have hre := hU_3.2.2.2
        exact sw_vret F rfl dX4_times_127 (by rw [hPo]; exact ⟨D1_1, M1_2, rfl, (by exact hVe), (by exact hre), rfl⟩)
      ·
        have hda : u / 10 ^ k % 10 ≤ 9 := by omega
        have hb1 : u / 10 ^ k % 10 * v < big := Nat.lt_of_le_of_lt (dig_mul_le2 u v k) hS
        have hb2 : u / 10 ^ k % 10 * v * 10 ^ k < big := Nat.lt_of_le_of_lt (dig_mul_le u v k) hS
        have hb3 : u % 10 ^ k * v + u / 10 ^ k % 10 * v * 10 ^ k < big := by rw [mod_pow_mul]; exact Nat.lt_of_le_of_lt (mod_mul_le u v (k + 1)) hS
        refine sw_aload_n (n := 21) F 0 (some o) rfl rfl rfl dX4_times_20 rfl ?_
        refine sw_get (n := 24) F 0 rfl (k := 1) ⟨(RX4, TX4, 50), rfl, by decide, q3800, in_X4, Or.inl rfl⟩ (v := .ref (a 1)) rfl dX4_times_21 rfl ?_
        refine sw_bipush (n := 26) F (6) (by decide) dX4_times_24 rfl ?_
        refine sw_iconst (n := 27) F (0) (by decide) dX4_times_26 rfl ?_
        refine sw_iastoreN (n := 28) F 2 rfl (fun _ => rfl) 6 rfl (by omega) 0 (by first | omega | rfl) [tmO (xg x) o a z, aN (xg x) 0 (a 0) 2400 D1, aN (xg x) 0 (a 1) 10 (va_up M1 6 0)] (by rfl) dX4_times_27 rfl ?_
        refine sw_iconst (n := 29) F (0) (by decide) dX4_times_28 rfl ?_
        refine sw_istore (n := 31) F (L2 := [(4, .int (jI 0)), (0, .ref o), (1, .int (jI (↑p))), (2, .int (jI (↑q))), (3, .int (jI (↑k)))]) rfl (by decide) dX4_times_29 rfl ?_
        refine sw_iconst (n := 32) F (0) (by decide) dX4_times_31 rfl ?_
        refine sw_istore (n := 34) F (L2 := [(5, .int (jI 0)), (4, .int (jI 0)), (0, .ref o), (1, .int (jI (↑p))), (2, .int (jI (↑q))), (3, .int (jI (↑k)))]) rfl (by decide) dX4_times_32 rfl ?_
        have K34 : ∀ N34 : Nat, ∀ (D2 : Nat → Nat) (M2 : Nat → Nat) (i : Nat) (c : Nat), (TI D1 M1 (u / 10 ^ k % 10) v (M q) D2 M2 i c) → ((242 - i) < N34) → SW x [tmO (xg x) o a z, aN (xg x) 0 (a 0) 2400 D2, aN (xg x) 0 (a 1) 10 M2] 0 0 34 [(0, .ref o), (1, .int (jI (↑p))), (2, .int (jI (↑q))), (3, .int (jI (↑k))), (4, .int (jI (↑c))), (5, .int (jI (↑i)))] [] := by
          intro N34; induction N34 with
          | zero => intro D2 M2 i c hTI hmu34; omega
          | succ N34 ih34 =>
            intro D2 M2 i c hTI hmu34
            refine sw_iload (n := 36) F 5 rfl dX4_times_34 rfl ?_
            have hA2 : Dok D2 M2 := hTI.1.1
            have hxp2 : rok D2 M2 p u := hTI.1.keep (r := p) (by simp; omega) hxp
            have hyq2 : rok D2 M2 q v := hTI.1.keep (r := q) (by simp; omega) hyq
            have hMq2 := rok_M hyq2 hy
            have hc8 := hTI.2.2.2.1
            have hi8 := hTI.2.2.2.2.1
            have hM6 := hTI.2.1
            refine sw_aload_n (n := 37) F 0 (some o) rfl rfl rfl dX4_times_36 rfl ?_
            refine sw_get (n := 40) F 0 rfl (k := 1) ⟨(RX4, TX4, 50), rfl, by decide, q3800, in_X4, Or.inl rfl⟩ (v := .ref (a 1)) rfl dX4_times_37 rfl ?_
            refine sw_iload_n (n := 41) F 2 rfl rfl dX4_times_40 rfl ?_
            refine sw_ialoadN (n := 42) F 2 rfl (fun _ => rfl) q rfl (by omega) dX4_times_41 rfl ?_
            refine sw_icmp_lt (n := 45) F (by omega) (by omega) (tgt := 50) dX4_times_42 (by decide) rfl (fun c_42 => ?_) (fun c_42 => ?_)
            ·
              have K50 : (i < M q ∨ 0 < c) → SW x [tmO (xg x) o a z, aN (xg x) 0 (a 0) 2400 D2, aN (xg x) 0 (a 1) 10 M2] 0 0 50 [(0, .ref o), (1, .int (jI (↑p))), (2, .int (jI (↑q))), (3, .int (jI (↑k))), (4, .int (jI (↑c))), (5, .int (jI (↑i)))] [] := by
                intro hk
                have hi240 := hTI.lt hb1 hMq hk
                have hM2 : ∀ r, r < 10 → M2 r ≤ 240 := hA2.2
                have hD9 : ∀ q, D2 q < 10 := hA2.1
                have e1 := rok_dg hxp2 k
                have e2 := rok_dg hyq2 i
                refine sw_iload (n := 52) F 4 rfl dX4_times_50 rfl ?_
                refine sw_aload_n (n := 53) F 0 (some o) rfl rfl rfl dX4_times_52 rfl ?_
                refine sw_iload_n (n := 54) F 1 rfl rfl dX4_times_53 rfl ?_
                refine sw_iload_n (n := 55) F 3 rfl rfl dX4_times_54 rfl ?_
                refine sw_callV (n := 58) F (ct_X4_digit (g := xg x) (l := xl x) o a z D2 M2 p k hp hM2 hD9 (by omega)) (rcv_ob F 0 (ci := 3) rfl rfl) q4016 q4018 qs74 q120 q4019 nd_X4_digit rfl (by decide) [0, 1, 2] rfl [] rfl 0 0 ⟨by omega, by omega⟩ [.int (jI (↑c))] rfl (Nat.le_of_ble_eq_true rfl) dX4_times_55 rfl (fun _ _ h => h.elim) (fun v Ws h => ?_)
                obtain ⟨rfl, hdg_4, rfl⟩ := h
                show SW x [tmO (xg x) o a z, aN (xg x) 0 (a 0) 2400 D2, aN (xg x) 0 (a 1) 10 M2] _ _ _ _ [.int (jI (↑(dg D2 M2 p k))), .int (jI (↑c))]
                refine sw_aload_n (n := 59) F 0 (some o) rfl rfl rfl dX4_times_58 rfl ?_
                refine sw_iload_n (n := 60) F 2 rfl rfl dX4_times_59 rfl ?_
                refine sw_iload (n := 62) F 5 rfl dX4_times_60 rfl ?_
                refine sw_callV (n := 65) F (ct_X4_digit (g := xg x) (l := xl x) o a z D2 M2 q i hq hM2 hD9 (by omega)) (rcv_ob F 0 (ci := 3) rfl rfl) q4016 q4018 qs74 q120 q4019 nd_X4_digit rfl (by decide) [0, 1, 2] rfl [] rfl 0 0 ⟨by omega, by omega⟩ [.int (jI (↑(dg D2 M2 p k))), .int (jI (↑c))] rfl (Nat.le_of_ble_eq_true rfl) dX4_times_62 rfl (fun _ _ h => h.elim) (fun v Ws h => ?_)
                obtain ⟨rfl, hdg_5, rfl⟩ := h
                show SW x [tmO (xg x) o a z, aN (xg x) 0 (a 0) 2400 D2, aN (xg x) 0 (a 1) 10 M2] _ _ _ _ [.int (jI (↑(dg D2 M2 q i))), .int (jI (↑(dg D2 M2 p k))), .int (jI (↑c))]
                refine sw_imul (n := 66) F dX4_times_65 rfl ?_
                refine sw_iadd (n := 67) F dX4_times_66 rfl ?_
                have hpr : dg D2 M2 p k * dg D2 M2 q i ≤ 9 * 9 := Nat.mul_le_mul (by omega) (by omega)
                refine sw_istore (n := 69) F (L2 := [(6, .int (jI ((↑c) + ((↑(dg D2 M2 p k)) * (↑(dg D2 M2 q i)))))), (0, .ref o), (1, .int (jI (↑p))), (2, .int (jI (↑q))), (3, .int (jI (↑k))), (4, .int (jI (↑c))), (5, .int (jI (↑i)))]) rfl (by decide) dX4_times_67 rfl ?_
                refine sw_aload_n (n := 70) F 1 (some o) rfl rfl rfl dX4_times_69 rfl ?_
                refine sw_bipush (n := 72) F (6) (by decide) dX4_times_70 rfl ?_
                refine sw_iload (n := 74) F 0 rfl dX4_times_72 rfl ?_
                refine sw_bipush (n := 76) F (10) (by decide) dX4_times_74 rfl ?_
                refine sw_iremP (n := 77) F (by omega) (by decide) (by decide) dX4_times_76 rfl ?_
                rw [show (((↑c) + ((↑(dg D2 M2 p k)) * (↑(dg D2 M2 q i)))) % 10 : Int) = ↑(((c) + (((dg D2 M2 p k)) * ((dg D2 M2 q i)))) % 10) by omega]
                refine sw_callV (n := 80) F (ct_X4_adds (g := xg x) (l := xl x) o a z D2 M2 6 (((c) + (((dg D2 M2 p k)) * ((dg D2 M2 q i)))) % 10) (by first | assumption | omega) (by first | assumption | omega)) (rcv_ob F 0 (ci := 3) rfl rfl) q4008 q4010 qs72 q120 q4011 nd_X4_adds rfl (by decide) [0, 1, 2] rfl [] rfl 0 0 ⟨by omega, by omega⟩ [] rfl (Nat.le_of_ble_eq_true rfl) dX4_times_77 rfl (fun _ _ h => h.elim) (fun v Ws h => ?_)
                obtain ⟨rfl, rfl⟩ := h
                show SW x [tmO (xg x) o a z, aN (xg x) 0 (a 0) 2400 (va_up D2 (240 * 6 + M2 6) (((c) + (((dg D2 M2 p k)) * ((dg D2 M2 q i)))) % 10)), aN (xg x) 0 (a 1) 10 (va_up M2 6 (M2 6 + 1))] _ _ _ _ []
                refine sw_iload (n := 82) F 0 rfl dX4_times_80 rfl ?_
                refine sw_bipush (n := 84) F (10) (by decide) dX4_times_82 rfl ?_
                refine sw_idivP (n := 85) F (by omega) (by decide) (by decide) dX4_times_84 rfl ?_
                refine sw_istore (n := 87) F (L2 := [(4, .int (jI (((↑c) + ((↑(dg D2 M2 p k)) * (↑(dg D2 M2 q i)))) / 10))), (6, .int (jI ((↑c) + ((↑(dg D2 M2 p k)) * (↑(dg D2 M2 q i)))))), (0, .ref o), (1, .int (jI (↑p))), (2, .int (jI (↑q))), (3, .int (jI (↑k))), (5, .int (jI (↑i)))]) rfl (by decide) dX4_times_85 rfl ?_
                refine sw_iinc (n := 90) F 6 (L2 := [(5, .int (jI (↑i + 1))), (4, .int (jI (((↑c) + ((↑(dg D2 M2 p k)) * (↑(dg D2 M2 q i)))) / 10))), (6, .int (jI ((↑c) + ((↑(dg D2 M2 p k)) * (↑(dg D2 M2 q i)))))), (0, .ref o), (1, .int (jI (↑p))), (2, .int (jI (↑q))), (3, .int (jI (↑k)))]) rfl rfl (by decide) dX4_times_87 rfl ?_
                refine sw_goto F (n := 34) dX4_times_90 (by decide) ?_
                refine sw_loc [3, 4, 5, 6, 1, 0] (L2 := [(0, .ref o), (1, .int (jI (↑p))), (2, .int (jI (↑q))), (3, .int (jI (↑k))), (4, .int (jI (((↑c) + ((↑(dg D2 M2 p k)) * (↑(dg D2 M2 q i)))) / 10))), (5, .int (jI (↑i + 1)))]) rfl ?_
                rw [show (((↑c) + ((↑(dg D2 M2 p k)) * (↑(dg D2 M2 q i)))) / 10 : Int) = ↑(((c) + (((dg D2 M2 p k)) * ((dg D2 M2 q i)))) / 10) by omega]
                exact ih34 (va_up D2 (240 * 6 + M2 6) (((c) + (((dg D2 M2 p k)) * ((dg D2 M2 q i)))) % 10)) (va_up M2 6 (M2 6 + 1)) (i + 1) (((c) + (((dg D2 M2 p k)) * ((dg D2 M2 q i)))) / 10) (by exact hTI.step hda hv hi240 hk (by rw [e1, e2])) (by omega)
              exact K50  (by omega)
            ·
              refine sw_iload (n := 47) F 4 rfl dX4_times_45 rfl ?_
              refine sw_if_le (n := 50) F (by omega) (tgt := 93) dX4_times_47 (by decide) rfl (fun c_47 => ?_) (fun c_47 => ?_)
              ·
                have hT := hTI.done hv (by omega) (by omega)
                have hM2 : ∀ r, r < 10 → M2 r ≤ 240 := hA2.2
                have hD9 : ∀ q, D2 q < 10 := hA2.1
                refine sw_aload_n (n := 94) F 0 (some o) rfl rfl rfl dX4_times_93 rfl ?_
                refine sw_bipush (n := 96) F (6) (by decide) dX4_times_94 rfl ?_
                refine sw_callV (n := 99) F (ct_X4_trims (g := xg x) (l := xl x) o a z D2 M2 6 (by first | assumption | omega) hM2 hD9) (rcv_ob F 0 (ci := 3) rfl rfl) q4075 q4077 qs83 q120 q4078 nd_X4_trims rfl (by decide) [0, 1, 2] rfl [] rfl 0 0 ⟨by omega, by omega⟩ [] rfl (Nat.le_of_ble_eq_true rfl) dX4_times_96 rfl (fun _ _ h => h.elim) (fun v Ws h => ?_)
                obtain ⟨M1_6, rfl, hq_7, hle_8, hz_9, ht_10, rfl⟩ := h
                show SW x [tmO (xg x) o a z, aN (xg x) 0 (a 0) 2400 D2, aN (xg x) 0 (a 1) 10 M1_6] _ _ _ _ []
                have hU6 : RU 6 D2 M2 D2 M1_6 (u / 10 ^ k % 10 * v) := rok_trim hA2 (by omega) hT hq_7 hle_8 hz_9 ht_10
                have hA6 := hU6.1; have hr6 := hU6.2.2.2
                refine sw_aload_n (n := 100) F 0 (some o) rfl rfl rfl dX4_times_99 rfl ?_
                refine sw_bipush (n := 102) F (6) (by decide) dX4_times_100 rfl ?_
                refine sw_iload_n (n := 103) F 3 rfl rfl dX4_times_102 rfl ?_
                refine sw_callV (n := 106) F (ct_X4_shifts (g := xg x) (l := xl x) o a z D2 M1_6 6 (↑k) (u / 10 ^ k % 10 * v) (by first | assumption | omega) hA6 hr6 (by first | assumption | omega) (by rw [Int.toNat_natCast]; exact hb2)) (rcv_ob F 0 (ci := 3) rfl rfl) q4000 q4002 qs70 q120 q4003 nd_X4_shifts rfl (by decide) [0, 1, 2] rfl [] rfl 0 0 ⟨by omega, by omega⟩ [] rfl (Nat.le_of_ble_eq_true rfl) dX4_times_103 rfl (fun _ _ h => h.elim) (fun v Ws h => ?_)
                obtain ⟨D1_11, M1_12, rfl, hU_13, rfl⟩ := h
                show SW x [tmO (xg x) o a z, aN (xg x) 0 (a 0) 2400 D1_11, aN (xg x) 0 (a 1) 10 M1_12] _ _ _ _ []
                have hA8 := hU_13.1; have hr8 := hU_13.2.2.2; have hV8 := (hTI.1.trans hU6.rv (fun _ h => h)).trans hU_13.rv (fun _ h => h); have hs8 := hV8.keep (r := 7) (by simp) hs
                refine sw_aload_n (n := 107) F 0 (some o) rfl rfl rfl dX4_times_106 rfl ?_
                refine sw_bipush (n := 109) F (7) (by decide) dX4_times_107 rfl ?_
                refine sw_bipush (n := 111) F (6) (by decide) dX4_times_109 rfl ?_
                refine sw_callV (n := 114) F (ct_X4_plus (g := xg x) (l := xl x) o a z D1_11 M1_12 7 6 (u % 10 ^ k * v) (u / 10 ^ k % 10 * v * 10 ^ k) (by first | assumption | omega) (by first | assumption | omega) (by first | assumption | omega) hA8 hs8 hr8 (by exact hb3)) (rcv_ob F 0 (ci := 3) rfl rfl) q4012 q4014 qs73 q120 q4015 nd_X4_plus rfl (by decide) [0, 1, 2] rfl [] rfl 0 0 ⟨by omega, by omega⟩ [] rfl (Nat.le_of_ble_eq_true rfl) dX4_times_111 rfl (fun _ _ h => h.elim) (fun v Ws h => ?_)
                obtain ⟨D1_14, M1_15, rfl, hU_16, rfl⟩ := h
                show SW x [tmO (xg x) o a z, aN (xg x) 0 (a 0) 2400 D1_14, aN (xg x) 0 (a 1) 10 M1_15] _ _ _ _ []
                have hV9 : RV [6, 7] D M D1_14 M1_15 := (hV.trans hV8 (by simp)).trans hU_16.rv (by simp); have hs9 : rok D1_14 M1_15 7 (u % 10 ^ (k + 1) * v) := by rw [← mod_pow_mul]; exact hU_16.2.2.2
                refine sw_iinc (n := 117) F 3 (L2 := [(3, .int (jI (↑k + 1))), (0, .ref o), (1, .int (jI (↑p))), (2, .int (jI (↑q))), (4, .int (jI (↑c))), (5, .int (jI (↑i)))]) rfl rfl (by decide) dX4_times_114 rfl ?_
                refine sw_goto F (n := 10) dX4_times_117 (by decide) ?_
                refine sw_loc [1, 2, 3, 0] (L2 := [(0, .ref o), (1, .int (jI (↑p))), (2, .int (jI (↑q))), (3, .int (jI (↑k + 1)))]) rfl ?_
                exact ih10 D1_14 M1_15 (k + 1) (by exact hV9) (by omega) (by exact hs9) (by omega)
              ·
                have K50 : (i < M q ∨ 0 < c) → SW x [tmO (xg x) o a z, aN (xg x) 0 (a 0) 2400 D2, aN (xg x) 0 (a 1) 10 M2] 0 0 50 [(0, .ref o), (1, .int (jI (↑p))), (2, .int (jI (↑q))), (3, .int (jI (↑k))), (4, .int (jI (↑c))), (5, .int (jI (↑i)))] [] := by
                  intro hk
                  have hi240 := hTI.lt hb1 hMq hk
                  have hM2 : ∀ r, r < 10 → M2 r ≤ 240 := hA2.2
                  have hD9 : ∀ q, D2 q < 10 := hA2.1
                  have e1 := rok_dg hxp2 k
                  have e2 := rok_dg hyq2 i
                  refine sw_iload (n := 52) F 4 rfl dX4_times_50 rfl ?_
                  refine sw_aload_n (n := 53) F 0 (some o) rfl rfl rfl dX4_times_52 rfl ?_
                  refine sw_iload_n (n := 54) F 1 rfl rfl dX4_times_53 rfl ?_
                  refine sw_iload_n (n := 55) F 3 rfl rfl dX4_times_54 rfl ?_
                  refine sw_callV (n := 58) F (ct_X4_digit (g := xg x) (l := xl x) o a z D2 M2 p k hp hM2 hD9 (by omega)) (rcv_ob F 0 (ci := 3) rfl rfl) q4016 q4018 qs74 q120 q4019 nd_X4_digit rfl (by decide) [0, 1, 2] rfl [] rfl 0 0 ⟨by omega, by omega⟩ [.int (jI (↑c))] rfl (Nat.le_of_ble_eq_true rfl) dX4_times_55 rfl (fun _ _ h => h.elim) (fun v Ws h => ?_)
                  obtain ⟨rfl, hdg_17, rfl⟩ := h
                  show SW x [tmO (xg x) o a z, aN (xg x) 0 (a 0) 2400 D2, aN (xg x) 0 (a 1) 10 M2] _ _ _ _ [.int (jI (↑(dg D2 M2 p k))), .int (jI (↑c))]
                  refine sw_aload_n (n := 59) F 0 (some o) rfl rfl rfl dX4_times_58 rfl ?_
                  refine sw_iload_n (n := 60) F 2 rfl rfl dX4_times_59 rfl ?_
                  refine sw_iload (n := 62) F 5 rfl dX4_times_60 rfl ?_
                  refine sw_callV (n := 65) F (ct_X4_digit (g := xg x) (l := xl x) o a z D2 M2 q i hq hM2 hD9 (by omega)) (rcv_ob F 0 (ci := 3) rfl rfl) q4016 q4018 qs74 q120 q4019 nd_X4_digit rfl (by decide) [0, 1, 2] rfl [] rfl 0 0 ⟨by omega, by omega⟩ [.int (jI (↑(dg D2 M2 p k))), .int (jI (↑c))] rfl (Nat.le_of_ble_eq_true rfl) dX4_times_62 rfl (fun _ _ h => h.elim) (fun v Ws h => ?_)
                  obtain ⟨rfl, hdg_18, rfl⟩ := h
                  show SW x [tmO (xg x) o a z, aN (xg x) 0 (a 0) 2400 D2, aN (xg x) 0 (a 1) 10 M2] _ _ _ _ [.int (jI (↑(dg D2 M2 q i))), .int (jI (↑(dg D2 M2 p k))), .int (jI (↑c))]
                  refine sw_imul (n := 66) F dX4_times_65 rfl ?_
                  refine sw_iadd (n := 67) F dX4_times_66 rfl ?_
                  have hpr : dg D2 M2 p k * dg D2 M2 q i ≤ 9 * 9 := Nat.mul_le_mul (by omega) (by omega)
                  refine sw_istore (n := 69) F (L2 := [(6, .int (jI ((↑c) + ((↑(dg D2 M2 p k)) * (↑(dg D2 M2 q i)))))), (0, .ref o), (1, .int (jI (↑p))), (2, .int (jI (↑q))), (3, .int (jI (↑k))), (4, .int (jI (↑c))), (5, .int (jI (↑i)))]) rfl (by decide) dX4_times_67 rfl ?_
                  refine sw_aload_n (n := 70) F 1 (some o) rfl rfl rfl dX4_times_69 rfl ?_
                  refine sw_bipush (n := 72) F (6) (by decide) dX4_times_70 rfl ?_
                  refine sw_iload (n := 74) F 0 rfl dX4_times_72 rfl ?_
                  refine sw_bipush (n := 76) F (10) (by decide) dX4_times_74 rfl ?_
                  refine sw_iremP (n := 77) F (by omega) (by decide) (by decide) dX4_times_76 rfl ?_
                  rw [show (((↑c) + ((↑(dg D2 M2 p k)) * (↑(dg D2 M2 q i)))) % 10 : Int) = ↑(((c) + (((dg D2 M2 p k)) * ((dg D2 M2 q i)))) % 10) by omega]
                  refine sw_callV (n := 80) F (ct_X4_adds (g := xg x) (l := xl x) o a z D2 M2 6 (((c) + (((dg D2 M2 p k)) * ((dg D2 M2 q i)))) % 10) (by first | assumption | omega) (by first | assumption | omega)) (rcv_ob F 0 (ci := 3) rfl rfl) q4008 q4010 qs72 q120 q4011 nd_X4_adds rfl (by decide) [0, 1, 2] rfl [] rfl 0 0 ⟨by omega, by omega⟩ [] rfl (Nat.le_of_ble_eq_true rfl) dX4_times_77 rfl (fun _ _ h => h.elim) (fun v Ws h => ?_)
                  obtain ⟨rfl, rfl⟩ := h
                  show SW x [tmO (xg x) o a z, aN (xg x) 0 (a 0) 2400 (va_up D2 (240 * 6 + M2 6) (((c) + (((dg D2 M2 p k)) * ((dg D2 M2 q i)))) % 10)), aN (xg x) 0 (a 1) 10 (va_up M2 6 (M2 6 + 1))] _ _ _ _ []
                  refine sw_iload (n := 82) F 0 rfl dX4_times_80 rfl ?_
                  refine sw_bipush (n := 84) F (10) (by decide) dX4_times_82 rfl ?_
                  refine sw_idivP (n := 85) F (by omega) (by decide) (by decide) dX4_times_84 rfl ?_
                  refine sw_istore (n := 87) F (L2 := [(4, .int (jI (((↑c) + ((↑(dg D2 M2 p k)) * (↑(dg D2 M2 q i)))) / 10))), (6, .int (jI ((↑c) + ((↑(dg D2 M2 p k)) * (↑(dg D2 M2 q i)))))), (0, .ref o), (1, .int (jI (↑p))), (2, .int (jI (↑q))), (3, .int (jI (↑k))), (5, .int (jI (↑i)))]) rfl (by decide) dX4_times_85 rfl ?_
                  refine sw_iinc (n := 90) F 6 (L2 := [(5, .int (jI (↑i + 1))), (4, .int (jI (((↑c) + ((↑(dg D2 M2 p k)) * (↑(dg D2 M2 q i)))) / 10))), (6, .int (jI ((↑c) + ((↑(dg D2 M2 p k)) * (↑(dg D2 M2 q i)))))), (0, .ref o), (1, .int (jI (↑p))), (2, .int (jI (↑q))), (3, .int (jI (↑k)))]) rfl rfl (by decide) dX4_times_87 rfl ?_
                  refine sw_goto F (n := 34) dX4_times_90 (by decide) ?_
                  refine sw_loc [3, 4, 5, 6, 1, 0] (L2 := [(0, .ref o), (1, .int (jI (↑p))), (2, .int (jI (↑q))), (3, .int (jI (↑k))), (4, .int (jI (((↑c) + ((↑(dg D2 M2 p k)) * (↑(dg D2 M2 q i)))) / 10))), (5, .int (jI (↑i + 1)))]) rfl ?_
                  rw [show (((↑c) + ((↑(dg D2 M2 p k)) * (↑(dg D2 M2 q i)))) / 10 : Int) = ↑(((c) + (((dg D2 M2 p k)) * ((dg D2 M2 q i)))) / 10) by omega]
                  exact ih34 (va_up D2 (240 * 6 + M2 6) (((c) + (((dg D2 M2 p k)) * ((dg D2 M2 q i)))) % 10)) (va_up M2 6 (M2 6 + 1)) (i + 1) (((c) + (((dg D2 M2 p k)) * ((dg D2 M2 q i)))) / 10) (by exact hTI.step hda hv hi240 hk (by rw [e1, e2])) (by omega)
                exact K50  (by omega)
        refine sw_loc [2, 3, 4, 5, 1, 0] (L2 := [(0, .ref o), (1, .int (jI (↑p))), (2, .int (jI (↑q))), (3, .int (jI (↑k))), (4, .int (jI 0)), (5, .int (jI 0))]) rfl ?_
        exact K34 _ D1 (va_up M1 6 0) 0 0 (by exact TI.start hA1) (Nat.lt_succ_self _)
  refine sw_loc [1, 2, 3, 0] (L2 := [(0, .ref o), (1, .int (jI (↑p))), (2, .int (jI (↑q))), (3, .int (jI 0))]) rfl ?_
  exact K10 _ D (va_up M 7 0) 0 (by exact up_rv2 hA) (by omega) (by rw [Nat.pow_zero, Nat.mod_one, Nat.zero_mul]; exact rok_0) (Nat.lt_succ_self _)
theorem nd_X4_divides : yX4_divides.cls ≠ "java/lang/invoke/MethodHandle" ∧ yX4_divides.cls ≠ "java/lang/invoke/VarHandle" ∧ (parseMethodDescriptor yX4_divides.desc).map (fun d => d.parameters.length) = some 0 := by decide +kernel
set_option maxRecDepth 100000 in
set_option maxHeartbeats 1000000 in
theorem ct_X4_divides {g : GG} {l : Launch} (o : Nat) (a : Nat → Nat) (z : Nat → Int) (D : Nat → Nat) (M : Nat → Nat) (u : Nat) (v : Nat) (hA : Dok D M) (hx : rok D M 0 u) (hy : rok D M 1 v) (hv0 : 0 < v) (hS : v * 10 < big) : Ct g l yX4_divides (ws_ yX4_divides cX4_divides 3 (Option.none : Option Jvm.ClassFile.FieldType)) 4 80 0 0 [.ref o] [tmO g o a z, aN g 0 (a 0) 2400 D, aN g 0 (a 1) 10 M] (fun v9 Ws9 => ∃ D1 : Nat → Nat, ∃ M1 : Nat → Nat, v9 = none ∧ (RV [2, 3, 8] D M D1 M1) ∧ (rok D1 M1 2 (u / v)) ∧ (rok D1 M1 3 (u % v)) ∧ Ws9 = [tmO g o a z, aN g 0 (a 0) 2400 D1, aN g 0 (a 1) 10 M1]) (nox) := by
  refine Ct.of (cc := cX4_divides) (nL := 3) (ret := (Option.none : Option Jvm.ClassFile.FieldType)) (by decide) rfl (Nat.le_of_ble_eq_true rfl) ?_
  intro x hg hl hPo hPx hmc hms F
  subst hg; subst hl
  refine SW.cast (L' := [(0, .ref o)]) ?_ rfl rfl rfl
  have hM0 := hA.2 0 (by omega)
  have hu := rok_lt hx
  refine sw_aload_n (n := 1) F 0 (some o) rfl rfl rfl dX4_divides_0 rfl ?_
  refine sw_get (n := 4) F 0 rfl (k := 1) ⟨(RX4, TX4, 50), rfl, by decide, q3800, in_X4, Or.inl rfl⟩ (v := .ref (a 1)) rfl dX4_divides_1 rfl ?_
  refine sw_iconst (n := 5) F (3) (by decide) dX4_divides_4 rfl ?_
  refine sw_iconst (n := 6) F (0) (by decide) dX4_divides_5 rfl ?_
  refine sw_iastoreN (n := 7) F 2 rfl (fun _ => rfl) 3 rfl (by omega) 0 (by first | omega | rfl) [tmO (xg x) o a z, aN (xg x) 0 (a 0) 2400 D, aN (xg x) 0 (a 1) 10 (va_up M 3 0)] (by rfl) dX4_divides_6 rfl ?_
  refine sw_aload_n (n := 8) F 0 (some o) rfl rfl rfl dX4_divides_7 rfl ?_
  refine sw_get (n := 11) F 0 rfl (k := 1) ⟨(RX4, TX4, 50), rfl, by decide, q3800, in_X4, Or.inl rfl⟩ (v := .ref (a 1)) rfl dX4_divides_8 rfl ?_
  refine sw_iconst (n := 12) F (2) (by decide) dX4_divides_11 rfl ?_
  refine sw_aload_n (n := 13) F 0 (some o) rfl rfl rfl dX4_divides_12 rfl ?_
  refine sw_get (n := 16) F 0 rfl (k := 1) ⟨(RX4, TX4, 50), rfl, by decide, q3800, in_X4, Or.inl rfl⟩ (v := .ref (a 1)) rfl dX4_divides_13 rfl ?_
  refine sw_iconst (n := 17) F (0) (by decide) dX4_divides_16 rfl ?_
  refine sw_ialoadN (n := 18) F 2 rfl (fun _ => rfl) 0 rfl (by omega) dX4_divides_17 rfl ?_
  refine sw_iastoreN (n := 19) F 2 rfl (fun _ => rfl) 2 rfl (by omega) ((va_up M 3 0) 0) (by first | omega | rfl) [tmO (xg x) o a z, aN (xg x) 0 (a 0) 2400 D, aN (xg x) 0 (a 1) 10 (va_up (va_up M 3 0) 2 ((va_up M 3 0) 0))] (by rfl) dX4_divides_18 rfl ?_
  refine sw_aload_n (n := 20) F 0 (some o) rfl rfl rfl dX4_divides_19 rfl ?_
  refine sw_get (n := 23) F 0 rfl (k := 1) ⟨(RX4, TX4, 50), rfl, by decide, q3800, in_X4, Or.inl rfl⟩ (v := .ref (a 1)) rfl dX4_divides_20 rfl ?_
  refine sw_iconst (n := 24) F (0) (by decide) dX4_divides_23 rfl ?_
  refine sw_ialoadN (n := 25) F 2 rfl (fun _ => rfl) 0 rfl (by omega) dX4_divides_24 rfl ?_
  refine sw_iconst (n := 26) F (1) (by decide) dX4_divides_25 rfl ?_
  refine sw_isub (n := 27) F dX4_divides_26 rfl ?_
  refine sw_istore_n (n := 28) F (L2 := [(1, .int (jI ((↑((va_up (va_up M 3 0) 2 ((va_up M 3 0) 0)) 0)) - 1))), (0, .ref o)]) rfl (by decide) rfl dX4_divides_27 rfl ?_
  have K28 : ∀ N28 : Nat, ∀ (D1 : Nat → Nat) (M1 : Nat → Nat) (n : Nat), (DI D M u v D1 M1 n) → (n ≤ M 0) → ((n) < N28) → SW x [tmO (xg x) o a z, aN (xg x) 0 (a 0) 2400 D1, aN (xg x) 0 (a 1) 10 M1] 0 0 28 [(0, .ref o), (1, .int (jI (↑n - 1)))] [] := by
    intro N28; induction N28 with
    | zero => intro D1 M1 n hDI hn hmu28; omega
    | succ N28 ih28 =>
      intro D1 M1 n hDI hn hmu28
      refine sw_iload_n (n := 29) F 1 rfl rfl dX4_divides_28 rfl ?_
      refine sw_if_lt (n := 32) F (by omega) (tgt := 98) dX4_divides_29 (by decide) rfl (fun c_29 => ?_) (fun c_29 => ?_)
      ·
        have hA0 : Dok D1 M1 := hDI.1.1
        have hM9 : ∀ r, r < 10 → M1 r ≤ 240 := hA0.2
        have hD9 : ∀ q, D1 q < 10 := hA0.1
        refine sw_aload_n (n := 99) F 0 (some o) rfl rfl rfl dX4_divides_98 rfl ?_
        refine sw_iconst (n := 100) F (2) (by decide) dX4_divides_99 rfl ?_
        refine sw_callV (n := 103) F (ct_X4_trims (g := xg x) (l := xl x) o a z D1 M1 2 (by first | assumption | omega) hM9 hD9) (rcv_ob F 0 (ci := 3) rfl rfl) q4075 q4077 qs83 q120 q4078 nd_X4_trims rfl (by decide) [0, 1, 2] rfl [] rfl 0 0 ⟨by omega, by omega⟩ [] rfl (Nat.le_of_ble_eq_true rfl) dX4_divides_100 rfl (fun _ _ h => h.elim) (fun v Ws h => ?_)
        obtain ⟨M1_1, rfl, hq_2, hle_3, hz_4, ht_5, rfl⟩ := h
        show SW x [tmO (xg x) o a z, aN (xg x) 0 (a 0) 2400 D1, aN (xg x) 0 (a 1) 10 M1_1] _ _ _ _ []
        have hE := hDI.done (by omega) hq_2 hle_3 hz_4 ht_5
        exact sw_vret F rfl dX4_divides_103 (by rw [hPo]; exact ⟨D1, M1_1, rfl, (by exact hE.1), (by exact hE.2.1), (by exact hE.2.2), rfl⟩)
      ·
        have hA1 : Dok D1 M1 := hDI.1.1
        have hx1 : rok D1 M1 0 u := hDI.1.keep (by simp) hx
        have hy1 : rok D1 M1 1 v := hDI.1.keep (by simp) hy
        have hr1 : rok D1 M1 3 (u / 10 ^ n % v) := hDI.2.2.1
        have hrl := Nat.mod_lt (u / 10 ^ n) hv0
        obtain ⟨w, hw⟩ : ∃ w, w = u / 10 ^ n % v * 10 + u / 10 ^ (n - 1) % 10 := ⟨_, rfl⟩
        have hwb : w < big := by omega
        refine sw_aload_n (n := 33) F 0 (some o) rfl rfl rfl dX4_divides_32 rfl ?_
        refine sw_iconst (n := 34) F (3) (by decide) dX4_divides_33 rfl ?_
        refine sw_iconst (n := 35) F (1) (by decide) dX4_divides_34 rfl ?_
        refine sw_callV (n := 38) F (ct_X4_shifts (g := xg x) (l := xl x) o a z D1 M1 3 1 (u / 10 ^ n % v) (by first | assumption | omega) hA1 hr1 (by first | assumption | omega) (by rw [Int.toNat_one, Nat.pow_one]; omega)) (rcv_ob F 0 (ci := 3) rfl rfl) q4000 q4002 qs70 q120 q4003 nd_X4_shifts rfl (by decide) [0, 1, 2] rfl [] rfl 0 0 ⟨by omega, by omega⟩ [] rfl (Nat.le_of_ble_eq_true rfl) dX4_divides_35 rfl (fun _ _ h => h.elim) (fun v Ws h => ?_)
        obtain ⟨D1_6, M1_7, rfl, hU_8, rfl⟩ := h
        show SW x [tmO (xg x) o a z, aN (xg x) 0 (a 0) 2400 D1_6, aN (xg x) 0 (a 1) 10 M1_7] _ _ _ _ []
        have hA3 := hU_8.1; have hr3 := hU_8.2.2.2; rw [Int.toNat_one, Nat.pow_one] at hr3; have hV3 := hU_8.rv; have hx3 := hV3.keep (r := 0) (by simp) hx1; have hM3 := hA3.2; have hD3 := hA3.1; have e0 := rok_dg hx3 (n - 1)
        refine sw_aload_n (n := 39) F 0 (some o) rfl rfl rfl dX4_divides_38 rfl ?_
        refine sw_bipush (n := 41) F (8) (by decide) dX4_divides_39 rfl ?_
        refine sw_aload_n (n := 42) F 0 (some o) rfl rfl rfl dX4_divides_41 rfl ?_
        refine sw_iconst (n := 43) F (0) (by decide) dX4_divides_42 rfl ?_
        refine sw_iload_n (n := 44) F 1 rfl rfl dX4_divides_43 rfl ?_
        rw [show (↑n - 1 : Int) = ↑(n - 1) by omega]
        refine sw_callV (n := 47) F (ct_X4_digit (g := xg x) (l := xl x) o a z D1_6 M1_7 0 (n - 1) (by first | assumption | omega) hM3 hD3 (by first | assumption | omega)) (rcv_ob F 0 (ci := 3) rfl rfl) q4016 q4018 qs74 q120 q4019 nd_X4_digit rfl (by decide) [0, 1, 2] rfl [] rfl 0 0 ⟨by omega, by omega⟩ [.int (jI 8), .ref o] rfl (Nat.le_of_ble_eq_true rfl) dX4_divides_44 rfl (fun _ _ h => h.elim) (fun v Ws h => ?_)
        obtain ⟨rfl, hdg_9, rfl⟩ := h
        show SW x [tmO (xg x) o a z, aN (xg x) 0 (a 0) 2400 D1_6, aN (xg x) 0 (a 1) 10 M1_7] _ _ _ _ [.int (jI (↑(dg D1_6 M1_7 0 (n - 1)))), .int (jI 8), .ref o]
        refine sw_i2l (n := 48) F (by omega) dX4_divides_47 rfl ?_
        refine sw_callV (n := 51) F (ct_X4_lets (g := xg x) (l := xl x) o a z D1_6 M1_7 8 (↑(dg D1_6 M1_7 0 (n - 1))) (by first | assumption | omega) hA3 (by first | assumption | omega)) (rcv_ob F 0 (ci := 3) rfl rfl) q4004 q4006 qs71 q120 q4007 nd_X4_lets rfl (by decide) [0, 1, 2] rfl [] rfl 0 0 ⟨by omega, by omega⟩ [] rfl (Nat.le_of_ble_eq_true rfl) dX4_divides_48 rfl (fun _ _ h => h.elim) (fun v Ws h => ?_)
        obtain ⟨D1_10, M1_11, rfl, hU_12, rfl⟩ := h
        show SW x [tmO (xg x) o a z, aN (xg x) 0 (a 0) 2400 D1_10, aN (xg x) 0 (a 1) 10 M1_11] _ _ _ _ []
        have hA5 := hU_12.1; have hr5 := hU_12.keep (r := 3) (by omega) hr3; have hr8 := hU_12.2.2.2; rw [Int.natAbs_natCast, e0] at hr8; have hV5 := (hV3.mono (T := [3, 8]) (by simp)).trans (hU_12.rv) (by simp)
        refine sw_aload_n (n := 52) F 0 (some o) rfl rfl rfl dX4_divides_51 rfl ?_
        refine sw_iconst (n := 53) F (3) (by decide) dX4_divides_52 rfl ?_
        refine sw_bipush (n := 55) F (8) (by decide) dX4_divides_53 rfl ?_
        refine sw_callV (n := 58) F (ct_X4_plus (g := xg x) (l := xl x) o a z D1_10 M1_11 3 8 (u / 10 ^ n % v * 10) (u / 10 ^ (n - 1) % 10) (by first | assumption | omega) (by first | assumption | omega) (by first | assumption | omega) hA5 hr5 hr8 (by first | assumption | omega)) (rcv_ob F 0 (ci := 3) rfl rfl) q4012 q4014 qs73 q120 q4015 nd_X4_plus rfl (by decide) [0, 1, 2] rfl [] rfl 0 0 ⟨by omega, by omega⟩ [] rfl (Nat.le_of_ble_eq_true rfl) dX4_divides_55 rfl (fun _ _ h => h.elim) (fun v Ws h => ?_)
        obtain ⟨D1_13, M1_14, rfl, hU_15, rfl⟩ := h
        show SW x [tmO (xg x) o a z, aN (xg x) 0 (a 0) 2400 D1_13, aN (xg x) 0 (a 1) 10 M1_14] _ _ _ _ []
        have hr7 := hU_15.2.2.2; rw [← hw] at hr7; have hV7 := hV5.trans (hU_15.rv) (by simp)
        refine sw_iconst (n := 59) F (0) (by decide) dX4_divides_58 rfl ?_
        refine sw_istore_n (n := 60) F (L2 := [(2, .int (jI 0)), (0, .ref o), (1, .int (jI (↑(n - 1))))]) rfl (by decide) rfl dX4_divides_59 rfl ?_
        have K60 : ∀ N60 : Nat, ∀ (D2 : Nat → Nat) (M2 : Nat → Nat) (t : Nat), (RV [3, 8] D1 M1 D2 M2) → (rok D2 M2 3 (w - t * v)) → (t * v ≤ w) → ((w - t * v) < N60) → SW x [tmO (xg x) o a z, aN (xg x) 0 (a 0) 2400 D2, aN (xg x) 0 (a 1) 10 M2] 0 0 60 [(0, .ref o), (1, .int (jI (↑(n - 1)))), (2, .int (jI (↑t)))] [] := by
          intro N60; induction N60 with
          | zero => intro D2 M2 t hVt hrt hle hmu60; omega
          | succ N60 ih60 =>
            intro D2 M2 t hVt hrt hle hmu60
            have hA2 : Dok D2 M2 := hVt.1
            have hy2 : rok D2 M2 1 v := hVt.keep (by simp) hy1
            have e9 := Nat.add_mul t 1 v; rw [Nat.one_mul] at e9
            have hcr := cmpI_rng (w - t * v) v
            refine sw_aload_n (n := 61) F 0 (some o) rfl rfl rfl dX4_divides_60 rfl ?_
            refine sw_iconst (n := 62) F (3) (by decide) dX4_divides_61 rfl ?_
            refine sw_iconst (n := 63) F (1) (by decide) dX4_divides_62 rfl ?_
            refine sw_callV (n := 66) F (ct_X4_compares (g := xg x) (l := xl x) o a z D2 M2 3 1 (w - t * v) v (by first | assumption | omega) (by first | assumption | omega) hA2 hrt hy2) (rcv_ob F 0 (ci := 3) rfl rfl) q4067 q4069 qs81 q120 q4070 nd_X4_compares rfl (by decide) [0, 1, 2] rfl [] rfl 0 0 ⟨by omega, by omega⟩ [] rfl (Nat.le_of_ble_eq_true rfl) dX4_divides_63 rfl (fun _ _ h => h.elim) (fun v Ws h => ?_)
            obtain ⟨rfl, rfl⟩ := h
            show SW x [tmO (xg x) o a z, aN (xg x) 0 (a 0) 2400 D2, aN (xg x) 0 (a 1) 10 M2] _ _ _ _ [.int (jI (cmpI (w - t * v) v))]
            refine sw_if_lt (n := 69) F (by omega) (tgt := 81) dX4_divides_66 (by decide) rfl (fun c_66 => ?_) (fun c_66 => ?_)
            ·
              have hlt := cmpI_neg c_66
              refine sw_aload_n (n := 82) F 0 (some o) rfl rfl rfl dX4_divides_81 rfl ?_
              refine sw_get (n := 85) F 0 rfl (k := 0) ⟨(RX4, TX4, 50), rfl, by decide, q3799, in_X4, Or.inl rfl⟩ (v := .ref (a 0)) rfl dX4_divides_82 rfl ?_
              refine sw_sipush (n := 88) F (480) (by decide) dX4_divides_85 rfl ?_
              refine sw_iload_n (n := 89) F 1 rfl rfl dX4_divides_88 rfl ?_
              refine sw_iadd (n := 90) F dX4_divides_89 rfl ?_
              refine sw_iload_n (n := 91) F 2 rfl rfl dX4_divides_90 rfl ?_
              refine sw_iastoreN (n := 92) F 1 rfl (fun _ => rfl) (480 + ((n - 1))) (by omega) (by omega) t (by first | omega | rfl) [tmO (xg x) o a z, aN (xg x) 0 (a 0) 2400 (va_up D2 (480 + ((n - 1))) t), aN (xg x) 0 (a 1) 10 M2] (by rfl) dX4_divides_91 rfl ?_
              refine sw_iinc (n := 95) F 1 (L2 := [(1, .int (jI (↑(n - 1) + (-1)))), (0, .ref o), (2, .int (jI (↑t)))]) rfl rfl (by decide) dX4_divides_92 rfl ?_
              refine sw_goto F (n := 28) dX4_divides_95 (by decide) ?_
              refine sw_loc [1, 0] (L2 := [(0, .ref o), (1, .int (jI (↑(n - 1) + (-1))))]) rfl ?_
              rw [show (↑(n - 1) + (-1) : Int) = ↑(n - 1) - 1 by omega]
              exact ih28 (va_up D2 (480 + ((n - 1))) t) M2 (n - 1) (by exact hDI.step (by omega) hn hM0 hv0 hVt hrt hle hlt hw) (by omega) (by omega)
            ·
              have hge := cmpI_nn c_66
              refine sw_aload_n (n := 70) F 0 (some o) rfl rfl rfl dX4_divides_69 rfl ?_
              refine sw_iconst (n := 71) F (3) (by decide) dX4_divides_70 rfl ?_
              refine sw_iconst (n := 72) F (1) (by decide) dX4_divides_71 rfl ?_
              refine sw_callV (n := 75) F (ct_X4_less (g := xg x) (l := xl x) o a z D2 M2 3 1 (w - t * v) v (by first | assumption | omega) (by first | assumption | omega) (by first | assumption | omega) hA2 hrt hy2 (by first | assumption | omega)) (rcv_ob F 0 (ci := 3) rfl rfl) q4071 q4073 qs82 q120 q4074 nd_X4_less rfl (by decide) [0, 1, 2] rfl [] rfl 0 0 ⟨by omega, by omega⟩ [] rfl (Nat.le_of_ble_eq_true rfl) dX4_divides_72 rfl (fun _ _ h => h.elim) (fun v Ws h => ?_)
              obtain ⟨D1_16, M1_17, rfl, hU_18, rfl⟩ := h
              show SW x [tmO (xg x) o a z, aN (xg x) 0 (a 0) 2400 D1_16, aN (xg x) 0 (a 1) 10 M1_17] _ _ _ _ []
              have hrn := hU_18.2.2.2; rw [Nat.sub_sub, ← e9] at hrn; have hVn := hVt.trans (hU_18.rv) (by simp)
              refine sw_iinc (n := 78) F 2 (L2 := [(2, .int (jI (↑t + 1))), (0, .ref o), (1, .int (jI (↑(n - 1))))]) rfl rfl (by decide) dX4_divides_75 rfl ?_
              refine sw_goto F (n := 60) dX4_divides_78 (by decide) ?_
              refine sw_loc [1, 2, 0] (L2 := [(0, .ref o), (1, .int (jI (↑(n - 1)))), (2, .int (jI (↑t + 1)))]) rfl ?_
              exact ih60 D1_16 M1_17 (t + 1) (by exact hVn) (by exact hrn) (by omega) (by omega)
        refine sw_loc [1, 2, 0] (L2 := [(0, .ref o), (1, .int (jI (↑(n - 1)))), (2, .int (jI 0))]) rfl ?_
        exact K60 _ D1_13 M1_14 0 (by exact hV7) (by rw [Nat.zero_mul, Nat.sub_zero]; exact hr7) (by omega) (Nat.lt_succ_self _)
  refine sw_loc [1, 0] (L2 := [(0, .ref o), (1, .int (jI ((↑((va_up (va_up M 3 0) 2 ((va_up M 3 0) 0)) 0)) - 1)))]) rfl ?_
  exact K28 _ D (va_up (va_up M 3 0) 2 ((va_up M 3 0) 0)) ((va_up (va_up M 3 0) 2 ((va_up M 3 0) 0)) 0) (by have e : va_up (va_up M 3 0) 2 (va_up M 3 0 0) 0 = M 0 := (up_ne (by omega)).trans (up_ne (by omega)); rw [e]; exact DI.start hA hx) (by have e : va_up (va_up M 3 0) 2 (va_up M 3 0 0) 0 = M 0 := (up_ne (by omega)).trans (up_ne (by omega)); omega) (Nat.lt_succ_self _)
