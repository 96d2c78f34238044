theorem nd_X4_rounds : yX4_rounds.cls ≠ "java/lang/invoke/MethodHandle" ∧ yX4_rounds.cls ≠ "java/lang/invoke/VarHandle" ∧ (parseMethodDescriptor yX4_rounds.desc).map (fun d => d.parameters.length) = some 2 := by decide +kernel
set_option maxRecDepth 100000 in
set_option maxHeartbeats 1000000 in
theorem ct_X4_rounds {g : GG} {l : Launch} (o : Nat) (a : Nat → Nat) (z : Nat → Int) (D : Nat → Nat) (M : Nat → Nat) (u : Nat) (v : Nat) (neg : Int) (m : Int) (hA : Dok D M) (hx : rok D M 0 u) (hy : rok D M 1 v) (hv0 : 0 < v) (hS : v * 10 < big) (hS2 : u < big - 1) (hneg : neg = 0 ∨ neg = 1) (hm : 0 ≤ m ∧ m ≤ 65535) (hz2 : z 2 = 0 ∨ z 2 = 1) : Ct g l yX4_rounds (ws_ yX4_rounds cX4_rounds 6 (Option.none : Option Jvm.ClassFile.FieldType)) 5 102 0 0 [.ref o, .int (jI neg), .int (jI m)] [tmO g o a z, aN g 0 (a 0) 2400 D, aN g 0 (a 1) 10 M] (fun v9 Ws9 => ∃ D1 : Nat → Nat, ∃ M1 : Nat → Nat, v9 = none ∧ (RV [2, 3, 8, 9] D M D1 M1) ∧ (rok D1 M1 2 (rnd m neg u v)) ∧ Ws9 = [tmO g o a (va_up z 2 (rfz m u v (z 2))), aN g 0 (a 0) 2400 D1, aN g 0 (a 1) 10 M1]) (nox) := by
  refine Ct.of (cc := cX4_rounds) (nL := 6) (ret := (Option.none : Option Jvm.ClassFile.FieldType)) (by decide) rfl (Nat.le_of_ble_eq_true rfl) ?_
  intro x hg hl hPo hPx hmc hms F
  subst hg; subst hl
  refine SW.cast (L' := [(0, .ref o), (1, .int (jI neg)), (2, .int (jI m))]) ?_ rfl rfl rfl
  have hrl := Nat.mod_lt u hv0
  have hcr := cmpI_cases (u % v + u % v) v
  refine sw_aload_n (n := 1) F 0 (some o) rfl rfl rfl dX4_rounds_0 rfl ?_
  refine sw_callV (n := 4) F (ct_X4_divides (g := xg x) (l := xl x) o a z D M u v hA hx hy hv0 hS) (rcv_ob F 0 (ci := 3) rfl rfl) q4127 q4129 qs91 q120 q4130 nd_X4_divides rfl (by decide) [0, 1, 2] rfl [] rfl 0 0 ⟨by omega, by omega⟩ [] rfl (Nat.le_of_ble_eq_true rfl) dX4_rounds_1 rfl (fun _ _ h => h.elim) (fun v Ws h => ?_)
  obtain ⟨D1_1, M1_2, rfl, hV_3, hq_4, hr_5, rfl⟩ := h
  show SW x [tmO (xg x) o a z, aN (xg x) 0 (a 0) 2400 D1_1, aN (xg x) 0 (a 1) 10 M1_2] _ _ _ _ []
  have a_6 := hV_3.1
  have k_7 := hV_3.keep (r := 1) (by first | omega | simp | (simp; omega)) hy
  have k_8 := hV_3.keep (r := 0) (by first | omega | simp | (simp; omega)) hx
  refine sw_aload_n (n := 5) F 0 (some o) rfl rfl rfl dX4_rounds_4 rfl ?_
  refine sw_iconst (n := 6) F (3) (by decide) dX4_rounds_5 rfl ?_
  refine sw_bipush (n := 8) F (9) (by decide) dX4_rounds_6 rfl ?_
  refine sw_callV (n := 11) F (ct_X4_copies (g := xg x) (l := xl x) o a z D1_1 M1_2 3 9 (u % v) (by first | assumption | omega) (by first | assumption | omega) (by first | assumption | omega) a_6 hr_5) (rcv_ob F 0 (ci := 3) rfl rfl) q4087 q4089 qs86 q120 q4090 nd_X4_copies rfl (by decide) [0, 1, 2] rfl [] rfl 0 0 ⟨by omega, by omega⟩ [] rfl (Nat.le_of_ble_eq_true rfl) dX4_rounds_8 rfl (fun _ _ h => h.elim) (fun v Ws h => ?_)
  obtain ⟨D1_9, M1_10, rfl, hU_11, rfl⟩ := h
  show SW x [tmO (xg x) o a z, aN (xg x) 0 (a 0) 2400 D1_9, aN (xg x) 0 (a 1) 10 M1_10] _ _ _ _ []
  have a_12 := hU_11.1
  have r_13 : rok D1_9 M1_10 9 (u % v) := hU_11.2.2.2
  have k_14 := hU_11.keep (r := 0) (by first | omega | simp | (simp; omega)) k_8
  have k_15 := hU_11.keep (r := 1) (by first | omega | simp | (simp; omega)) k_7
  have k_16 := hU_11.keep (r := 3) (by first | omega | simp | (simp; omega)) hr_5
  have k_17 := hU_11.keep (r := 2) (by first | omega | simp | (simp; omega)) hq_4
  have v_18 := (hV_3.mono (T := [2, 3, 8, 9]) (by simp)).trans hU_11.rv (by simp)
  refine sw_aload_n (n := 12) F 0 (some o) rfl rfl rfl dX4_rounds_11 rfl ?_
  refine sw_bipush (n := 14) F (9) (by decide) dX4_rounds_12 rfl ?_
  refine sw_iconst (n := 15) F (3) (by decide) dX4_rounds_14 rfl ?_
  refine sw_callV (n := 18) F (ct_X4_plus (g := xg x) (l := xl x) o a z D1_9 M1_10 9 3 (u % v) (u % v) (by first | assumption | omega) (by first | assumption | omega) (by first | assumption | omega) a_12 r_13 k_16 (by first | assumption | omega)) (rcv_ob F 0 (ci := 3) rfl rfl) q4012 q4014 qs73 q120 q4015 nd_X4_plus rfl (by decide) [0, 1, 2] rfl [] rfl 0 0 ⟨by omega, by omega⟩ [] rfl (Nat.le_of_ble_eq_true rfl) dX4_rounds_15 rfl (fun _ _ h => h.elim) (fun v Ws h => ?_)
  obtain ⟨D1_19, M1_20, rfl, hU_21, rfl⟩ := h
  show SW x [tmO (xg x) o a z, aN (xg x) 0 (a 0) 2400 D1_19, aN (xg x) 0 (a 1) 10 M1_20] _ _ _ _ []
  have a_22 := hU_21.1
  have r_23 : rok D1_19 M1_20 9 ((u % v) + (u % v)) := hU_21.2.2.2
  have k_24 := hU_21.keep (r := 2) (by first | omega | simp | (simp; omega)) k_17
  have k_25 := hU_21.keep (r := 3) (by first | omega | simp | (simp; omega)) k_16
  have k_26 := hU_21.keep (r := 1) (by first | omega | simp | (simp; omega)) k_15
  have k_27 := hU_21.keep (r := 0) (by first | omega | simp | (simp; omega)) k_14
  have v_28 := (v_18.mono (T := [2, 3, 8, 9]) (by simp)).trans hU_21.rv (by simp)
  refine sw_aload_n (n := 19) F 0 (some o) rfl rfl rfl dX4_rounds_18 rfl ?_
  refine sw_bipush (n := 21) F (9) (by decide) dX4_rounds_19 rfl ?_
  refine sw_iconst (n := 22) F (1) (by decide) dX4_rounds_21 rfl ?_
  refine sw_callV (n := 25) F (ct_X4_compares (g := xg x) (l := xl x) o a z D1_19 M1_20 9 1 ((u % v) + (u % v)) v (by first | assumption | omega) (by first | assumption | omega) a_22 r_23 k_26) (rcv_ob F 0 (ci := 3) rfl rfl) q4067 q4069 qs81 q120 q4070 nd_X4_compares rfl (by decide) [0, 1, 2] rfl [] rfl 0 0 ⟨by omega, by omega⟩ [] rfl (Nat.le_of_ble_eq_true rfl) dX4_rounds_22 rfl (fun _ _ h => h.elim) (fun v Ws h => ?_)
  obtain ⟨rfl, rfl⟩ := h
  show SW x [tmO (xg x) o a z, aN (xg x) 0 (a 0) 2400 D1_19, aN (xg x) 0 (a 1) 10 M1_20] _ _ _ _ [.int (jI (cmpI ((u % v) + (u % v)) v))]
  refine sw_istore_n (n := 26) F (L2 := [(3, .int (jI (cmpI ((u % v) + (u % v)) v))), (0, .ref o), (1, .int (jI neg)), (2, .int (jI m))]) rfl (by decide) rfl dX4_rounds_25 rfl ?_
  have hM9 : ∀ r, r < 10 → M1_20 r ≤ 240 := a_22.2
  have hD9 : ∀ q, D1_19 q < 10 := a_22.1
  have e2 := rok_dg k_24 0; rw [Nat.pow_zero, Nat.div_one] at e2
  have z3 := rok_z k_25; have m3 := hM9 3 (by omega); have hql := Nat.div_le_self u v
  refine sw_aload_n (n := 27) F 1 (some o) rfl rfl rfl dX4_rounds_26 rfl ?_
  refine sw_iconst (n := 28) F (2) (by decide) dX4_rounds_27 rfl ?_
  refine sw_iconst (n := 29) F (0) (by decide) dX4_rounds_28 rfl ?_
  refine sw_callV (n := 32) F (ct_X4_digit (g := xg x) (l := xl x) o a z D1_19 M1_20 2 0 (by first | assumption | omega) hM9 hD9 (by first | assumption | omega)) (rcv_ob F 0 (ci := 3) rfl rfl) q4016 q4018 qs74 q120 q4019 nd_X4_digit rfl (by decide) [0, 1, 2] rfl [] rfl 0 0 ⟨by omega, by omega⟩ [] rfl (Nat.le_of_ble_eq_true rfl) dX4_rounds_29 rfl (fun _ _ h => h.elim) (fun v Ws h => ?_)
  obtain ⟨rfl, hdg_29, rfl⟩ := h
  show SW x [tmO (xg x) o a z, aN (xg x) 0 (a 0) 2400 D1_19, aN (xg x) 0 (a 1) 10 M1_20] _ _ _ _ [.int (jI (↑(dg D1_19 M1_20 2 0)))]
  refine sw_iconst (n := 33) F (2) (by decide) dX4_rounds_32 rfl ?_
  refine sw_iremP (n := 34) F (by omega) (by decide) (by decide) dX4_rounds_33 rfl ?_
  refine sw_iconst (n := 35) F (1) (by decide) dX4_rounds_34 rfl ?_
  refine sw_icmp_ne (n := 38) F (by omega) (by decide) (tgt := 42) dX4_rounds_35 (by decide) rfl (fun c_35 => ?_) (fun c_35 => ?_)
  ·
    refine sw_iconst (n := 43) F (0) (by decide) dX4_rounds_42 rfl ?_
    refine sw_istore (n := 45) F (L2 := [(4, .int (jI 0)), (3, .int (jI (cmpI ((u % v) + (u % v)) v))), (0, .ref o), (1, .int (jI neg)), (2, .int (jI m))]) rfl (by decide) dX4_rounds_43 rfl ?_
    have K45 : ∀ (od : Int), ((od = 1 ∧ u / v % 2 = 1) ∨ (od = 0 ∧ u / v % 2 = 0)) → SW x [tmO (xg x) o a z, aN (xg x) 0 (a 0) 2400 D1_19, aN (xg x) 0 (a 1) 10 M1_20] 0 0 45 [(0, .ref o), (1, .int (jI neg)), (2, .int (jI m)), (3, .int (jI (cmpI ((u % v) + (u % v)) v))), (4, .int (jI od))] [] := by
      intro od hod
      refine sw_iload_n (n := 46) F 2 rfl rfl dX4_rounds_45 rfl ?_
      have K216 : ∀ (b : Int), (b = upI m neg (u / v) (u % v) v) → SW x [tmO (xg x) o a z, aN (xg x) 0 (a 0) 2400 D1_19, aN (xg x) 0 (a 1) 10 M1_20] 0 0 216 [(0, .ref o), (2, .int (jI m)), (5, .int (jI b))] [] := by
        intro b hb
        have hb01 : b = 0 ∨ b = 1 := by rw [hb]; exact upI_rng hneg
        refine sw_aload_n (n := 217) F 0 (some o) rfl rfl rfl dX4_rounds_216 rfl ?_
        refine sw_get (n := 220) F 0 rfl (k := 1) ⟨(RX4, TX4, 50), rfl, by decide, q3800, in_X4, Or.inl rfl⟩ (v := .ref (a 1)) rfl dX4_rounds_217 rfl ?_
        refine sw_iconst (n := 221) F (3) (by decide) dX4_rounds_220 rfl ?_
        refine sw_ialoadN (n := 222) F 2 rfl (fun _ => rfl) 3 rfl (by omega) dX4_rounds_221 rfl ?_
        refine sw_if_ne (n := 225) F (by omega) (tgt := 226) dX4_rounds_222 (by decide) rfl (fun c_222 => ?_) (fun c_222 => ?_)
        ·
          refine sw_aload_n (n := 227) F 0 (some o) rfl rfl rfl dX4_rounds_226 rfl ?_
          refine sw_dup (n := 228) F rfl dX4_rounds_227 rfl ?_
          refine sw_get (n := 231) F 0 rfl (k := 2) ⟨(RX4, TX4, 50), rfl, by decide, q3801, in_X4, Or.inl rfl⟩ (v := .int (jI (z 2))) rfl dX4_rounds_228 rfl ?_
          refine sw_iload_n (n := 232) F 1 rfl rfl dX4_rounds_231 rfl ?_
          refine sw_bipush (n := 234) F (110) (by decide) dX4_rounds_232 rfl ?_
          refine sw_icmp_ne (n := 237) F (by omega) (by decide) (tgt := 241) dX4_rounds_234 (by decide) rfl (fun c_234 => ?_) (fun c_234 => ?_)
          ·
            refine sw_iconst (n := 242) F (0) (by decide) dX4_rounds_241 rfl ?_
            refine sw_ior (n := 243) F _ (jI_or0 (by omega)) dX4_rounds_242 rfl ?_
            refine sw_put (n := 246) F 0 rfl (k := 2) ⟨(RX4, TX4, 50), rfl, by decide, q3801, in_X4, Or.inl rfl⟩ .boolean ⟨(RX4, TX4, 50), rfl, rfl, tyX4_ok 2 (by decide), nmX4, tyX4, tyX4_ok⟩ (jI_nz (by first | decide | omega)) (jI_fz (by first | decide | omega)) (Nat.le_of_ble_eq_true rfl) (fs' := tmF a (va_up z 2 (z 2))) rfl [tmO (xg x) o a (va_up z 2 (z 2)), aN (xg x) 0 (a 0) 2400 D1_19, aN (xg x) 0 (a 1) 10 M1_20] rfl dX4_rounds_243 rfl ?_
            refine sw_aload_n (n := 247) F 0 (some o) rfl rfl rfl dX4_rounds_246 rfl ?_
            refine sw_bipush (n := 249) F (8) (by decide) dX4_rounds_247 rfl ?_
            refine sw_lconst (n := 250) F 1 (by decide) dX4_rounds_249 rfl ?_
            refine sw_callV (n := 253) F (ct_X4_lets (g := xg x) (l := xl x) o a (va_up z 2 (z 2)) D1_19 M1_20 8 1 (by first | assumption | omega) a_22 (by first | assumption | omega)) (rcv_ob F 0 (ci := 3) rfl rfl) q4004 q4006 qs71 q120 q4007 nd_X4_lets rfl (by decide) [0, 1, 2] rfl [] rfl 0 0 ⟨by omega, by omega⟩ [] rfl (Nat.le_of_ble_eq_true rfl) dX4_rounds_250 rfl (fun _ _ h => h.elim) (fun v Ws h => ?_)
            obtain ⟨D1_30, M1_31, rfl, hU_32, rfl⟩ := h
            show SW x [tmO (xg x) o a (va_up z 2 (z 2)), aN (xg x) 0 (a 0) 2400 D1_30, aN (xg x) 0 (a 1) 10 M1_31] _ _ _ _ []
            have a_33 := hU_32.1
            have r_34 : rok D1_30 M1_31 8 1 := hU_32.2.2.2
            have k_35 := hU_32.keep (r := 0) (by first | omega | simp | (simp; omega)) k_27
            have k_36 := hU_32.keep (r := 1) (by first | omega | simp | (simp; omega)) k_26
            have k_37 := hU_32.keep (r := 3) (by first | omega | simp | (simp; omega)) k_25
            have k_38 := hU_32.keep (r := 2) (by first | omega | simp | (simp; omega)) k_24
            have k_39 := hU_32.keep (r := 9) (by first | omega | simp | (simp; omega)) r_23
            have v_40 := (v_28.mono (T := [2, 3, 8, 9]) (by simp)).trans hU_32.rv (by simp)
            refine sw_iload (n := 255) F 2 rfl dX4_rounds_253 rfl ?_
            refine sw_if_eq (n := 258) F (by omega) (tgt := 265) dX4_rounds_255 (by decide) rfl (fun c_255 => ?_) (fun c_255 => ?_)
            ·
              exact sw_vret F rfl dX4_rounds_265 (by rw [hPo]; exact ⟨D1_30, M1_31, rfl, v_40, (by first | (rw [rnd_1 (by omega) (by omega)]; assumption) | (rw [rnd_2 (by omega)]; assumption)), (by first | rw [rfz_n (by omega)] | rw [rfz_1 (by omega) (by omega)])⟩)
            ·
              refine sw_aload_n (n := 259) F 0 (some o) rfl rfl rfl dX4_rounds_258 rfl ?_
              refine sw_iconst (n := 260) F (2) (by decide) dX4_rounds_259 rfl ?_
              refine sw_bipush (n := 262) F (8) (by decide) dX4_rounds_260 rfl ?_
              refine sw_callV (n := 265) F (ct_X4_plus (g := xg x) (l := xl x) o a (va_up z 2 (z 2)) D1_30 M1_31 2 8 (u / v) 1 (by first | assumption | omega) (by first | assumption | omega) (by first | assumption | omega) a_33 k_38 r_34 (by first | assumption | omega)) (rcv_ob F 0 (ci := 3) rfl rfl) q4012 q4014 qs73 q120 q4015 nd_X4_plus rfl (by decide) [0, 1, 2] rfl [] rfl 0 0 ⟨by omega, by omega⟩ [] rfl (Nat.le_of_ble_eq_true rfl) dX4_rounds_262 rfl (fun _ _ h => h.elim) (fun v Ws h => ?_)
              obtain ⟨D1_41, M1_42, rfl, hU_43, rfl⟩ := h
              show SW x [tmO (xg x) o a (va_up z 2 (z 2)), aN (xg x) 0 (a 0) 2400 D1_41, aN (xg x) 0 (a 1) 10 M1_42] _ _ _ _ []
              have a_44 := hU_43.1
              have r_45 : rok D1_41 M1_42 2 ((u / v) + 1) := hU_43.2.2.2
              have k_46 := hU_43.keep (r := 9) (by first | omega | simp | (simp; omega)) k_39
              have k_47 := hU_43.keep (r := 3) (by first | omega | simp | (simp; omega)) k_37
              have k_48 := hU_43.keep (r := 1) (by first | omega | simp | (simp; omega)) k_36
              have k_49 := hU_43.keep (r := 0) (by first | omega | simp | (simp; omega)) k_35
              have k_50 := hU_43.keep (r := 8) (by first | omega | simp | (simp; omega)) r_34
              have v_51 := (v_40.mono (T := [2, 3, 8, 9]) (by simp)).trans hU_43.rv (by simp)
              exact sw_vret F rfl dX4_rounds_265 (by rw [hPo]; exact ⟨D1_41, M1_42, rfl, v_51, (by first | (rw [rnd_1 (by omega) (by omega)]; assumption) | (rw [rnd_2 (by omega)]; assumption)), (by first | rw [rfz_n (by omega)] | rw [rfz_1 (by omega) (by omega)])⟩)
          ·
            refine sw_iconst (n := 238) F (1) (by decide) dX4_rounds_237 rfl ?_
            refine sw_goto F (n := 242) dX4_rounds_238 (by decide) ?_
            refine sw_ior (n := 243) F _ (jI_or1 (by omega)) dX4_rounds_242 rfl ?_
            refine sw_put (n := 246) F 0 rfl (k := 2) ⟨(RX4, TX4, 50), rfl, by decide, q3801, in_X4, Or.inl rfl⟩ .boolean ⟨(RX4, TX4, 50), rfl, rfl, tyX4_ok 2 (by decide), nmX4, tyX4, tyX4_ok⟩ (jI_nz (by first | decide | omega)) (jI_fz (by first | decide | omega)) (Nat.le_of_ble_eq_true rfl) (fs' := tmF a (va_up z 2 1)) rfl [tmO (xg x) o a (va_up z 2 1), aN (xg x) 0 (a 0) 2400 D1_19, aN (xg x) 0 (a 1) 10 M1_20] rfl dX4_rounds_243 rfl ?_
            refine sw_aload_n (n := 247) F 0 (some o) rfl rfl rfl dX4_rounds_246 rfl ?_
            refine sw_bipush (n := 249) F (8) (by decide) dX4_rounds_247 rfl ?_
            refine sw_lconst (n := 250) F 1 (by decide) dX4_rounds_249 rfl ?_
            refine sw_callV (n := 253) F (ct_X4_lets (g := xg x) (l := xl x) o a (va_up z 2 1) D1_19 M1_20 8 1 (by first | assumption | omega) a_22 (by first | assumption | omega)) (rcv_ob F 0 (ci := 3) rfl rfl) q4004 q4006 qs71 q120 q4007 nd_X4_lets rfl (by decide) [0, 1, 2] rfl [] rfl 0 0 ⟨by omega, by omega⟩ [] rfl (Nat.le_of_ble_eq_true rfl) dX4_rounds_250 rfl (fun _ _ h => h.elim) (fun v Ws h => ?_)
            obtain ⟨D1_52, M1_53, rfl, hU_54, rfl⟩ := h
            show SW x [tmO (xg x) o a (va_up z 2 1), aN (xg x) 0 (a 0) 2400 D1_52, aN (xg x) 0 (a 1) 10 M1_53] _ _ _ _ []
            have a_55 := hU_54.1
            have r_56 : rok D1_52 M1_53 8 1 := hU_54.2.2.2
            have k_57 := hU_54.keep (r := 0) (by first | omega | simp | (simp; omega)) k_27
            have k_58 := hU_54.keep (r := 1) (by first | omega | simp | (simp; omega)) k_26
            have k_59 := hU_54.keep (r := 3) (by first | omega | simp | (simp; omega)) k_25
            have k_60 := hU_54.keep (r := 2) (by first | omega | simp | (simp; omega)) k_24
            have k_61 := hU_54.keep (r := 9) (by first | omega | simp | (simp; omega)) r_23
            have v_62 := (v_28.mono (T := [2, 3, 8, 9]) (by simp)).trans hU_54.rv (by simp)
            refine sw_iload (n := 255) F 2 rfl dX4_rounds_253 rfl ?_
            refine sw_if_eq (n := 258) F (by omega) (tgt := 265) dX4_rounds_255 (by decide) rfl (fun c_255 => ?_) (fun c_255 => ?_)
            ·
              exact sw_vret F rfl dX4_rounds_265 (by rw [hPo]; exact ⟨D1_52, M1_53, rfl, v_62, (by first | (rw [rnd_1 (by omega) (by omega)]; assumption) | (rw [rnd_2 (by omega)]; assumption)), (by first | rw [rfz_n (by omega)] | rw [rfz_1 (by omega) (by omega)])⟩)
            ·
              refine sw_aload_n (n := 259) F 0 (some o) rfl rfl rfl dX4_rounds_258 rfl ?_
              refine sw_iconst (n := 260) F (2) (by decide) dX4_rounds_259 rfl ?_
              refine sw_bipush (n := 262) F (8) (by decide) dX4_rounds_260 rfl ?_
              refine sw_callV (n := 265) F (ct_X4_plus (g := xg x) (l := xl x) o a (va_up z 2 1) D1_52 M1_53 2 8 (u / v) 1 (by first | assumption | omega) (by first | assumption | omega) (by first | assumption | omega) a_55 k_60 r_56 (by first | assumption | omega)) (rcv_ob F 0 (ci := 3) rfl rfl) q4012 q4014 qs73 q120 q4015 nd_X4_plus rfl (by decide) [0, 1, 2] rfl [] rfl 0 0 ⟨by omega, by omega⟩ [] rfl (Nat.le_of_ble_eq_true rfl) dX4_rounds_262 rfl (fun _ _ h => h.elim) (fun v Ws h => ?_)
              obtain ⟨D1_63, M1_64, rfl, hU_65, rfl⟩ := h
              show SW x [tmO (xg x) o a (va_up z 2 1), aN (xg x) 0 (a 0) 2400 D1_63, aN (xg x) 0 (a 1) 10 M1_64] _ _ _ _ []
              have a_66 := hU_65.1
              have r_67 : rok D1_63 M1_64 2 ((u / v) + 1) := hU_65.2.2.2
              have k_68 := hU_65.keep (r := 9) (by first | omega | simp | (simp; omega)) k_61
              have k_69 := hU_65.keep (r := 3) (by first | omega | simp | (simp; omega)) k_59
              have k_70 := hU_65.keep (r := 1) (by first | omega | simp | (simp; omega)) k_58
              have k_71 := hU_65.keep (r := 0) (by first | omega | simp | (simp; omega)) k_57
              have k_72 := hU_65.keep (r := 8) (by first | omega | simp | (simp; omega)) r_56
              have v_73 := (v_62.mono (T := [2, 3, 8, 9]) (by simp)).trans hU_65.rv (by simp)
              exact sw_vret F rfl dX4_rounds_265 (by rw [hPo]; exact ⟨D1_63, M1_64, rfl, v_73, (by first | (rw [rnd_1 (by omega) (by omega)]; assumption) | (rw [rnd_2 (by omega)]; assumption)), (by first | rw [rfz_n (by omega)] | rw [rfz_1 (by omega) (by omega)])⟩)
        ·
          exact sw_vret F rfl dX4_rounds_225 (by rw [hPo]; exact ⟨D1_19, M1_20, rfl, v_28, (by rw [rnd_0 (by omega)]; assumption), (by rw [rfz_0 (by omega), va_up_idI])⟩)
      by_cases c_46_99 : m = 99
      ·
        refine sw_tableIn F (99) (96) (tgt := 142) (by omega) c_46_99 dX4_rounds_46 (by decide) (by decide) (by decide) (by decide) ?_
        refine sw_iload_n (n := 143) F 1 rfl rfl dX4_rounds_142 rfl ?_
        refine sw_if_ne (n := 146) F (by omega) (tgt := 150) dX4_rounds_143 (by decide) rfl (fun c_143 => ?_) (fun c_143 => ?_)
        ·
          refine sw_iconst (n := 151) F (0) (by decide) dX4_rounds_150 rfl ?_
          refine sw_istore (n := 153) F (L2 := [(5, .int (jI 0)), (0, .ref o), (1, .int (jI neg)), (2, .int (jI m)), (3, .int (jI (cmpI ((u % v) + (u % v)) v))), (4, .int (jI od))]) rfl (by decide) dX4_rounds_151 rfl ?_
          refine sw_goto F (n := 216) dX4_rounds_153 (by decide) ?_
          refine sw_loc [1, 3, 0] (L2 := [(0, .ref o), (2, .int (jI m)), (5, .int (jI 0))]) rfl ?_
          exact K216 0 (by rw [show m = 99 by omega, upI_99]; omega)
        ·
          refine sw_iconst (n := 147) F (1) (by decide) dX4_rounds_146 rfl ?_
          refine sw_goto F (n := 151) dX4_rounds_147 (by decide) ?_
          refine sw_istore (n := 153) F (L2 := [(5, .int (jI 1)), (0, .ref o), (1, .int (jI neg)), (2, .int (jI m)), (3, .int (jI (cmpI ((u % v) + (u % v)) v))), (4, .int (jI od))]) rfl (by decide) dX4_rounds_151 rfl ?_
          refine sw_goto F (n := 216) dX4_rounds_153 (by decide) ?_
          refine sw_loc [1, 3, 0] (L2 := [(0, .ref o), (2, .int (jI m)), (5, .int (jI 1))]) rfl ?_
          exact K216 1 (by rw [show m = 99 by omega, upI_99]; omega)
      ·
        by_cases c_46_101 : m = 101
        ·
          refine sw_tableIn F (101) (144) (tgt := 190) (by omega) c_46_101 dX4_rounds_46 (by decide) (by decide) (by decide) (by decide) ?_
          refine sw_iload_n (n := 191) F 3 rfl rfl dX4_rounds_190 rfl ?_
          refine sw_if_gt (n := 194) F (by omega) (tgt := 203) dX4_rounds_191 (by decide) rfl (fun c_191 => ?_) (fun c_191 => ?_)
          ·
            refine sw_iconst (n := 204) F (1) (by decide) dX4_rounds_203 rfl ?_
            refine sw_goto F (n := 208) dX4_rounds_204 (by decide) ?_
            refine sw_istore (n := 210) F (L2 := [(5, .int (jI 1)), (0, .ref o), (1, .int (jI neg)), (2, .int (jI m)), (3, .int (jI (cmpI ((u % v) + (u % v)) v))), (4, .int (jI od))]) rfl (by decide) dX4_rounds_208 rfl ?_
            refine sw_goto F (n := 216) dX4_rounds_210 (by decide) ?_
            refine sw_loc [1, 3, 0] (L2 := [(0, .ref o), (2, .int (jI m)), (5, .int (jI 1))]) rfl ?_
            exact K216 1 (by rw [show m = 101 by omega, upI_101]; split <;> omega)
          ·
            refine sw_iload_n (n := 195) F 3 rfl rfl dX4_rounds_194 rfl ?_
            refine sw_if_ne (n := 198) F (by omega) (tgt := 207) dX4_rounds_195 (by decide) rfl (fun c_195 => ?_) (fun c_195 => ?_)
            ·
              refine sw_iconst (n := 208) F (0) (by decide) dX4_rounds_207 rfl ?_
              refine sw_istore (n := 210) F (L2 := [(5, .int (jI 0)), (0, .ref o), (1, .int (jI neg)), (2, .int (jI m)), (3, .int (jI (cmpI ((u % v) + (u % v)) v))), (4, .int (jI od))]) rfl (by decide) dX4_rounds_208 rfl ?_
              refine sw_goto F (n := 216) dX4_rounds_210 (by decide) ?_
              refine sw_loc [1, 3, 0] (L2 := [(0, .ref o), (2, .int (jI m)), (5, .int (jI 0))]) rfl ?_
              exact K216 0 (by rw [show m = 101 by omega, upI_101]; split <;> omega)
            ·
              refine sw_iload (n := 200) F 4 rfl dX4_rounds_198 rfl ?_
              refine sw_if_eq (n := 203) F (by omega) (tgt := 207) dX4_rounds_200 (by decide) rfl (fun c_200 => ?_) (fun c_200 => ?_)
              ·
                refine sw_iconst (n := 208) F (0) (by decide) dX4_rounds_207 rfl ?_
                refine sw_istore (n := 210) F (L2 := [(5, .int (jI 0)), (0, .ref o), (1, .int (jI neg)), (2, .int (jI m)), (3, .int (jI (cmpI ((u % v) + (u % v)) v))), (4, .int (jI od))]) rfl (by decide) dX4_rounds_208 rfl ?_
                refine sw_goto F (n := 216) dX4_rounds_210 (by decide) ?_
                refine sw_loc [1, 3, 0] (L2 := [(0, .ref o), (2, .int (jI m)), (5, .int (jI 0))]) rfl ?_
                exact K216 0 (by rw [show m = 101 by omega, upI_101]; split <;> omega)
              ·
                refine sw_iconst (n := 204) F (1) (by decide) dX4_rounds_203 rfl ?_
                refine sw_goto F (n := 208) dX4_rounds_204 (by decide) ?_
                refine sw_istore (n := 210) F (L2 := [(5, .int (jI 1)), (0, .ref o), (1, .int (jI neg)), (2, .int (jI m)), (3, .int (jI (cmpI ((u % v) + (u % v)) v))), (4, .int (jI od))]) rfl (by decide) dX4_rounds_208 rfl ?_
                refine sw_goto F (n := 216) dX4_rounds_210 (by decide) ?_
                refine sw_loc [1, 3, 0] (L2 := [(0, .ref o), (2, .int (jI m)), (5, .int (jI 1))]) rfl ?_
                exact K216 1 (by rw [show m = 101 by omega, upI_101]; split <;> omega)
        ·
          by_cases c_46_102 : m = 102
          ·
            refine sw_tableIn F (102) (110) (tgt := 156) (by omega) c_46_102 dX4_rounds_46 (by decide) (by decide) (by decide) (by decide) ?_
            refine sw_iload_n (n := 157) F 1 rfl rfl dX4_rounds_156 rfl ?_
            refine sw_istore (n := 159) F (L2 := [(5, .int (jI neg)), (0, .ref o), (1, .int (jI neg)), (2, .int (jI m)), (3, .int (jI (cmpI ((u % v) + (u % v)) v))), (4, .int (jI od))]) rfl (by decide) dX4_rounds_157 rfl ?_
            refine sw_goto F (n := 216) dX4_rounds_159 (by decide) ?_
            refine sw_loc [1, 3, 0] (L2 := [(0, .ref o), (2, .int (jI m)), (5, .int (jI neg))]) rfl ?_
            exact K216 neg (by rw [show m = 102 by omega, upI_102])
          ·
            by_cases c_46_104 : m = 104
            ·
              refine sw_tableIn F (104) (116) (tgt := 162) (by omega) c_46_104 dX4_rounds_46 (by decide) (by decide) (by decide) (by decide) ?_
              refine sw_iload_n (n := 163) F 3 rfl rfl dX4_rounds_162 rfl ?_
              refine sw_if_lt (n := 166) F (by omega) (tgt := 170) dX4_rounds_163 (by decide) rfl (fun c_163 => ?_) (fun c_163 => ?_)
              ·
                refine sw_iconst (n := 171) F (0) (by decide) dX4_rounds_170 rfl ?_
                refine sw_istore (n := 173) F (L2 := [(5, .int (jI 0)), (0, .ref o), (1, .int (jI neg)), (2, .int (jI m)), (3, .int (jI (cmpI ((u % v) + (u % v)) v))), (4, .int (jI od))]) rfl (by decide) dX4_rounds_171 rfl ?_
                refine sw_goto F (n := 216) dX4_rounds_173 (by decide) ?_
                refine sw_loc [1, 3, 0] (L2 := [(0, .ref o), (2, .int (jI m)), (5, .int (jI 0))]) rfl ?_
                exact K216 0 (by rw [show m = 104 by omega, upI_104]; split <;> omega)
              ·
                refine sw_iconst (n := 167) F (1) (by decide) dX4_rounds_166 rfl ?_
                refine sw_goto F (n := 171) dX4_rounds_167 (by decide) ?_
                refine sw_istore (n := 173) F (L2 := [(5, .int (jI 1)), (0, .ref o), (1, .int (jI neg)), (2, .int (jI m)), (3, .int (jI (cmpI ((u % v) + (u % v)) v))), (4, .int (jI od))]) rfl (by decide) dX4_rounds_171 rfl ?_
                refine sw_goto F (n := 216) dX4_rounds_173 (by decide) ?_
                refine sw_loc [1, 3, 0] (L2 := [(0, .ref o), (2, .int (jI m)), (5, .int (jI 1))]) rfl ?_
                exact K216 1 (by rw [show m = 104 by omega, upI_104]; split <;> omega)
            ·
              by_cases c_46_108 : m = 108
              ·
                refine sw_tableIn F (108) (130) (tgt := 176) (by omega) c_46_108 dX4_rounds_46 (by decide) (by decide) (by decide) (by decide) ?_
                refine sw_iload_n (n := 177) F 3 rfl rfl dX4_rounds_176 rfl ?_
                refine sw_if_le (n := 180) F (by omega) (tgt := 184) dX4_rounds_177 (by decide) rfl (fun c_177 => ?_) (fun c_177 => ?_)
                ·
                  refine sw_iconst (n := 185) F (0) (by decide) dX4_rounds_184 rfl ?_
                  refine sw_istore (n := 187) F (L2 := [(5, .int (jI 0)), (0, .ref o), (1, .int (jI neg)), (2, .int (jI m)), (3, .int (jI (cmpI ((u % v) + (u % v)) v))), (4, .int (jI od))]) rfl (by decide) dX4_rounds_185 rfl ?_
                  refine sw_goto F (n := 216) dX4_rounds_187 (by decide) ?_
                  refine sw_loc [1, 3, 0] (L2 := [(0, .ref o), (2, .int (jI m)), (5, .int (jI 0))]) rfl ?_
                  exact K216 0 (by rw [show m = 108 by omega, upI_108]; split <;> omega)
                ·
                  refine sw_iconst (n := 181) F (1) (by decide) dX4_rounds_180 rfl ?_
                  refine sw_goto F (n := 185) dX4_rounds_181 (by decide) ?_
                  refine sw_istore (n := 187) F (L2 := [(5, .int (jI 1)), (0, .ref o), (1, .int (jI neg)), (2, .int (jI m)), (3, .int (jI (cmpI ((u % v) + (u % v)) v))), (4, .int (jI od))]) rfl (by decide) dX4_rounds_185 rfl ?_
                  refine sw_goto F (n := 216) dX4_rounds_187 (by decide) ?_
                  refine sw_loc [1, 3, 0] (L2 := [(0, .ref o), (2, .int (jI m)), (5, .int (jI 1))]) rfl ?_
                  exact K216 1 (by rw [show m = 108 by omega, upI_108]; split <;> omega)
              ·
                by_cases c_46_117 : m = 117
                ·
                  refine sw_tableIn F (117) (90) (tgt := 136) (by omega) c_46_117 dX4_rounds_46 (by decide) (by decide) (by decide) (by decide) ?_
                  refine sw_iconst (n := 137) F (1) (by decide) dX4_rounds_136 rfl ?_
                  refine sw_istore (n := 139) F (L2 := [(5, .int (jI 1)), (0, .ref o), (1, .int (jI neg)), (2, .int (jI m)), (3, .int (jI (cmpI ((u % v) + (u % v)) v))), (4, .int (jI od))]) rfl (by decide) dX4_rounds_137 rfl ?_
                  refine sw_goto F (n := 216) dX4_rounds_139 (by decide) ?_
                  refine sw_loc [1, 3, 0] (L2 := [(0, .ref o), (2, .int (jI m)), (5, .int (jI 1))]) rfl ?_
                  exact K216 1 (by rw [show m = 117 by omega, upI_117])
                ·
                  by_cases c_46_100 : m = 100
                  ·
                    refine sw_tableIn F (100) (167) (tgt := 213) (by omega) c_46_100 dX4_rounds_46 (by decide) (by decide) (by decide) (by decide) ?_
                    refine sw_iconst (n := 214) F (0) (by decide) dX4_rounds_213 rfl ?_
                    refine sw_istore (n := 216) F (L2 := [(5, .int (jI 0)), (0, .ref o), (1, .int (jI neg)), (2, .int (jI m)), (3, .int (jI (cmpI ((u % v) + (u % v)) v))), (4, .int (jI od))]) rfl (by decide) dX4_rounds_214 rfl ?_
                    refine sw_loc [1, 3, 0] (L2 := [(0, .ref o), (2, .int (jI m)), (5, .int (jI 0))]) rfl ?_
                    exact K216 0 (by rw [upI_d (by omega)])
                  ·
                    by_cases c_46_103 : m = 103
                    ·
                      refine sw_tableIn F (103) (167) (tgt := 213) (by omega) c_46_103 dX4_rounds_46 (by decide) (by decide) (by decide) (by decide) ?_
                      refine sw_iconst (n := 214) F (0) (by decide) dX4_rounds_213 rfl ?_
                      refine sw_istore (n := 216) F (L2 := [(5, .int (jI 0)), (0, .ref o), (1, .int (jI neg)), (2, .int (jI m)), (3, .int (jI (cmpI ((u % v) + (u % v)) v))), (4, .int (jI od))]) rfl (by decide) dX4_rounds_214 rfl ?_
                      refine sw_loc [1, 3, 0] (L2 := [(0, .ref o), (2, .int (jI m)), (5, .int (jI 0))]) rfl ?_
                      exact K216 0 (by rw [upI_d (by omega)])
                    ·
                      by_cases c_46_105 : m = 105
                      ·
                        refine sw_tableIn F (105) (167) (tgt := 213) (by omega) c_46_105 dX4_rounds_46 (by decide) (by decide) (by decide) (by decide) ?_
                        refine sw_iconst (n := 214) F (0) (by decide) dX4_rounds_213 rfl ?_
                        refine sw_istore (n := 216) F (L2 := [(5, .int (jI 0)), (0, .ref o), (1, .int (jI neg)), (2, .int (jI m)), (3, .int (jI (cmpI ((u % v) + (u % v)) v))), (4, .int (jI od))]) rfl (by decide) dX4_rounds_214 rfl ?_
                        refine sw_loc [1, 3, 0] (L2 := [(0, .ref o), (2, .int (jI m)), (5, .int (jI 0))]) rfl ?_
                        exact K216 0 (by rw [upI_d (by omega)])
                      ·
                        by_cases c_46_106 : m = 106
                        ·
                          refine sw_tableIn F (106) (167) (tgt := 213) (by omega) c_46_106 dX4_rounds_46 (by decide) (by decide) (by decide) (by decide) ?_
                          refine sw_iconst (n := 214) F (0) (by decide) dX4_rounds_213 rfl ?_
                          refine sw_istore (n := 216) F (L2 := [(5, .int (jI 0)), (0, .ref o), (1, .int (jI neg)), (2, .int (jI m)), (3, .int (jI (cmpI ((u % v) + (u % v)) v))), (4, .int (jI od))]) rfl (by decide) dX4_rounds_214 rfl ?_
                          refine sw_loc [1, 3, 0] (L2 := [(0, .ref o), (2, .int (jI m)), (5, .int (jI 0))]) rfl ?_
                          exact K216 0 (by rw [upI_d (by omega)])
                        ·
                          by_cases c_46_107 : m = 107
                          ·
                            refine sw_tableIn F (107) (167) (tgt := 213) (by omega) c_46_107 dX4_rounds_46 (by decide) (by decide) (by decide) (by decide) ?_
                            refine sw_iconst (n := 214) F (0) (by decide) dX4_rounds_213 rfl ?_
                            refine sw_istore (n := 216) F (L2 := [(5, .int (jI 0)), (0, .ref o), (1, .int (jI neg)), (2, .int (jI m)), (3, .int (jI (cmpI ((u % v) + (u % v)) v))), (4, .int (jI od))]) rfl (by decide) dX4_rounds_214 rfl ?_
                            refine sw_loc [1, 3, 0] (L2 := [(0, .ref o), (2, .int (jI m)), (5, .int (jI 0))]) rfl ?_
                            exact K216 0 (by rw [upI_d (by omega)])
                          ·
                            by_cases c_46_109 : m = 109
                            ·
                              refine sw_tableIn F (109) (167) (tgt := 213) (by omega) c_46_109 dX4_rounds_46 (by decide) (by decide) (by decide) (by decide) ?_
                              refine sw_iconst (n := 214) F (0) (by decide) dX4_rounds_213 rfl ?_
                              refine sw_istore (n := 216) F (L2 := [(5, .int (jI 0)), (0, .ref o), (1, .int (jI neg)), (2, .int (jI m)), (3, .int (jI (cmpI ((u % v) + (u % v)) v))), (4, .int (jI od))]) rfl (by decide) dX4_rounds_214 rfl ?_
                              refine sw_loc [1, 3, 0] (L2 := [(0, .ref o), (2, .int (jI m)), (5, .int (jI 0))]) rfl ?_
                              exact K216 0 (by rw [upI_d (by omega)])
                            ·
                              by_cases c_46_110 : m = 110
                              ·
                                refine sw_tableIn F (110) (167) (tgt := 213) (by omega) c_46_110 dX4_rounds_46 (by decide) (by decide) (by decide) (by decide) ?_
                                refine sw_iconst (n := 214) F (0) (by decide) dX4_rounds_213 rfl ?_
                                refine sw_istore (n := 216) F (L2 := [(5, .int (jI 0)), (0, .ref o), (1, .int (jI neg)), (2, .int (jI m)), (3, .int (jI (cmpI ((u % v) + (u % v)) v))), (4, .int (jI od))]) rfl (by decide) dX4_rounds_214 rfl ?_
                                refine sw_loc [1, 3, 0] (L2 := [(0, .ref o), (2, .int (jI m)), (5, .int (jI 0))]) rfl ?_
                                exact K216 0 (by rw [upI_d (by omega)])
                              ·
                                by_cases c_46_111 : m = 111
                                ·
                                  refine sw_tableIn F (111) (167) (tgt := 213) (by omega) c_46_111 dX4_rounds_46 (by decide) (by decide) (by decide) (by decide) ?_
                                  refine sw_iconst (n := 214) F (0) (by decide) dX4_rounds_213 rfl ?_
                                  refine sw_istore (n := 216) F (L2 := [(5, .int (jI 0)), (0, .ref o), (1, .int (jI neg)), (2, .int (jI m)), (3, .int (jI (cmpI ((u % v) + (u % v)) v))), (4, .int (jI od))]) rfl (by decide) dX4_rounds_214 rfl ?_
                                  refine sw_loc [1, 3, 0] (L2 := [(0, .ref o), (2, .int (jI m)), (5, .int (jI 0))]) rfl ?_
                                  exact K216 0 (by rw [upI_d (by omega)])
                                ·
                                  by_cases c_46_112 : m = 112
                                  ·
                                    refine sw_tableIn F (112) (167) (tgt := 213) (by omega) c_46_112 dX4_rounds_46 (by decide) (by decide) (by decide) (by decide) ?_
                                    refine sw_iconst (n := 214) F (0) (by decide) dX4_rounds_213 rfl ?_
                                    refine sw_istore (n := 216) F (L2 := [(5, .int (jI 0)), (0, .ref o), (1, .int (jI neg)), (2, .int (jI m)), (3, .int (jI (cmpI ((u % v) + (u % v)) v))), (4, .int (jI od))]) rfl (by decide) dX4_rounds_214 rfl ?_
                                    refine sw_loc [1, 3, 0] (L2 := [(0, .ref o), (2, .int (jI m)), (5, .int (jI 0))]) rfl ?_
                                    exact K216 0 (by rw [upI_d (by omega)])
                                  ·
                                    by_cases c_46_113 : m = 113
                                    ·
                                      refine sw_tableIn F (113) (167) (tgt := 213) (by omega) c_46_113 dX4_rounds_46 (by decide) (by decide) (by decide) (by decide) ?_
                                      refine sw_iconst (n := 214) F (0) (by decide) dX4_rounds_213 rfl ?_
                                      refine sw_istore (n := 216) F (L2 := [(5, .int (jI 0)), (0, .ref o), (1, .int (jI neg)), (2, .int (jI m)), (3, .int (jI (cmpI ((u % v) + (u % v)) v))), (4, .int (jI od))]) rfl (by decide) dX4_rounds_214 rfl ?_
                                      refine sw_loc [1, 3, 0] (L2 := [(0, .ref o), (2, .int (jI m)), (5, .int (jI 0))]) rfl ?_
                                      exact K216 0 (by rw [upI_d (by omega)])
                                    ·
                                      by_cases c_46_114 : m = 114
                                      ·
                                        refine sw_tableIn F (114) (167) (tgt := 213) (by omega) c_46_114 dX4_rounds_46 (by decide) (by decide) (by decide) (by decide) ?_
                                        refine sw_iconst (n := 214) F (0) (by decide) dX4_rounds_213 rfl ?_
                                        refine sw_istore (n := 216) F (L2 := [(5, .int (jI 0)), (0, .ref o), (1, .int (jI neg)), (2, .int (jI m)), (3, .int (jI (cmpI ((u % v) + (u % v)) v))), (4, .int (jI od))]) rfl (by decide) dX4_rounds_214 rfl ?_
                                        refine sw_loc [1, 3, 0] (L2 := [(0, .ref o), (2, .int (jI m)), (5, .int (jI 0))]) rfl ?_
                                        exact K216 0 (by rw [upI_d (by omega)])
                                      ·
                                        by_cases c_46_115 : m = 115
                                        ·
                                          refine sw_tableIn F (115) (167) (tgt := 213) (by omega) c_46_115 dX4_rounds_46 (by decide) (by decide) (by decide) (by decide) ?_
                                          refine sw_iconst (n := 214) F (0) (by decide) dX4_rounds_213 rfl ?_
                                          refine sw_istore (n := 216) F (L2 := [(5, .int (jI 0)), (0, .ref o), (1, .int (jI neg)), (2, .int (jI m)), (3, .int (jI (cmpI ((u % v) + (u % v)) v))), (4, .int (jI od))]) rfl (by decide) dX4_rounds_214 rfl ?_
                                          refine sw_loc [1, 3, 0] (L2 := [(0, .ref o), (2, .int (jI m)), (5, .int (jI 0))]) rfl ?_
                                          exact K216 0 (by rw [upI_d (by omega)])
                                        ·
                                          by_cases c_46_116 : m = 116
                                          ·
                                            refine sw_tableIn F (116) (167) (tgt := 213) (by omega) c_46_116 dX4_rounds_46 (by decide) (by decide) (by decide) (by decide) ?_
                                            refine sw_iconst (n := 214) F (0) (by decide) dX4_rounds_213 rfl ?_
                                            refine sw_istore (n := 216) F (L2 := [(5, .int (jI 0)), (0, .ref o), (1, .int (jI neg)), (2, .int (jI m)), (3, .int (jI (cmpI ((u % v) + (u % v)) v))), (4, .int (jI od))]) rfl (by decide) dX4_rounds_214 rfl ?_
                                            refine sw_loc [1, 3, 0] (L2 := [(0, .ref o), (2, .int (jI m)), (5, .int (jI 0))]) rfl ?_
                                            exact K216 0 (by rw [upI_d (by omega)])
                                          ·
                                            refine sw_tableOut F (tgt := 213) (by omega) dX4_rounds_46 (by omega) (by decide) ?_
                                            refine sw_iconst (n := 214) F (0) (by decide) dX4_rounds_213 rfl ?_
                                            refine sw_istore (n := 216) F (L2 := [(5, .int (jI 0)), (0, .ref o), (1, .int (jI neg)), (2, .int (jI m)), (3, .int (jI (cmpI ((u % v) + (u % v)) v))), (4, .int (jI od))]) rfl (by decide) dX4_rounds_214 rfl ?_
                                            refine sw_loc [1, 3, 0] (L2 := [(0, .ref o), (2, .int (jI m)), (5, .int (jI 0))]) rfl ?_
                                            exact K216 0 (by rw [upI_d (by omega)])
    refine sw_loc [2, 3, 4, 1, 0] (L2 := [(0, .ref o), (1, .int (jI neg)), (2, .int (jI m)), (3, .int (jI (cmpI ((u % v) + (u % v)) v))), (4, .int (jI 0))]) rfl ?_
    exact K45 0 (by omega)
  ·
    refine sw_iconst (n := 39) F (1) (by decide) dX4_rounds_38 rfl ?_
    refine sw_goto F (n := 43) dX4_rounds_39 (by decide) ?_
    refine sw_istore (n := 45) F (L2 := [(4, .int (jI 1)), (3, .int (jI (cmpI ((u % v) + (u % v)) v))), (0, .ref o), (1, .int (jI neg)), (2, .int (jI m))]) rfl (by decide) dX4_rounds_43 rfl ?_
    have K45 : ∀ (od : Int), ((od = 1 ∧ u / v % 2 = 1) ∨ (od = 0 ∧ u / v % 2 = 0)) → SW x [tmO (xg x) o a z, aN (xg x) 0 (a 0) 2400 D1_19, aN (xg x) 0 (a 1) 10 M1_20] 0 0 45 [(0, .ref o), (1, .int (jI neg)), (2, .int (jI m)), (3, .int (jI (cmpI ((u % v) + (u % v)) v))), (4, .int (jI od))] [] := by
      intro od hod
      refine sw_iload_n (n := 46) F 2 rfl rfl dX4_rounds_45 rfl ?_
      have K216 : ∀ (b : Int), (b = upI m neg (u / v) (u % v) v) → SW x [tmO (xg x) o a z, aN (xg x) 0 (a 0) 2400 D1_19, aN (xg x) 0 (a 1) 10 M1_20] 0 0 216 [(0, .ref o), (2, .int (jI m)), (5, .int (jI b))] [] := by
        intro b hb
        have hb01 : b = 0 ∨ b = 1 := by rw [hb]; exact upI_rng hneg
        refine sw_aload_n (n := 217) F 0 (some o) rfl rfl rfl dX4_rounds_216 rfl ?_
        refine sw_get (n := 220) F 0 rfl (k := 1) ⟨(RX4, TX4, 50), rfl, by decide, q3800, in_X4, Or.inl rfl⟩ (v := .ref (a 1)) rfl dX4_rounds_217 rfl ?_
        refine sw_iconst (n := 221) F (3) (by decide) dX4_rounds_220 rfl ?_
        refine sw_ialoadN (n := 222) F 2 rfl (fun _ => rfl) 3 rfl (by omega) dX4_rounds_221 rfl ?_
        refine sw_if_ne (n := 225) F (by omega) (tgt := 226) dX4_rounds_222 (by decide) rfl (fun c_222 => ?_) (fun c_222 => ?_)
        ·
          refine sw_aload_n (n := 227) F 0 (some o) rfl rfl rfl dX4_rounds_226 rfl ?_
          refine sw_dup (n := 228) F rfl dX4_rounds_227 rfl ?_
          refine sw_get (n := 231) F 0 rfl (k := 2) ⟨(RX4, TX4, 50), rfl, by decide, q3801, in_X4, Or.inl rfl⟩ (v := .int (jI (z 2))) rfl dX4_rounds_228 rfl ?_
          refine sw_iload_n (n := 232) F 1 rfl rfl dX4_rounds_231 rfl ?_
          refine sw_bipush (n := 234) F (110) (by decide) dX4_rounds_232 rfl ?_
          refine sw_icmp_ne (n := 237) F (by omega) (by decide) (tgt := 241) dX4_rounds_234 (by decide) rfl (fun c_234 => ?_) (fun c_234 => ?_)
          ·
            refine sw_iconst (n := 242) F (0) (by decide) dX4_rounds_241 rfl ?_
            refine sw_ior (n := 243) F _ (jI_or0 (by omega)) dX4_rounds_242 rfl ?_
            refine sw_put (n := 246) F 0 rfl (k := 2) ⟨(RX4, TX4, 50), rfl, by decide, q3801, in_X4, Or.inl rfl⟩ .boolean ⟨(RX4, TX4, 50), rfl, rfl, tyX4_ok 2 (by decide), nmX4, tyX4, tyX4_ok⟩ (jI_nz (by first | decide | omega)) (jI_fz (by first | decide | omega)) (Nat.le_of_ble_eq_true rfl) (fs' := tmF a (va_up z 2 (z 2))) rfl [tmO (xg x) o a (va_up z 2 (z 2)), aN (xg x) 0 (a 0) 2400 D1_19, aN (xg x) 0 (a 1) 10 M1_20] rfl dX4_rounds_243 rfl ?_
            refine sw_aload_n (n := 247) F 0 (some o) rfl rfl rfl dX4_rounds_246 rfl ?_
            refine sw_bipush (n := 249) F (8) (by decide) dX4_rounds_247 rfl ?_
            refine sw_lconst (n := 250) F 1 (by decide) dX4_rounds_249 rfl ?_
            refine sw_callV (n := 253) F (ct_X4_lets (g := xg x) (l := xl x) o a (va_up z 2 (z 2)) D1_19 M1_20 8 1 (by first | assumption | omega) a_22 (by first | assumption | omega)) (rcv_ob F 0 (ci := 3) rfl rfl) q4004 q4006 qs71 q120 q4007 nd_X4_lets rfl (by decide) [0, 1, 2] rfl [] rfl 0 0 ⟨by omega, by omega⟩ [] rfl (Nat.le_of_ble_eq_true rfl) dX4_rounds_250 rfl (fun _ _ h => h.elim) (fun v Ws h => ?_)
            obtain ⟨D1_74, M1_75, rfl, hU_76, rfl⟩ := h
            show SW x [tmO (xg x) o a (va_up z 2 (z 2)), aN (xg x) 0 (a 0) 2400 D1_74, aN (xg x) 0 (a 1) 10 M1_75] _ _ _ _ []
            have a_77 := hU_76.1
            have r_78 : rok D1_74 M1_75 8 1 := hU_76.2.2.2
            have k_79 := hU_76.keep (r := 0) (by first | omega | simp | (simp; omega)) k_27
            have k_80 := hU_76.keep (r := 1) (by first | omega | simp | (simp; omega)) k_26
            have k_81 := hU_76.keep (r := 3) (by first | omega | simp | (simp; omega)) k_25
            have k_82 := hU_76.keep (r := 2) (by first | omega | simp | (simp; omega)) k_24
            have k_83 := hU_76.keep (r := 9) (by first | omega | simp | (simp; omega)) r_23
            have v_84 := (v_28.mono (T := [2, 3, 8, 9]) (by simp)).trans hU_76.rv (by simp)
            refine sw_iload (n := 255) F 2 rfl dX4_rounds_253 rfl ?_
            refine sw_if_eq (n := 258) F (by omega) (tgt := 265) dX4_rounds_255 (by decide) rfl (fun c_255 => ?_) (fun c_255 => ?_)
            ·
              exact sw_vret F rfl dX4_rounds_265 (by rw [hPo]; exact ⟨D1_74, M1_75, rfl, v_84, (by first | (rw [rnd_1 (by omega) (by omega)]; assumption) | (rw [rnd_2 (by omega)]; assumption)), (by first | rw [rfz_n (by omega)] | rw [rfz_1 (by omega) (by omega)])⟩)
            ·
              refine sw_aload_n (n := 259) F 0 (some o) rfl rfl rfl dX4_rounds_258 rfl ?_
              refine sw_iconst (n := 260) F (2) (by decide) dX4_rounds_259 rfl ?_
              refine sw_bipush (n := 262) F (8) (by decide) dX4_rounds_260 rfl ?_
              refine sw_callV (n := 265) F (ct_X4_plus (g := xg x) (l := xl x) o a (va_up z 2 (z 2)) D1_74 M1_75 2 8 (u / v) 1 (by first | assumption | omega) (by first | assumption | omega) (by first | assumption | omega) a_77 k_82 r_78 (by first | assumption | omega)) (rcv_ob F 0 (ci := 3) rfl rfl) q4012 q4014 qs73 q120 q4015 nd_X4_plus rfl (by decide) [0, 1, 2] rfl [] rfl 0 0 ⟨by omega, by omega⟩ [] rfl (Nat.le_of_ble_eq_true rfl) dX4_rounds_262 rfl (fun _ _ h => h.elim) (fun v Ws h => ?_)
              obtain ⟨D1_85, M1_86, rfl, hU_87, rfl⟩ := h
              show SW x [tmO (xg x) o a (va_up z 2 (z 2)), aN (xg x) 0 (a 0) 2400 D1_85, aN (xg x) 0 (a 1) 10 M1_86] _ _ _ _ []
              have a_88 := hU_87.1
              have r_89 : rok D1_85 M1_86 2 ((u / v) + 1) := hU_87.2.2.2
              have k_90 := hU_87.keep (r := 9) (by first | omega | simp | (simp; omega)) k_83
              have k_91 := hU_87.keep (r := 3) (by first | omega | simp | (simp; omega)) k_81
              have k_92 := hU_87.keep (r := 1) (by first | omega | simp | (simp; omega)) k_80
              have k_93 := hU_87.keep (r := 0) (by first | omega | simp | (simp; omega)) k_79
              have k_94 := hU_87.keep (r := 8) (by first | omega | simp | (simp; omega)) r_78
              have v_95 := (v_84.mono (T := [2, 3, 8, 9]) (by simp)).trans hU_87.rv (by simp)
              exact sw_vret F rfl dX4_rounds_265 (by rw [hPo]; exact ⟨D1_85, M1_86, rfl, v_95, (by first | (rw [rnd_1 (by omega) (by omega)]; assumption) | (rw [rnd_2 (by omega)]; assumption)), (by first | rw [rfz_n (by omega)] | rw [rfz_1 (by omega) (by omega)])⟩)
          ·
            refine sw_iconst (n := 238) F (1) (by decide) dX4_rounds_237 rfl ?_
            refine sw_goto F (n := 242) dX4_rounds_238 (by decide) ?_
            refine sw_ior (n := 243) F _ (jI_or1 (by omega)) dX4_rounds_242 rfl ?_
            refine sw_put (n := 246) F 0 rfl (k := 2) ⟨(RX4, TX4, 50), rfl, by decide, q3801, in_X4, Or.inl rfl⟩ .boolean ⟨(RX4, TX4, 50), rfl, rfl, tyX4_ok 2 (by decide), nmX4, tyX4, tyX4_ok⟩ (jI_nz (by first | decide | omega)) (jI_fz (by first | decide | omega)) (Nat.le_of_ble_eq_true rfl) (fs' := tmF a (va_up z 2 1)) rfl [tmO (xg x) o a (va_up z 2 1), aN (xg x) 0 (a 0) 2400 D1_19, aN (xg x) 0 (a 1) 10 M1_20] rfl dX4_rounds_243 rfl ?_
            refine sw_aload_n (n := 247) F 0 (some o) rfl rfl rfl dX4_rounds_246 rfl ?_
            refine sw_bipush (n := 249) F (8) (by decide) dX4_rounds_247 rfl ?_
            refine sw_lconst (n := 250) F 1 (by decide) dX4_rounds_249 rfl ?_
            refine sw_callV (n := 253) F (ct_X4_lets (g := xg x) (l := xl x) o a (va_up z 2 1) D1_19 M1_20 8 1 (by first | assumption | omega) a_22 (by first | assumption | omega)) (rcv_ob F 0 (ci := 3) rfl rfl) q4004 q4006 qs71 q120 q4007 nd_X4_lets rfl (by decide) [0, 1, 2] rfl [] rfl 0 0 ⟨by omega, by omega⟩ [] rfl (Nat.le_of_ble_eq_true rfl) dX4_rounds_250 rfl (fun _ _ h => h.elim) (fun v Ws h => ?_)
            obtain ⟨D1_96, M1_97, rfl, hU_98, rfl⟩ := h
            show SW x [tmO (xg x) o a (va_up z 2 1), aN (xg x) 0 (a 0) 2400 D1_96, aN (xg x) 0 (a 1) 10 M1_97] _ _ _ _ []
            have a_99 := hU_98.1
            have r_100 : rok D1_96 M1_97 8 1 := hU_98.2.2.2
            have k_101 := hU_98.keep (r := 0) (by first | omega | simp | (simp; omega)) k_27
            have k_102 := hU_98.keep (r := 1) (by first | omega | simp | (simp; omega)) k_26
            have k_103 := hU_98.keep (r := 3) (by first | omega | simp | (simp; omega)) k_25
            have k_104 := hU_98.keep (r := 2) (by first | omega | simp | (simp; omega)) k_24
            have k_105 := hU_98.keep (r := 9) (by first | omega | simp | (simp; omega)) r_23
            have v_106 := (v_28.mono (T := [2, 3, 8, 9]) (by simp)).trans hU_98.rv (by simp)
            refine sw_iload (n := 255) F 2 rfl dX4_rounds_253 rfl ?_
            refine sw_if_eq (n := 258) F (by omega) (tgt := 265) dX4_rounds_255 (by decide) rfl (fun c_255 => ?_) (fun c_255 => ?_)
            ·
              exact sw_vret F rfl dX4_rounds_265 (by rw [hPo]; exact ⟨D1_96, M1_97, rfl, v_106, (by first | (rw [rnd_1 (by omega) (by omega)]; assumption) | (rw [rnd_2 (by omega)]; assumption)), (by first | rw [rfz_n (by omega)] | rw [rfz_1 (by omega) (by omega)])⟩)
            ·
              refine sw_aload_n (n := 259) F 0 (some o) rfl rfl rfl dX4_rounds_258 rfl ?_
              refine sw_iconst (n := 260) F (2) (by decide) dX4_rounds_259 rfl ?_
              refine sw_bipush (n := 262) F (8) (by decide) dX4_rounds_260 rfl ?_
              refine sw_callV (n := 265) F (ct_X4_plus (g := xg x) (l := xl x) o a (va_up z 2 1) D1_96 M1_97 2 8 (u / v) 1 (by first | assumption | omega) (by first | assumption | omega) (by first | assumption | omega) a_99 k_104 r_100 (by first | assumption | omega)) (rcv_ob F 0 (ci := 3) rfl rfl) q4012 q4014 qs73 q120 q4015 nd_X4_plus rfl (by decide) [0, 1, 2] rfl [] rfl 0 0 ⟨by omega, by omega⟩ [] rfl (Nat.le_of_ble_eq_true rfl) dX4_rounds_262 rfl (fun _ _ h => h.elim) (fun v Ws h => ?_)
              obtain ⟨D1_107, M1_108, rfl, hU_109, rfl⟩ := h
              show SW x [tmO (xg x) o a (va_up z 2 1), aN (xg x) 0 (a 0) 2400 D1_107, aN (xg x) 0 (a 1) 10 M1_108] _ _ _ _ []
              have a_110 := hU_109.1
              have r_111 : rok D1_107 M1_108 2 ((u / v) + 1) := hU_109.2.2.2
              have k_112 := hU_109.keep (r := 9) (by first | omega | simp | (simp; omega)) k_105
              have k_113 := hU_109.keep (r := 3) (by first | omega | simp | (simp; omega)) k_103
              have k_114 := hU_109.keep (r := 1) (by first | omega | simp | (simp; omega)) k_102
              have k_115 := hU_109.keep (r := 0) (by first | omega | simp | (simp; omega)) k_101
              have k_116 := hU_109.keep (r := 8) (by first | omega | simp | (simp; omega)) r_100
              have v_117 := (v_106.mono (T := [2, 3, 8, 9]) (by simp)).trans hU_109.rv (by simp)
              exact sw_vret F rfl dX4_rounds_265 (by rw [hPo]; exact ⟨D1_107, M1_108, rfl, v_117, (by first | (rw [rnd_1 (by omega) (by omega)]; assumption) | (rw [rnd_2 (by omega)]; assumption)), (by first | rw [rfz_n (by omega)] | rw [rfz_1 (by omega) (by omega)])⟩)
        ·
          exact sw_vret F rfl dX4_rounds_225 (by rw [hPo]; exact ⟨D1_19, M1_20, rfl, v_28, (by rw [rnd_0 (by omega)]; assumption), (by rw [rfz_0 (by omega), va_up_idI])⟩)
      by_cases c_46_99 : m = 99
      ·
        refine sw_tableIn F (99) (96) (tgt := 142) (by omega) c_46_99 dX4_rounds_46 (by decide) (by decide) (by decide) (by decide) ?_
        refine sw_iload_n (n := 143) F 1 rfl rfl dX4_rounds_142 rfl ?_
        refine sw_if_ne (n := 146) F (by omega) (tgt := 150) dX4_rounds_143 (by decide) rfl (fun c_143 => ?_) (fun c_143 => ?_)
        ·
          refine sw_iconst (n := 151) F (0) (by decide) dX4_rounds_150 rfl ?_
          refine sw_istore (n := 153) F (L2 := [(5, .int (jI 0)), (0, .ref o), (1, .int (jI neg)), (2, .int (jI m)), (3, .int (jI (cmpI ((u % v) + (u % v)) v))), (4, .int (jI od))]) rfl (by decide) dX4_rounds_151 rfl ?_
          refine sw_goto F (n := 216) dX4_rounds_153 (by decide) ?_
          refine sw_loc [1, 3, 0] (L2 := [(0, .ref o), (2, .int (jI m)), (5, .int (jI 0))]) rfl ?_
          exact K216 0 (by rw [show m = 99 by omega, upI_99]; omega)
        ·
          refine sw_iconst (n := 147) F (1) (by decide) dX4_rounds_146 rfl ?_
          refine sw_goto F (n := 151) dX4_rounds_147 (by decide) ?_
          refine sw_istore (n := 153) F (L2 := [(5, .int (jI 1)), (0, .ref o), (1, .int (jI neg)), (2, .int (jI m)), (3, .int (jI (cmpI ((u % v) + (u % v)) v))), (4, .int (jI od))]) rfl (by decide) dX4_rounds_151 rfl ?_
          refine sw_goto F (n := 216) dX4_rounds_153 (by decide) ?_
          refine sw_loc [1, 3, 0] (L2 := [(0, .ref o), (2, .int (jI m)), (5, .int (jI 1))]) rfl ?_
          exact K216 1 (by rw [show m = 99 by omega, upI_99]; omega)
      ·
        by_cases c_46_101 : m = 101
        ·
          refine sw_tableIn F (101) (144) (tgt := 190) (by omega) c_46_101 dX4_rounds_46 (by decide) (by decide) (by decide) (by decide) ?_
          refine sw_iload_n (n := 191) F 3 rfl rfl dX4_rounds_190 rfl ?_
          refine sw_if_gt (n := 194) F (by omega) (tgt := 203) dX4_rounds_191 (by decide) rfl (fun c_191 => ?_) (fun c_191 => ?_)
          ·
            refine sw_iconst (n := 204) F (1) (by decide) dX4_rounds_203 rfl ?_
            refine sw_goto F (n := 208) dX4_rounds_204 (by decide) ?_
            refine sw_istore (n := 210) F (L2 := [(5, .int (jI 1)), (0, .ref o), (1, .int (jI neg)), (2, .int (jI m)), (3, .int (jI (cmpI ((u % v) + (u % v)) v))), (4, .int (jI od))]) rfl (by decide) dX4_rounds_208 rfl ?_
            refine sw_goto F (n := 216) dX4_rounds_210 (by decide) ?_
            refine sw_loc [1, 3, 0] (L2 := [(0, .ref o), (2, .int (jI m)), (5, .int (jI 1))]) rfl ?_
            exact K216 1 (by rw [show m = 101 by omega, upI_101]; split <;> omega)
          ·
            refine sw_iload_n (n := 195) F 3 rfl rfl dX4_rounds_194 rfl ?_
            refine sw_if_ne (n := 198) F (by omega) (tgt := 207) dX4_rounds_195 (by decide) rfl (fun c_195 => ?_) (fun c_195 => ?_)
            ·
              refine sw_iconst (n := 208) F (0) (by decide) dX4_rounds_207 rfl ?_
              refine sw_istore (n := 210) F (L2 := [(5, .int (jI 0)), (0, .ref o), (1, .int (jI neg)), (2, .int (jI m)), (3, .int (jI (cmpI ((u % v) + (u % v)) v))), (4, .int (jI od))]) rfl (by decide) dX4_rounds_208 rfl ?_
              refine sw_goto F (n := 216) dX4_rounds_210 (by decide) ?_
              refine sw_loc [1, 3, 0] (L2 := [(0, .ref o), (2, .int (jI m)), (5, .int (jI 0))]) rfl ?_
              exact K216 0 (by rw [show m = 101 by omega, upI_101]; split <;> omega)
            ·
              refine sw_iload (n := 200) F 4 rfl dX4_rounds_198 rfl ?_
              refine sw_if_eq (n := 203) F (by omega) (tgt := 207) dX4_rounds_200 (by decide) rfl (fun c_200 => ?_) (fun c_200 => ?_)
              ·
                refine sw_iconst (n := 208) F (0) (by decide) dX4_rounds_207 rfl ?_
                refine sw_istore (n := 210) F (L2 := [(5, .int (jI 0)), (0, .ref o), (1, .int (jI neg)), (2, .int (jI m)), (3, .int (jI (cmpI ((u % v) + (u % v)) v))), (4, .int (jI od))]) rfl (by decide) dX4_rounds_208 rfl ?_
                refine sw_goto F (n := 216) dX4_rounds_210 (by decide) ?_
                refine sw_loc [1, 3, 0] (L2 := [(0, .ref o), (2, .int (jI m)), (5, .int (jI 0))]) rfl ?_
                exact K216 0 (by rw [show m = 101 by omega, upI_101]; split <;> omega)
              ·
                refine sw_iconst (n := 204) F (1) (by decide) dX4_rounds_203 rfl ?_
                refine sw_goto F (n := 208) dX4_rounds_204 (by decide) ?_
                refine sw_istore (n := 210) F (L2 := [(5, .int (jI 1)), (0, .ref o), (1, .int (jI neg)), (2, .int (jI m)), (3, .int (jI (cmpI ((u % v) + (u % v)) v))), (4, .int (jI od))]) rfl (by decide) dX4_rounds_208 rfl ?_
                refine sw_goto F (n := 216) dX4_rounds_210 (by decide) ?_
                refine sw_loc [1, 3, 0] (L2 := [(0, .ref o), (2, .int (jI m)), (5, .int (jI 1))]) rfl ?_
                exact K216 1 (by rw [show m = 101 by omega, upI_101]; split <;> omega)
        ·
          by_cases c_46_102 : m = 102
          ·
            refine sw_tableIn F (102) (110) (tgt := 156) (by omega) c_46_102 dX4_rounds_46 (by decide) (by decide) (by decide) (by decide) ?_
            refine sw_iload_n (n := 157) F 1 rfl rfl dX4_rounds_156 rfl ?_
            refine sw_istore (n := 159) F (L2 := [(5, .int (jI neg)), (0, .ref o), (1, .int (jI neg)), (2, .int (jI m)), (3, .int (jI (cmpI ((u % v) + (u % v)) v))), (4, .int (jI od))]) rfl (by decide) dX4_rounds_157 rfl ?_
            refine sw_goto F (n := 216) dX4_rounds_159 (by decide) ?_
            refine sw_loc [1, 3, 0] (L2 := [(0, .ref o), (2, .int (jI m)), (5, .int (jI neg))]) rfl ?_
            exact K216 neg (by rw [show m = 102 by omega, upI_102])
          ·
            by_cases c_46_104 : m = 104
            ·
              refine sw_tableIn F (104) (116) (tgt := 162) (by omega) c_46_104 dX4_rounds_46 (by decide) (by decide) (by decide) (by decide) ?_
              refine sw_iload_n (n := 163) F 3 rfl rfl dX4_rounds_162 rfl ?_
              refine sw_if_lt (n := 166) F (by omega) (tgt := 170) dX4_rounds_163 (by decide) rfl (fun c_163 => ?_) (fun c_163 => ?_)
              ·
                refine sw_iconst (n := 171) F (0) (by decide) dX4_rounds_170 rfl ?_
                refine sw_istore (n := 173) F (L2 := [(5, .int (jI 0)), (0, .ref o), (1, .int (jI neg)), (2, .int (jI m)), (3, .int (jI (cmpI ((u % v) + (u % v)) v))), (4, .int (jI od))]) rfl (by decide) dX4_rounds_171 rfl ?_
                refine sw_goto F (n := 216) dX4_rounds_173 (by decide) ?_
                refine sw_loc [1, 3, 0] (L2 := [(0, .ref o), (2, .int (jI m)), (5, .int (jI 0))]) rfl ?_
                exact K216 0 (by rw [show m = 104 by omega, upI_104]; split <;> omega)
              ·
                refine sw_iconst (n := 167) F (1) (by decide) dX4_rounds_166 rfl ?_
                refine sw_goto F (n := 171) dX4_rounds_167 (by decide) ?_
                refine sw_istore (n := 173) F (L2 := [(5, .int (jI 1)), (0, .ref o), (1, .int (jI neg)), (2, .int (jI m)), (3, .int (jI (cmpI ((u % v) + (u % v)) v))), (4, .int (jI od))]) rfl (by decide) dX4_rounds_171 rfl ?_
                refine sw_goto F (n := 216) dX4_rounds_173 (by decide) ?_
                refine sw_loc [1, 3, 0] (L2 := [(0, .ref o), (2, .int (jI m)), (5, .int (jI 1))]) rfl ?_
                exact K216 1 (by rw [show m = 104 by omega, upI_104]; split <;> omega)
            ·
              by_cases c_46_108 : m = 108
              ·
                refine sw_tableIn F (108) (130) (tgt := 176) (by omega) c_46_108 dX4_rounds_46 (by decide) (by decide) (by decide) (by decide) ?_
                refine sw_iload_n (n := 177) F 3 rfl rfl dX4_rounds_176 rfl ?_
                refine sw_if_le (n := 180) F (by omega) (tgt := 184) dX4_rounds_177 (by decide) rfl (fun c_177 => ?_) (fun c_177 => ?_)
                ·
                  refine sw_iconst (n := 185) F (0) (by decide) dX4_rounds_184 rfl ?_
                  refine sw_istore (n := 187) F (L2 := [(5, .int (jI 0)), (0, .ref o), (1, .int (jI neg)), (2, .int (jI m)), (3, .int (jI (cmpI ((u % v) + (u % v)) v))), (4, .int (jI od))]) rfl (by decide) dX4_rounds_185 rfl ?_
                  refine sw_goto F (n := 216) dX4_rounds_187 (by decide) ?_
                  refine sw_loc [1, 3, 0] (L2 := [(0, .ref o), (2, .int (jI m)), (5, .int (jI 0))]) rfl ?_
                  exact K216 0 (by rw [show m = 108 by omega, upI_108]; split <;> omega)
                ·
                  refine sw_iconst (n := 181) F (1) (by decide) dX4_rounds_180 rfl ?_
                  refine sw_goto F (n := 185) dX4_rounds_181 (by decide) ?_
                  refine sw_istore (n := 187) F (L2 := [(5, .int (jI 1)), (0, .ref o), (1, .int (jI neg)), (2, .int (jI m)), (3, .int (jI (cmpI ((u % v) + (u % v)) v))), (4, .int (jI od))]) rfl (by decide) dX4_rounds_185 rfl ?_
                  refine sw_goto F (n := 216) dX4_rounds_187 (by decide) ?_
                  refine sw_loc [1, 3, 0] (L2 := [(0, .ref o), (2, .int (jI m)), (5, .int (jI 1))]) rfl ?_
                  exact K216 1 (by rw [show m = 108 by omega, upI_108]; split <;> omega)
              ·
                by_cases c_46_117 : m = 117
                ·
                  refine sw_tableIn F (117) (90) (tgt := 136) (by omega) c_46_117 dX4_rounds_46 (by decide) (by decide) (by decide) (by decide) ?_
                  refine sw_iconst (n := 137) F (1) (by decide) dX4_rounds_136 rfl ?_
                  refine sw_istore (n := 139) F (L2 := [(5, .int (jI 1)), (0, .ref o), (1, .int (jI neg)), (2, .int (jI m)), (3, .int (jI (cmpI ((u % v) + (u % v)) v))), (4, .int (jI od))]) rfl (by decide) dX4_rounds_137 rfl ?_
                  refine sw_goto F (n := 216) dX4_rounds_139 (by decide) ?_
                  refine sw_loc [1, 3, 0] (L2 := [(0, .ref o), (2, .int (jI m)), (5, .int (jI 1))]) rfl ?_
                  exact K216 1 (by rw [show m = 117 by omega, upI_117])
                ·
                  by_cases c_46_100 : m = 100
                  ·
                    refine sw_tableIn F (100) (167) (tgt := 213) (by omega) c_46_100 dX4_rounds_46 (by decide) (by decide) (by decide) (by decide) ?_
                    refine sw_iconst (n := 214) F (0) (by decide) dX4_rounds_213 rfl ?_
                    refine sw_istore (n := 216) F (L2 := [(5, .int (jI 0)), (0, .ref o), (1, .int (jI neg)), (2, .int (jI m)), (3, .int (jI (cmpI ((u % v) + (u % v)) v))), (4, .int (jI od))]) rfl (by decide) dX4_rounds_214 rfl ?_
                    refine sw_loc [1, 3, 0] (L2 := [(0, .ref o), (2, .int (jI m)), (5, .int (jI 0))]) rfl ?_
                    exact K216 0 (by rw [upI_d (by omega)])
                  ·
                    by_cases c_46_103 : m = 103
                    ·
                      refine sw_tableIn F (103) (167) (tgt := 213) (by omega) c_46_103 dX4_rounds_46 (by decide) (by decide) (by decide) (by decide) ?_
                      refine sw_iconst (n := 214) F (0) (by decide) dX4_rounds_213 rfl ?_
                      refine sw_istore (n := 216) F (L2 := [(5, .int (jI 0)), (0, .ref o), (1, .int (jI neg)), (2, .int (jI m)), (3, .int (jI (cmpI ((u % v) + (u % v)) v))), (4, .int (jI od))]) rfl (by decide) dX4_rounds_214 rfl ?_
                      refine sw_loc [1, 3, 0] (L2 := [(0, .ref o), (2, .int (jI m)), (5, .int (jI 0))]) rfl ?_
                      exact K216 0 (by rw [upI_d (by omega)])
                    ·
                      by_cases c_46_105 : m = 105
                      ·
                        refine sw_tableIn F (105) (167) (tgt := 213) (by omega) c_46_105 dX4_rounds_46 (by decide) (by decide) (by decide) (by decide) ?_
                        refine sw_iconst (n := 214) F (0) (by decide) dX4_rounds_213 rfl ?_
                        refine sw_istore (n := 216) F (L2 := [(5, .int (jI 0)), (0, .ref o), (1, .int (jI neg)), (2, .int (jI m)), (3, .int (jI (cmpI ((u % v) + (u % v)) v))), (4, .int (jI od))]) rfl (by decide) dX4_rounds_214 rfl ?_
                        refine sw_loc [1, 3, 0] (L2 := [(0, .ref o), (2, .int (jI m)), (5, .int (jI 0))]) rfl ?_
                        exact K216 0 (by rw [upI_d (by omega)])
                      ·
                        by_cases c_46_106 : m = 106
                        ·
                          refine sw_tableIn F (106) (167) (tgt := 213) (by omega) c_46_106 dX4_rounds_46 (by decide) (by decide) (by decide) (by decide) ?_
                          refine sw_iconst (n := 214) F (0) (by decide) dX4_rounds_213 rfl ?_
                          refine sw_istore (n := 216) F (L2 := [(5, .int (jI 0)), (0, .ref o), (1, .int (jI neg)), (2, .int (jI m)), (3, .int (jI (cmpI ((u % v) + (u % v)) v))), (4, .int (jI od))]) rfl (by decide) dX4_rounds_214 rfl ?_
                          refine sw_loc [1, 3, 0] (L2 := [(0, .ref o), (2, .int (jI m)), (5, .int (jI 0))]) rfl ?_
                          exact K216 0 (by rw [upI_d (by omega)])
                        ·
                          by_cases c_46_107 : m = 107
                          ·
                            refine sw_tableIn F (107) (167) (tgt := 213) (by omega) c_46_107 dX4_rounds_46 (by decide) (by decide) (by decide) (by decide) ?_
                            refine sw_iconst (n := 214) F (0) (by decide) dX4_rounds_213 rfl ?_
                            refine sw_istore (n := 216) F (L2 := [(5, .int (jI 0)), (0, .ref o), (1, .int (jI neg)), (2, .int (jI m)), (3, .int (jI (cmpI ((u % v) + (u % v)) v))), (4, .int (jI od))]) rfl (by decide) dX4_rounds_214 rfl ?_
                            refine sw_loc [1, 3, 0] (L2 := [(0, .ref o), (2, .int (jI m)), (5, .int (jI 0))]) rfl ?_
                            exact K216 0 (by rw [upI_d (by omega)])
                          ·
                            by_cases c_46_109 : m = 109
                            ·
                              refine sw_tableIn F (109) (167) (tgt := 213) (by omega) c_46_109 dX4_rounds_46 (by decide) (by decide) (by decide) (by decide) ?_
                              refine sw_iconst (n := 214) F (0) (by decide) dX4_rounds_213 rfl ?_
                              refine sw_istore (n := 216) F (L2 := [(5, .int (jI 0)), (0, .ref o), (1, .int (jI neg)), (2, .int (jI m)), (3, .int (jI (cmpI ((u % v) + (u % v)) v))), (4, .int (jI od))]) rfl (by decide) dX4_rounds_214 rfl ?_
                              refine sw_loc [1, 3, 0] (L2 := [(0, .ref o), (2, .int (jI m)), (5, .int (jI 0))]) rfl ?_
                              exact K216 0 (by rw [upI_d (by omega)])
                            ·
                              by_cases c_46_110 : m = 110
                              ·
                                refine sw_tableIn F (110) (167) (tgt := 213) (by omega) c_46_110 dX4_rounds_46 (by decide) (by decide) (by decide) (by decide) ?_
                                refine sw_iconst (n := 214) F (0) (by decide) dX4_rounds_213 rfl ?_
                                refine sw_istore (n := 216) F (L2 := [(5, .int (jI 0)), (0, .ref o), (1, .int (jI neg)), (2, .int (jI m)), (3, .int (jI (cmpI ((u % v) + (u % v)) v))), (4, .int (jI od))]) rfl (by decide) dX4_rounds_214 rfl ?_
                                refine sw_loc [1, 3, 0] (L2 := [(0, .ref o), (2, .int (jI m)), (5, .int (jI 0))]) rfl ?_
                                exact K216 0 (by rw [upI_d (by omega)])
                              ·
                                by_cases c_46_111 : m = 111
                                ·
                                  refine sw_tableIn F (111) (167) (tgt := 213) (by omega) c_46_111 dX4_rounds_46 (by decide) (by decide) (by decide) (by decide) ?_
                                  refine sw_iconst (n := 214) F (0) (by decide) dX4_rounds_213 rfl ?_
                                  refine sw_istore (n := 216) F (L2 := [(5, .int (jI 0)), (0, .ref o), (1, .int (jI neg)), (2, .int (jI m)), (3, .int (jI (cmpI ((u % v) + (u % v)) v))), (4, .int (jI od))]) rfl (by decide) dX4_rounds_214 rfl ?_
                                  refine sw_loc [1, 3, 0] (L2 := [(0, .ref o), (2, .int (jI m)), (5, .int (jI 0))]) rfl ?_
                                  exact K216 0 (by rw [upI_d (by omega)])
                                ·
                                  by_cases c_46_112 : m = 112
                                  ·
                                    refine sw_tableIn F (112) (167) (tgt := 213) (by omega) c_46_112 dX4_rounds_46 (by decide) (by decide) (by decide) (by decide) ?_
                                    refine sw_iconst (n := 214) F (0) (by decide) dX4_rounds_213 rfl ?_
                                    refine sw_istore (n := 216) F (L2 := [(5, .int (jI 0)), (0, .ref o), (1, .int (jI neg)), (2, .int (jI m)), (3, .int (jI (cmpI ((u % v) + (u % v)) v))), (4, .int (jI od))]) rfl (by decide) dX4_rounds_214 rfl ?_
                                    refine sw_loc [1, 3, 0] (L2 := [(0, .ref o), (2, .int (jI m)), (5, .int (jI 0))]) rfl ?_
                                    exact K216 0 (by rw [upI_d (by omega)])
                                  ·
                                    by_cases c_46_113 : m = 113
                                    ·
                                      refine sw_tableIn F (113) (167) (tgt := 213) (by omega) c_46_113 dX4_rounds_46 (by decide) (by decide) (by decide) (by decide) ?_
                                      refine sw_iconst (n := 214) F (0) (by decide) dX4_rounds_213 rfl ?_
                                      refine sw_istore (n := 216) F (L2 := [(5, .int (jI 0)), (0, .ref o), (1, .int (jI neg)), (2, .int (jI m)), (3, .int (jI (cmpI ((u % v) + (u % v)) v))), (4, .int (jI od))]) rfl (by decide) dX4_rounds_214 rfl ?_
                                      refine sw_loc [1, 3, 0] (L2 := [(0, .ref o), (2, .int (jI m)), (5, .int (jI 0))]) rfl ?_
                                      exact K216 0 (by rw [upI_d (by omega)])
                                    ·
                                      by_cases c_46_114 : m = 114
                                      ·
                                        refine sw_tableIn F (114) (167) (tgt := 213) (by omega) c_46_114 dX4_rounds_46 (by decide) (by decide) (by decide) (by decide) ?_
                                        refine sw_iconst (n := 214) F (0) (by decide) dX4_rounds_213 rfl ?_
                                        refine sw_istore (n := 216) F (L2 := [(5, .int (jI 0)), (0, .ref o), (1, .int (jI neg)), (2, .int (jI m)), (3, .int (jI (cmpI ((u % v) + (u % v)) v))), (4, .int (jI od))]) rfl (by decide) dX4_rounds_214 rfl ?_
                                        refine sw_loc [1, 3, 0] (L2 := [(0, .ref o), (2, .int (jI m)), (5, .int (jI 0))]) rfl ?_
                                        exact K216 0 (by rw [upI_d (by omega)])
                                      ·
                                        by_cases c_46_115 : m = 115
                                        ·
                                          refine sw_tableIn F (115) (167) (tgt := 213) (by omega) c_46_115 dX4_rounds_46 (by decide) (by decide) (by decide) (by decide) ?_
                                          refine sw_iconst (n := 214) F (0) (by decide) dX4_rounds_213 rfl ?_
                                          refine sw_istore (n := 216) F (L2 := [(5, .int (jI 0)), (0, .ref o), (1, .int (jI neg)), (2, .int (jI m)), (3, .int (jI (cmpI ((u % v) + (u % v)) v))), (4, .int (jI od))]) rfl (by decide) dX4_rounds_214 rfl ?_
                                          refine sw_loc [1, 3, 0] (L2 := [(0, .ref o), (2, .int (jI m)), (5, .int (jI 0))]) rfl ?_
                                          exact K216 0 (by rw [upI_d (by omega)])
                                        ·
                                          by_cases c_46_116 : m = 116
                                          ·
                                            refine sw_tableIn F (116) (167) (tgt := 213) (by omega) c_46_116 dX4_rounds_46 (by decide) (by decide) (by decide) (by decide) ?_
                                            refine sw_iconst (n := 214) F (0) (by decide) dX4_rounds_213 rfl ?_
                                            refine sw_istore (n := 216) F (L2 := [(5, .int (jI 0)), (0, .ref o), (1, .int (jI neg)), (2, .int (jI m)), (3, .int (jI (cmpI ((u % v) + (u % v)) v))), (4, .int (jI od))]) rfl (by decide) dX4_rounds_214 rfl ?_
                                            refine sw_loc [1, 3, 0] (L2 := [(0, .ref o), (2, .int (jI m)), (5, .int (jI 0))]) rfl ?_
                                            exact K216 0 (by rw [upI_d (by omega)])
                                          ·
                                            refine sw_tableOut F (tgt := 213) (by omega) dX4_rounds_46 (by omega) (by decide) ?_
                                            refine sw_iconst (n := 214) F (0) (by decide) dX4_rounds_213 rfl ?_
                                            refine sw_istore (n := 216) F (L2 := [(5, .int (jI 0)), (0, .ref o), (1, .int (jI neg)), (2, .int (jI m)), (3, .int (jI (cmpI ((u % v) + (u % v)) v))), (4, .int (jI od))]) rfl (by decide) dX4_rounds_214 rfl ?_
                                            refine sw_loc [1, 3, 0] (L2 := [(0, .ref o), (2, .int (jI m)), (5, .int (jI 0))]) rfl ?_
                                            exact K216 0 (by rw [upI_d (by omega)])
    refine sw_loc [2, 3, 4, 1, 0] (L2 := [(0, .ref o), (1, .int (jI neg)), (2, .int (jI m)), (3, .int (jI (cmpI ((u % v) + (u % v)) v))), (4, .int (jI 1))]) rfl ?_
    exact K45 1 (by omega)
