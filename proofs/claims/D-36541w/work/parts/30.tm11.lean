def up4 (c : Int) (z : Nat → Int) (k : Nat) (v : Int) : Nat → Int := if c = 0 ∨ c = 4 then va_up z k v else z
theorem up4_0 (z : Nat → Int) (k : Nat) (v : Int) : up4 0 z k v = va_up z k v := rfl
theorem up4_1 (z : Nat → Int) (k : Nat) (v : Int) : up4 1 z k v = z := rfl
theorem up4_2 (z : Nat → Int) (k : Nat) (v : Int) : up4 2 z k v = z := rfl
theorem up4_3 (z : Nat → Int) (k : Nat) (v : Int) : up4 3 z k v = z := rfl
theorem up4_4 (z : Nat → Int) (k : Nat) (v : Int) : up4 4 z k v = va_up z k v := rfl
theorem up1_00 {α : Type} (f : Nat → α) (k : Nat) (v : α) : up1 0 f k v = f := rfl
theorem up1_11 {α : Type} (f : Nat → α) (k : Nat) (v : α) : up1 1 f k v = va_up f k v := rfl
theorem up_828 (z : Nat → Int) (a b c : Int) : va_up (va_up (va_up z 8 a) 2 b) 8 c = va_up (va_up z 2 b) 8 c := by funext j; unfold va_up; split <;> rfl
theorem rfz_01 (m : Int) (u v : Nat) : rfz m u v 0 = 0 ∨ rfz m u v 0 = 1 := by unfold rfz; split <;> omega
theorem sgn_na (neg : Int) (n : Nat) : (sgn neg n).natAbs = n := by unfold sgn; split <;> omega
theorem bl_1 {v : Int} (h : v < 0) : bl v = 1 := if_pos h
theorem bl_0 {v : Int} (h : 0 ≤ v) : bl v = 0 := if_neg (by omega)
theorem rng_la {r t : Nat} {sc neg : Int} {N : Nat → Int} (h : laI r sc ≠ 0) : -9223372036854775808 ≤ up1 (laI r sc) N t (sgn neg r) t ∧ up1 (laI r sc) N t (sgn neg r) t ≤ 9223372036854775807 := by
  have h1 : laI r sc = 1 := by have := laI_cases r sc; omega
  have h2 : r < 10 ^ 18 := by unfold laI at h1; split at h1; (rename_i c; exact c.1); exact absurd h1 (by decide)
  rw [show (10:Nat)^18 = 1000000000000000000 from by decide] at h2
  rw [h1, up1_11, va_up_self]; unfold sgn; split <;> omega
def ssC (s t sc m : Int) (H : Nat → Int) (r : Nat) (rf : Int) : Int := if s < 0 ∨ 11 < s ∨ t < 0 ∨ 11 < t then 1 else if sc < -18 ∨ 36 < sc ∨ mdI m = 0 then 2 else if H s.toNat = 0 then 3 else if rf = 1 ∨ laI r sc = 0 then 4 else 0
theorem nd_X4_setScale : yX4_setScale.cls ≠ "java/lang/invoke/MethodHandle" ∧ yX4_setScale.cls ≠ "java/lang/invoke/VarHandle" ∧ (parseMethodDescriptor yX4_setScale.desc).map (fun d => d.parameters.length) = some 4 := by decide +kernel
set_option maxRecDepth 100000 in
set_option maxHeartbeats 1000000 in
theorem ct_X4_setScale {g : GG} {l : Launch} (o : Nat) (a : Nat → Nat) (z : Nat → Int) (D : Nat → Nat) (M : Nat → Nat) (N : Nat → Int) (Sc : Nat → Int) (Hs : Nat → Int) (s : Int) (sc : Int) (m : Int) (t : Int) (hs : -2147483648 ≤ s ∧ s ≤ 2147483647) (hsc : -2147483648 ≤ sc ∧ sc ≤ 2147483647) (hm : 0 ≤ m ∧ m ≤ 65535) (ht : -2147483648 ≤ t ∧ t ≤ 2147483647) (hA : Dok D M) (hN : NB N) (hSc : SB Sc) (hB : HB Hs) : Ct g l yX4_setScale (ws_ yX4_setScale cX4_setScale 5 (Option.some Jvm.ClassFile.FieldType.int)) 7 150 0 0 [.ref o, .int (jI s), .int (jI sc), .int (jI m), .int (jI t)] [tmO g o a z, aN g 0 (a 0) 2400 D, aN g 0 (a 1) 10 M, aL g (a 3) 12 N, aI g 0 (a 4) 12 Sc, aI g 4 (a 5) 12 Hs] (fun v9 Ws9 => ∃ D1 : Nat → Nat, ∃ M1 : Nat → Nat, v9 = some (.int (jI (if0 (ssC s t sc m Hs (rnd m (bl (N s.toNat)) ((N s.toNat).natAbs * 10 ^ (sc - Sc s.toNat).toNat) (1 * 10 ^ (Sc s.toNat - sc).toNat)) (rfz m ((N s.toNat).natAbs * 10 ^ (sc - Sc s.toNat).toNat) (1 * 10 ^ (Sc s.toNat - sc).toNat) 0)) ↑(dgc (rnd m (bl (N s.toNat)) ((N s.toNat).natAbs * 10 ^ (sc - Sc s.toNat).toNat) (1 * 10 ^ (Sc s.toNat - sc).toNat)))))) ∧ (RV [0, 1, 2, 3, 8, 9] D M D1 M1) ∧ Ws9 = [tmO g o a (va_up (up4 (ssC s t sc m Hs (rnd m (bl (N s.toNat)) ((N s.toNat).natAbs * 10 ^ (sc - Sc s.toNat).toNat) (1 * 10 ^ (Sc s.toNat - sc).toNat)) (rfz m ((N s.toNat).natAbs * 10 ^ (sc - Sc s.toNat).toNat) (1 * 10 ^ (Sc s.toNat - sc).toNat) 0)) z 2 (rfz m ((N s.toNat).natAbs * 10 ^ (sc - Sc s.toNat).toNat) (1 * 10 ^ (Sc s.toNat - sc).toNat) 0)) 8 (ssC s t sc m Hs (rnd m (bl (N s.toNat)) ((N s.toNat).natAbs * 10 ^ (sc - Sc s.toNat).toNat) (1 * 10 ^ (Sc s.toNat - sc).toNat)) (rfz m ((N s.toNat).natAbs * 10 ^ (sc - Sc s.toNat).toNat) (1 * 10 ^ (Sc s.toNat - sc).toNat) 0))), aN g 0 (a 0) 2400 D1, aN g 0 (a 1) 10 M1, aL g (a 3) 12 (up0 (ssC s t sc m Hs (rnd m (bl (N s.toNat)) ((N s.toNat).natAbs * 10 ^ (sc - Sc s.toNat).toNat) (1 * 10 ^ (Sc s.toNat - sc).toNat)) (rfz m ((N s.toNat).natAbs * 10 ^ (sc - Sc s.toNat).toNat) (1 * 10 ^ (Sc s.toNat - sc).toNat) 0)) N t.toNat (sgn (bl (N s.toNat)) (rnd m (bl (N s.toNat)) ((N s.toNat).natAbs * 10 ^ (sc - Sc s.toNat).toNat) (1 * 10 ^ (Sc s.toNat - sc).toNat)))), aI g 0 (a 4) 12 (up0 (ssC s t sc m Hs (rnd m (bl (N s.toNat)) ((N s.toNat).natAbs * 10 ^ (sc - Sc s.toNat).toNat) (1 * 10 ^ (Sc s.toNat - sc).toNat)) (rfz m ((N s.toNat).natAbs * 10 ^ (sc - Sc s.toNat).toNat) (1 * 10 ^ (Sc s.toNat - sc).toNat) 0)) Sc t.toNat sc), aI g 4 (a 5) 12 (up0 (ssC s t sc m Hs (rnd m (bl (N s.toNat)) ((N s.toNat).natAbs * 10 ^ (sc - Sc s.toNat).toNat) (1 * 10 ^ (Sc s.toNat - sc).toNat)) (rfz m ((N s.toNat).natAbs * 10 ^ (sc - Sc s.toNat).toNat) (1 * 10 ^ (Sc s.toNat - sc).toNat) 0)) Hs t.toNat 1)]) (nox) := by
  refine Ct.of (cc := cX4_setScale) (nL := 5) (ret := (Option.some Jvm.ClassFile.FieldType.int)) (by decide) rfl (Nat.le_of_ble_eq_true rfl) ?_
  intro x hg hl hPo hPx hmc hms F
  subst hg; subst hl
  refine SW.cast (L' := [(0, .ref o), (1, .int (jI s)), (2, .int (jI sc)), (3, .int (jI m)), (4, .int (jI t))]) ?_ rfl rfl rfl
  have hq1 := hB s.toNat
  have hn := hN s.toNat
  have hss := hSc s.toNat
  have hmd := mdI_cases m
  refine sw_aload_n (n := 1) F 0 (some o) rfl rfl rfl dX4_setScale_0 rfl ?_
  refine sw_iload_n (n := 2) F 1 rfl rfl dX4_setScale_1 rfl ?_
  refine sw_callS (n := 5) F (ct_X4_isShelf (g := xg x) (l := xl x) s hs) q3959 q3960 q120 q3961 nd_X4_isShelf rfl (by decide) [0, 1, 2, 3, 4, 5] rfl [tmO (xg x) o a z, aN (xg x) 0 (a 0) 2400 D, aN (xg x) 0 (a 1) 10 M, aL (xg x) (a 3) 12 N, aI (xg x) 0 (a 4) 12 Sc, aI (xg x) 4 (a 5) 12 Hs] rfl 0 0 ⟨by omega, by omega⟩ [.ref o] rfl (Nat.le_of_ble_eq_true rfl) dX4_setScale_2 rfl (fun _ _ h => h.elim) (fun v Ws h => ?_)
  obtain ⟨rfl, hs_1, rfl⟩ := h
  show SW x [tmO (xg x) o a z, aN (xg x) 0 (a 0) 2400 D, aN (xg x) 0 (a 1) 10 M, aL (xg x) (a 3) 12 N, aI (xg x) 0 (a 4) 12 Sc, aI (xg x) 4 (a 5) 12 Hs] _ _ _ _ [.int (jI (inI s 0 11)), .ref o]
  refine sw_if_eq (n := 8) F (by omega) (tgt := 16) dX4_setScale_5 (by decide) rfl (fun c_5 => ?_) (fun c_5 => ?_)
  ·
    refine sw_iconst (n := 17) F (1) (by decide) dX4_setScale_16 rfl ?_
    refine sw_goto F (n := 52) dX4_setScale_17 (by decide) ?_
    refine sw_callV (n := 55) F (ct_X4_fails (g := xg x) (l := xl x) o a z 1 (by first | assumption | omega)) (rcv_ob F 0 (ci := 3) rfl rfl) q3973 q3975 qs68 q120 q3976 nd_X4_fails rfl (by decide) [0, 1, 2, 3, 4, 5] rfl [aN (xg x) 0 (a 0) 2400 D, aN (xg x) 0 (a 1) 10 M, aL (xg x) (a 3) 12 N, aI (xg x) 0 (a 4) 12 Sc, aI (xg x) 4 (a 5) 12 Hs] rfl 0 0 ⟨by omega, by omega⟩ [] rfl (Nat.le_of_ble_eq_true rfl) dX4_setScale_52 rfl (fun _ _ h => h.elim) (fun v Ws h => ?_)
    obtain ⟨rfl, hps_2, rfl⟩ := h
    show SW x [tmO (xg x) o a (va_up z 8 1), aN (xg x) 0 (a 0) 2400 D, aN (xg x) 0 (a 1) 10 M, aL (xg x) (a 3) 12 N, aI (xg x) 0 (a 4) 12 Sc, aI (xg x) 4 (a 5) 12 Hs] _ _ _ _ [.int (jI 1)]
    refine sw_if_eq (n := 58) F (by decide) (tgt := 60) dX4_setScale_55 (by decide) rfl (fun c_55 => ?_) (fun c_55 => ?_)
    · exfalso; exact absurd c_55 (by decide)
    ·
      refine sw_iconst (n := 59) F (0) (by decide) dX4_setScale_58 rfl ?_
      have e : ssC s t sc m Hs (rnd m (bl (N s.toNat)) ((N s.toNat).natAbs * 10 ^ (sc - Sc s.toNat).toNat) (1 * 10 ^ (Sc s.toNat - sc).toNat)) (rfz m ((N s.toNat).natAbs * 10 ^ (sc - Sc s.toNat).toNat) (1 * 10 ^ (Sc s.toNat - sc).toNat) 0) = 1 := by unfold ssC; (repeat' split) <;> omega
      exact sw_iret F _ rfl (by first | rfl | exact jI_nz (by omega) | exact jI_nc (by omega)) dX4_setScale_59 (by rw [hPo]; exact ⟨D, M, (by rw [e]; first | rfl | (rw [if0_0, l1, up1_11, va_up_self, sgn_na])), (by exact (RV.rf hA).mono (S := []) (by simp)), (by simp only [e, up0_1, up4_1, up_828])⟩)
  ·
    refine sw_iload (n := 10) F 4 rfl dX4_setScale_8 rfl ?_
    refine sw_callS (n := 13) F (ct_X4_isShelf (g := xg x) (l := xl x) t ht) q3959 q3960 q120 q3961 nd_X4_isShelf rfl (by decide) [0, 1, 2, 3, 4, 5] rfl [tmO (xg x) o a z, aN (xg x) 0 (a 0) 2400 D, aN (xg x) 0 (a 1) 10 M, aL (xg x) (a 3) 12 N, aI (xg x) 0 (a 4) 12 Sc, aI (xg x) 4 (a 5) 12 Hs] rfl 0 0 ⟨by omega, by omega⟩ [.ref o] rfl (Nat.le_of_ble_eq_true rfl) dX4_setScale_10 rfl (fun _ _ h => h.elim) (fun v Ws h => ?_)
    obtain ⟨rfl, hs_3, rfl⟩ := h
    show SW x [tmO (xg x) o a z, aN (xg x) 0 (a 0) 2400 D, aN (xg x) 0 (a 1) 10 M, aL (xg x) (a 3) 12 N, aI (xg x) 0 (a 4) 12 Sc, aI (xg x) 4 (a 5) 12 Hs] _ _ _ _ [.int (jI (inI t 0 11)), .ref o]
    refine sw_if_ne (n := 16) F (by omega) (tgt := 20) dX4_setScale_13 (by decide) rfl (fun c_13 => ?_) (fun c_13 => ?_)
    ·
      refine sw_iload_n (n := 21) F 2 rfl rfl dX4_setScale_20 rfl ?_
      refine sw_callS (n := 24) F (ct_X4_isScale (g := xg x) (l := xl x) sc hsc) q3966 q3967 q120 q3968 nd_X4_isScale rfl (by decide) [0, 1, 2, 3, 4, 5] rfl [tmO (xg x) o a z, aN (xg x) 0 (a 0) 2400 D, aN (xg x) 0 (a 1) 10 M, aL (xg x) (a 3) 12 N, aI (xg x) 0 (a 4) 12 Sc, aI (xg x) 4 (a 5) 12 Hs] rfl 0 0 ⟨by omega, by omega⟩ [.ref o] rfl (Nat.le_of_ble_eq_true rfl) dX4_setScale_21 rfl (fun _ _ h => h.elim) (fun v Ws h => ?_)
      obtain ⟨rfl, hs_4, rfl⟩ := h
      show SW x [tmO (xg x) o a z, aN (xg x) 0 (a 0) 2400 D, aN (xg x) 0 (a 1) 10 M, aL (xg x) (a 3) 12 N, aI (xg x) 0 (a 4) 12 Sc, aI (xg x) 4 (a 5) 12 Hs] _ _ _ _ [.int (jI (inI sc (-18) 36)), .ref o]
      refine sw_if_eq (n := 27) F (by omega) (tgt := 34) dX4_setScale_24 (by decide) rfl (fun c_24 => ?_) (fun c_24 => ?_)
      ·
        refine sw_iconst (n := 35) F (2) (by decide) dX4_setScale_34 rfl ?_
        refine sw_goto F (n := 52) dX4_setScale_35 (by decide) ?_
        refine sw_callV (n := 55) F (ct_X4_fails (g := xg x) (l := xl x) o a z 2 (by first | assumption | omega)) (rcv_ob F 0 (ci := 3) rfl rfl) q3973 q3975 qs68 q120 q3976 nd_X4_fails rfl (by decide) [0, 1, 2, 3, 4, 5] rfl [aN (xg x) 0 (a 0) 2400 D, aN (xg x) 0 (a 1) 10 M, aL (xg x) (a 3) 12 N, aI (xg x) 0 (a 4) 12 Sc, aI (xg x) 4 (a 5) 12 Hs] rfl 0 0 ⟨by omega, by omega⟩ [] rfl (Nat.le_of_ble_eq_true rfl) dX4_setScale_52 rfl (fun _ _ h => h.elim) (fun v Ws h => ?_)
        obtain ⟨rfl, hps_5, rfl⟩ := h
        show SW x [tmO (xg x) o a (va_up z 8 2), aN (xg x) 0 (a 0) 2400 D, aN (xg x) 0 (a 1) 10 M, aL (xg x) (a 3) 12 N, aI (xg x) 0 (a 4) 12 Sc, aI (xg x) 4 (a 5) 12 Hs] _ _ _ _ [.int (jI 1)]
        refine sw_if_eq (n := 58) F (by decide) (tgt := 60) dX4_setScale_55 (by decide) rfl (fun c_55 => ?_) (fun c_55 => ?_)
        · exfalso; exact absurd c_55 (by decide)
        ·
          refine sw_iconst (n := 59) F (0) (by decide) dX4_setScale_58 rfl ?_
          have e : ssC s t sc m Hs (rnd m (bl (N s.toNat)) ((N s.toNat).natAbs * 10 ^ (sc - Sc s.toNat).toNat) (1 * 10 ^ (Sc s.toNat - sc).toNat)) (rfz m ((N s.toNat).natAbs * 10 ^ (sc - Sc s.toNat).toNat) (1 * 10 ^ (Sc s.toNat - sc).toNat) 0) = 2 := by unfold ssC; (repeat' split) <;> omega
          exact sw_iret F _ rfl (by first | rfl | exact jI_nz (by omega) | exact jI_nc (by omega)) dX4_setScale_59 (by rw [hPo]; exact ⟨D, M, (by rw [e]; first | rfl | (rw [if0_0, l1, up1_11, va_up_self, sgn_na])), (by exact (RV.rf hA).mono (S := []) (by simp)), (by simp only [e, up0_2, up4_2, up_828])⟩)
      ·
        refine sw_iload_n (n := 28) F 3 rfl rfl dX4_setScale_27 rfl ?_
        refine sw_callS (n := 31) F (ct_X4_isMode (g := xg x) (l := xl x) m hm) q4116 q4117 q120 q4118 nd_X4_isMode rfl (by decide) [0, 1, 2, 3, 4, 5] rfl [tmO (xg x) o a z, aN (xg x) 0 (a 0) 2400 D, aN (xg x) 0 (a 1) 10 M, aL (xg x) (a 3) 12 N, aI (xg x) 0 (a 4) 12 Sc, aI (xg x) 4 (a 5) 12 Hs] rfl 0 0 ⟨by omega, by omega⟩ [.ref o] rfl (Nat.le_of_ble_eq_true rfl) dX4_setScale_28 rfl (fun _ _ h => h.elim) (fun v Ws h => ?_)
        obtain ⟨rfl, rfl⟩ := h
        show SW x [tmO (xg x) o a z, aN (xg x) 0 (a 0) 2400 D, aN (xg x) 0 (a 1) 10 M, aL (xg x) (a 3) 12 N, aI (xg x) 0 (a 4) 12 Sc, aI (xg x) 4 (a 5) 12 Hs] _ _ _ _ [.int (jI (mdI m)), .ref o]
        refine sw_if_ne (n := 34) F (by omega) (tgt := 38) dX4_setScale_31 (by decide) rfl (fun c_31 => ?_) (fun c_31 => ?_)
        ·
          refine sw_aload_n (n := 39) F 0 (some o) rfl rfl rfl dX4_setScale_38 rfl ?_
          refine sw_get (n := 42) F 0 rfl (k := 5) ⟨(RX4, TX4, 50), rfl, by decide, q3804, in_X4, Or.inl rfl⟩ (v := .ref (a 5)) rfl dX4_setScale_39 rfl ?_
          refine sw_iload_n (n := 43) F 1 rfl rfl dX4_setScale_42 rfl ?_
          refine sw_zaloadI (n := 44) F 5 rfl (fun _ => rfl) ((s : Int).toNat) (by omega) (by omega) dX4_setScale_43 rfl ?_
          refine sw_if_ne (n := 47) F (by omega) (tgt := 51) dX4_setScale_44 (by decide) rfl (fun c_44 => ?_) (fun c_44 => ?_)
          ·
            refine sw_iconst (n := 52) F (0) (by decide) dX4_setScale_51 rfl ?_
            refine sw_callV (n := 55) F (ct_X4_fails (g := xg x) (l := xl x) o a z 0 (by first | assumption | omega)) (rcv_ob F 0 (ci := 3) rfl rfl) q3973 q3975 qs68 q120 q3976 nd_X4_fails rfl (by decide) [0, 1, 2, 3, 4, 5] rfl [aN (xg x) 0 (a 0) 2400 D, aN (xg x) 0 (a 1) 10 M, aL (xg x) (a 3) 12 N, aI (xg x) 0 (a 4) 12 Sc, aI (xg x) 4 (a 5) 12 Hs] rfl 0 0 ⟨by omega, by omega⟩ [] rfl (Nat.le_of_ble_eq_true rfl) dX4_setScale_52 rfl (fun _ _ h => h.elim) (fun v Ws h => ?_)
            obtain ⟨rfl, hps_6, rfl⟩ := h
            show SW x [tmO (xg x) o a (va_up z 8 0), aN (xg x) 0 (a 0) 2400 D, aN (xg x) 0 (a 1) 10 M, aL (xg x) (a 3) 12 N, aI (xg x) 0 (a 4) 12 Sc, aI (xg x) 4 (a 5) 12 Hs] _ _ _ _ [.int (jI 0)]
            refine sw_if_eq (n := 58) F (by decide) (tgt := 60) dX4_setScale_55 (by decide) rfl (fun c_55 => ?_) (fun c_55 => ?_)
            ·
              refine SW.cast (L' := [(0, .ref o), (1, .int (jI (↑(s.toNat)))), (2, .int (jI sc)), (3, .int (jI m)), (4, .int (jI (↑(t.toNat))))]) ?_ rfl (by rw [Int.toNat_of_nonneg (show 0 ≤ s by omega), Int.toNat_of_nonneg (show 0 ≤ t by omega)]) rfl
              refine sw_aload_n (n := 61) F 0 (some o) rfl rfl rfl dX4_setScale_60 rfl ?_
              refine sw_iload_n (n := 62) F 1 rfl rfl dX4_setScale_61 rfl ?_
              refine sw_iload_n (n := 63) F 2 rfl rfl dX4_setScale_62 rfl ?_
              refine sw_iload_n (n := 64) F 3 rfl rfl dX4_setScale_63 rfl ?_
              rw [show (↑(s.toNat) : Int) = ↑s.toNat by omega]
              refine sw_callV (n := 67) F (ct_X4_scales (g := xg x) (l := xl x) o a (va_up z 8 0) D M N Sc s.toNat sc m (by first | assumption | omega) (by first | assumption | omega) hm hA hN hSc) (rcv_ob F 0 (ci := 3) rfl rfl) q4119 q4121 qs89 q120 q4122 nd_X4_scales rfl (by decide) [0, 1, 2, 3, 4, 5] rfl [aI (xg x) 4 (a 5) 12 Hs] rfl 0 0 ⟨by omega, by omega⟩ [] rfl (Nat.le_of_ble_eq_true rfl) dX4_setScale_64 rfl (fun _ _ h => h.elim) (fun v Ws h => ?_)
              obtain ⟨D1_7, M1_8, rfl, hV_9, hr_10, rfl⟩ := h
              show SW x [tmO (xg x) o a (va_up (va_up z 8 0) 2 (rfz m ((N s.toNat).natAbs * 10 ^ (sc - Sc s.toNat).toNat) (1 * 10 ^ (Sc s.toNat - sc).toNat) 0)), aN (xg x) 0 (a 0) 2400 D1_7, aN (xg x) 0 (a 1) 10 M1_8, aL (xg x) (a 3) 12 N, aI (xg x) 0 (a 4) 12 Sc, aI (xg x) 4 (a 5) 12 Hs] _ _ _ _ []
              have a_11 := hV_9.1
              have hrz := rfz_01 m ((N s.toNat).natAbs * 10 ^ (sc - Sc s.toNat).toNat) (1 * 10 ^ (Sc s.toNat - sc).toNat)
              refine sw_aload_n (n := 68) F 0 (some o) rfl rfl rfl dX4_setScale_67 rfl ?_
              refine sw_aload_n (n := 69) F 0 (some o) rfl rfl rfl dX4_setScale_68 rfl ?_
              refine sw_get (n := 72) F 0 rfl (k := 2) ⟨(RX4, TX4, 50), rfl, by decide, q3801, in_X4, Or.inl rfl⟩ (v := .int (jI (rfz m ((N s.toNat).natAbs * 10 ^ (sc - Sc s.toNat).toNat) (1 * 10 ^ (Sc s.toNat - sc).toNat) 0))) rfl dX4_setScale_69 rfl ?_
              refine sw_if_ne (n := 75) F (by omega) (tgt := 106) dX4_setScale_72 (by decide) rfl (fun c_72 => ?_) (fun c_72 => ?_)
              ·
                refine sw_iconst (n := 107) F (4) (by decide) dX4_setScale_106 rfl ?_
                refine sw_callV (n := 110) F (ct_X4_fails (g := xg x) (l := xl x) o a (va_up (va_up z 8 0) 2 (rfz m ((N s.toNat).natAbs * 10 ^ (sc - Sc s.toNat).toNat) (1 * 10 ^ (Sc s.toNat - sc).toNat) 0)) 4 (by first | assumption | omega)) (rcv_ob F 0 (ci := 3) rfl rfl) q3973 q3975 qs68 q120 q3976 nd_X4_fails rfl (by decide) [0, 1, 2, 3, 4, 5] rfl [aN (xg x) 0 (a 0) 2400 D1_7, aN (xg x) 0 (a 1) 10 M1_8, aL (xg x) (a 3) 12 N, aI (xg x) 0 (a 4) 12 Sc, aI (xg x) 4 (a 5) 12 Hs] rfl 0 0 ⟨by omega, by omega⟩ [] rfl (Nat.le_of_ble_eq_true rfl) dX4_setScale_107 rfl (fun _ _ h => h.elim) (fun v Ws h => ?_)
                obtain ⟨rfl, hps_12, rfl⟩ := h
                show SW x [tmO (xg x) o a (va_up (va_up (va_up z 8 0) 2 (rfz m ((N s.toNat).natAbs * 10 ^ (sc - Sc s.toNat).toNat) (1 * 10 ^ (Sc s.toNat - sc).toNat) 0)) 8 4), aN (xg x) 0 (a 0) 2400 D1_7, aN (xg x) 0 (a 1) 10 M1_8, aL (xg x) (a 3) 12 N, aI (xg x) 0 (a 4) 12 Sc, aI (xg x) 4 (a 5) 12 Hs] _ _ _ _ [.int (jI 1)]
                refine sw_if_eq (n := 113) F (by decide) (tgt := 117) dX4_setScale_110 (by decide) rfl (fun c_110 => ?_) (fun c_110 => ?_)
                · exfalso; exact absurd c_110 (by decide)
                ·
                  refine sw_iconst (n := 114) F (0) (by decide) dX4_setScale_113 rfl ?_
                  refine sw_goto F (n := 127) dX4_setScale_114 (by decide) ?_
                  have e : ssC s t sc m Hs (rnd m (bl (N s.toNat)) ((N s.toNat).natAbs * 10 ^ (sc - Sc s.toNat).toNat) (1 * 10 ^ (Sc s.toNat - sc).toNat)) (rfz m ((N s.toNat).natAbs * 10 ^ (sc - Sc s.toNat).toNat) (1 * 10 ^ (Sc s.toNat - sc).toNat) 0) = 4 := by unfold ssC; (repeat' split) <;> omega
                  exact sw_iret F _ rfl (by first | rfl | exact jI_nz (by omega) | exact jI_nc (by omega)) dX4_setScale_127 (by rw [hPo]; exact ⟨D1_7, M1_8, (by rw [e]; first | rfl | (rw [if0_0, l1, up1_11, va_up_self, sgn_na])), hV_9, (by simp only [e, up0_4, up4_4, up_828])⟩)
              ·
                refine sw_aload_n (n := 76) F 0 (some o) rfl rfl rfl dX4_setScale_75 rfl ?_
                refine sw_iload (n := 78) F 4 rfl dX4_setScale_76 rfl ?_
                refine sw_iconst (n := 79) F (2) (by decide) dX4_setScale_78 rfl ?_
                refine sw_aload_n (n := 80) F 0 (some o) rfl rfl rfl dX4_setScale_79 rfl ?_
                refine sw_get (n := 83) F 0 rfl (k := 3) ⟨(RX4, TX4, 50), rfl, by decide, q3802, in_X4, Or.inl rfl⟩ (v := .ref (a 3)) rfl dX4_setScale_80 rfl ?_
                refine sw_iload_n (n := 84) F 1 rfl rfl dX4_setScale_83 rfl ?_
                refine sw_laloadL (n := 85) F 3 rfl (fun _ => rfl) s.toNat rfl (by omega) dX4_setScale_84 rfl ?_
                refine sw_lconst (n := 86) F 0 (by decide) dX4_setScale_85 rfl ?_
                refine sw_lcmp (n := 87) F (by omega) (by decide) dX4_setScale_86 rfl ?_
                refine sw_if_ge (n := 90) F (by omega) (tgt := 94) dX4_setScale_87 (by decide) rfl (fun c_87 => ?_) (fun c_87 => ?_)
                ·
                  have c_87 : N s.toNat ≥ 0 := by revert c_87; (repeat' split) <;> omega
                  refine sw_iconst (n := 95) F (0) (by decide) dX4_setScale_94 rfl ?_
                  refine sw_iload_n (n := 96) F 2 rfl rfl dX4_setScale_95 rfl ?_
                  rw [show (↑(t.toNat) : Int) = ↑t.toNat by omega]
                  refine sw_callV (n := 99) F (ct_X4_lays (g := xg x) (l := xl x) o a (va_up (va_up z 8 0) 2 (rfz m ((N s.toNat).natAbs * 10 ^ (sc - Sc s.toNat).toNat) (1 * 10 ^ (Sc s.toNat - sc).toNat) 0)) D1_7 M1_8 N Sc Hs t.toNat 2 (rnd m (bl (N s.toNat)) ((N s.toNat).natAbs * 10 ^ (sc - Sc s.toNat).toNat) (1 * 10 ^ (Sc s.toNat - sc).toNat)) 0 sc (by first | assumption | omega) (by first | assumption | omega) a_11 hr_10 (by first | assumption | omega) hsc) (rcv_ob F 0 (ci := 3) rfl rfl) q4020 q4022 qs75 q120 q4023 nd_X4_lays rfl (by decide) [0, 1, 2, 3, 4, 5] rfl [] rfl 0 0 ⟨by omega, by omega⟩ [.ref o] rfl (Nat.le_of_ble_eq_true rfl) dX4_setScale_96 rfl (fun _ _ h => h.elim) (fun v Ws h => ?_)
                  obtain ⟨rfl, hl_13, rfl⟩ := h
                  show SW x [tmO (xg x) o a (va_up (va_up z 8 0) 2 (rfz m ((N s.toNat).natAbs * 10 ^ (sc - Sc s.toNat).toNat) (1 * 10 ^ (Sc s.toNat - sc).toNat) 0)), aN (xg x) 0 (a 0) 2400 D1_7, aN (xg x) 0 (a 1) 10 M1_8, aL (xg x) (a 3) 12 (up1 (laI (rnd m (bl (N s.toNat)) ((N s.toNat).natAbs * 10 ^ (sc - Sc s.toNat).toNat) (1 * 10 ^ (Sc s.toNat - sc).toNat)) sc) N t.toNat (sgn 0 (rnd m (bl (N s.toNat)) ((N s.toNat).natAbs * 10 ^ (sc - Sc s.toNat).toNat) (1 * 10 ^ (Sc s.toNat - sc).toNat)))), aI (xg x) 0 (a 4) 12 (up1 (laI (rnd m (bl (N s.toNat)) ((N s.toNat).natAbs * 10 ^ (sc - Sc s.toNat).toNat) (1 * 10 ^ (Sc s.toNat - sc).toNat)) sc) Sc t.toNat sc), aI (xg x) 4 (a 5) 12 (up1 (laI (rnd m (bl (N s.toNat)) ((N s.toNat).natAbs * 10 ^ (sc - Sc s.toNat).toNat) (1 * 10 ^ (Sc s.toNat - sc).toNat)) sc) Hs t.toNat 1)] _ _ _ _ [.int (jI (laI (rnd m (bl (N s.toNat)) ((N s.toNat).natAbs * 10 ^ (sc - Sc s.toNat).toNat) (1 * 10 ^ (Sc s.toNat - sc).toNat)) sc)), .ref o]
                  refine sw_if_eq (n := 102) F (by omega) (tgt := 106) dX4_setScale_99 (by decide) rfl (fun c_99 => ?_) (fun c_99 => ?_)
                  ·
                    refine sw_iconst (n := 107) F (4) (by decide) dX4_setScale_106 rfl ?_
                    refine sw_callV (n := 110) F (ct_X4_fails (g := xg x) (l := xl x) o a (va_up (va_up z 8 0) 2 (rfz m ((N s.toNat).natAbs * 10 ^ (sc - Sc s.toNat).toNat) (1 * 10 ^ (Sc s.toNat - sc).toNat) 0)) 4 (by first | assumption | omega)) (rcv_ob F 0 (ci := 3) rfl rfl) q3973 q3975 qs68 q120 q3976 nd_X4_fails rfl (by decide) [0, 1, 2, 3, 4, 5] rfl [aN (xg x) 0 (a 0) 2400 D1_7, aN (xg x) 0 (a 1) 10 M1_8, aL (xg x) (a 3) 12 (up1 (laI (rnd m (bl (N s.toNat)) ((N s.toNat).natAbs * 10 ^ (sc - Sc s.toNat).toNat) (1 * 10 ^ (Sc s.toNat - sc).toNat)) sc) N t.toNat (sgn 0 (rnd m (bl (N s.toNat)) ((N s.toNat).natAbs * 10 ^ (sc - Sc s.toNat).toNat) (1 * 10 ^ (Sc s.toNat - sc).toNat)))), aI (xg x) 0 (a 4) 12 (up1 (laI (rnd m (bl (N s.toNat)) ((N s.toNat).natAbs * 10 ^ (sc - Sc s.toNat).toNat) (1 * 10 ^ (Sc s.toNat - sc).toNat)) sc) Sc t.toNat sc), aI (xg x) 4 (a 5) 12 (up1 (laI (rnd m (bl (N s.toNat)) ((N s.toNat).natAbs * 10 ^ (sc - Sc s.toNat).toNat) (1 * 10 ^ (Sc s.toNat - sc).toNat)) sc) Hs t.toNat 1)] rfl 0 0 ⟨by omega, by omega⟩ [] rfl (Nat.le_of_ble_eq_true rfl) dX4_setScale_107 rfl (fun _ _ h => h.elim) (fun v Ws h => ?_)
                    obtain ⟨rfl, hps_14, rfl⟩ := h
                    show SW x [tmO (xg x) o a (va_up (va_up (va_up z 8 0) 2 (rfz m ((N s.toNat).natAbs * 10 ^ (sc - Sc s.toNat).toNat) (1 * 10 ^ (Sc s.toNat - sc).toNat) 0)) 8 4), aN (xg x) 0 (a 0) 2400 D1_7, aN (xg x) 0 (a 1) 10 M1_8, aL (xg x) (a 3) 12 (up1 (laI (rnd m (bl (N s.toNat)) ((N s.toNat).natAbs * 10 ^ (sc - Sc s.toNat).toNat) (1 * 10 ^ (Sc s.toNat - sc).toNat)) sc) N t.toNat (sgn 0 (rnd m (bl (N s.toNat)) ((N s.toNat).natAbs * 10 ^ (sc - Sc s.toNat).toNat) (1 * 10 ^ (Sc s.toNat - sc).toNat)))), aI (xg x) 0 (a 4) 12 (up1 (laI (rnd m (bl (N s.toNat)) ((N s.toNat).natAbs * 10 ^ (sc - Sc s.toNat).toNat) (1 * 10 ^ (Sc s.toNat - sc).toNat)) sc) Sc t.toNat sc), aI (xg x) 4 (a 5) 12 (up1 (laI (rnd m (bl (N s.toNat)) ((N s.toNat).natAbs * 10 ^ (sc - Sc s.toNat).toNat) (1 * 10 ^ (Sc s.toNat - sc).toNat)) sc) Hs t.toNat 1)] _ _ _ _ [.int (jI 1)]
                    refine sw_if_eq (n := 113) F (by decide) (tgt := 117) dX4_setScale_110 (by decide) rfl (fun c_110 => ?_) (fun c_110 => ?_)
                    · exfalso; exact absurd c_110 (by decide)
                    ·
                      refine sw_iconst (n := 114) F (0) (by decide) dX4_setScale_113 rfl ?_
                      refine sw_goto F (n := 127) dX4_setScale_114 (by decide) ?_
                      have e : ssC s t sc m Hs (rnd m (bl (N s.toNat)) ((N s.toNat).natAbs * 10 ^ (sc - Sc s.toNat).toNat) (1 * 10 ^ (Sc s.toNat - sc).toNat)) (rfz m ((N s.toNat).natAbs * 10 ^ (sc - Sc s.toNat).toNat) (1 * 10 ^ (Sc s.toNat - sc).toNat) 0) = 4 := by unfold ssC; (repeat' split) <;> omega
                      exact sw_iret F _ rfl (by first | rfl | exact jI_nz (by omega) | exact jI_nc (by omega)) dX4_setScale_127 (by rw [hPo]; exact ⟨D1_7, M1_8, (by rw [e]; first | rfl | (rw [if0_0, l1, up1_11, va_up_self, sgn_na])), hV_9, (by simp only [e, up0_4, up4_4, up_828, c_99, up1_00])⟩)
                  ·
                    refine sw_iconst (n := 103) F (0) (by decide) dX4_setScale_102 rfl ?_
                    refine sw_goto F (n := 107) dX4_setScale_103 (by decide) ?_
                    refine sw_callV (n := 110) F (ct_X4_fails (g := xg x) (l := xl x) o a (va_up (va_up z 8 0) 2 (rfz m ((N s.toNat).natAbs * 10 ^ (sc - Sc s.toNat).toNat) (1 * 10 ^ (Sc s.toNat - sc).toNat) 0)) 0 (by first | assumption | omega)) (rcv_ob F 0 (ci := 3) rfl rfl) q3973 q3975 qs68 q120 q3976 nd_X4_fails rfl (by decide) [0, 1, 2, 3, 4, 5] rfl [aN (xg x) 0 (a 0) 2400 D1_7, aN (xg x) 0 (a 1) 10 M1_8, aL (xg x) (a 3) 12 (up1 (laI (rnd m (bl (N s.toNat)) ((N s.toNat).natAbs * 10 ^ (sc - Sc s.toNat).toNat) (1 * 10 ^ (Sc s.toNat - sc).toNat)) sc) N t.toNat (sgn 0 (rnd m (bl (N s.toNat)) ((N s.toNat).natAbs * 10 ^ (sc - Sc s.toNat).toNat) (1 * 10 ^ (Sc s.toNat - sc).toNat)))), aI (xg x) 0 (a 4) 12 (up1 (laI (rnd m (bl (N s.toNat)) ((N s.toNat).natAbs * 10 ^ (sc - Sc s.toNat).toNat) (1 * 10 ^ (Sc s.toNat - sc).toNat)) sc) Sc t.toNat sc), aI (xg x) 4 (a 5) 12 (up1 (laI (rnd m (bl (N s.toNat)) ((N s.toNat).natAbs * 10 ^ (sc - Sc s.toNat).toNat) (1 * 10 ^ (Sc s.toNat - sc).toNat)) sc) Hs t.toNat 1)] rfl 0 0 ⟨by omega, by omega⟩ [] rfl (Nat.le_of_ble_eq_true rfl) dX4_setScale_107 rfl (fun _ _ h => h.elim) (fun v Ws h => ?_)
                    obtain ⟨rfl, hps_15, rfl⟩ := h
                    show SW x [tmO (xg x) o a (va_up (va_up (va_up z 8 0) 2 (rfz m ((N s.toNat).natAbs * 10 ^ (sc - Sc s.toNat).toNat) (1 * 10 ^ (Sc s.toNat - sc).toNat) 0)) 8 0), aN (xg x) 0 (a 0) 2400 D1_7, aN (xg x) 0 (a 1) 10 M1_8, aL (xg x) (a 3) 12 (up1 (laI (rnd m (bl (N s.toNat)) ((N s.toNat).natAbs * 10 ^ (sc - Sc s.toNat).toNat) (1 * 10 ^ (Sc s.toNat - sc).toNat)) sc) N t.toNat (sgn 0 (rnd m (bl (N s.toNat)) ((N s.toNat).natAbs * 10 ^ (sc - Sc s.toNat).toNat) (1 * 10 ^ (Sc s.toNat - sc).toNat)))), aI (xg x) 0 (a 4) 12 (up1 (laI (rnd m (bl (N s.toNat)) ((N s.toNat).natAbs * 10 ^ (sc - Sc s.toNat).toNat) (1 * 10 ^ (Sc s.toNat - sc).toNat)) sc) Sc t.toNat sc), aI (xg x) 4 (a 5) 12 (up1 (laI (rnd m (bl (N s.toNat)) ((N s.toNat).natAbs * 10 ^ (sc - Sc s.toNat).toNat) (1 * 10 ^ (Sc s.toNat - sc).toNat)) sc) Hs t.toNat 1)] _ _ _ _ [.int (jI 0)]
                    refine sw_if_eq (n := 113) F (by decide) (tgt := 117) dX4_setScale_110 (by decide) rfl (fun c_110 => ?_) (fun c_110 => ?_)
                    ·
                      refine sw_aload_n (n := 118) F 0 (some o) rfl rfl rfl dX4_setScale_117 rfl ?_
                      refine sw_get (n := 121) F 0 rfl (k := 3) ⟨(RX4, TX4, 50), rfl, by decide, q3802, in_X4, Or.inl rfl⟩ (v := .ref (a 3)) rfl dX4_setScale_118 rfl ?_
                      refine sw_iload (n := 123) F 4 rfl dX4_setScale_121 rfl ?_
                      refine sw_laloadL (n := 124) F 3 rfl (fun _ => rfl) t.toNat rfl (by omega) dX4_setScale_123 rfl ?_
                      refine sw_callS (n := 127) F (ct_X4_digitsOf (g := xg x) (l := xl x) ((up1 (laI (rnd m (bl (N s.toNat)) ((N s.toNat).natAbs * 10 ^ (sc - Sc s.toNat).toNat) (1 * 10 ^ (Sc s.toNat - sc).toNat)) sc) N t.toNat (sgn 0 (rnd m (bl (N s.toNat)) ((N s.toNat).natAbs * 10 ^ (sc - Sc s.toNat).toNat) (1 * 10 ^ (Sc s.toNat - sc).toNat)))) t.toNat) (by exact rng_la (by omega))) q3977 q3978 q120 q3979 nd_X4_digitsOf rfl (by decide) [0, 1, 2, 3, 4, 5] rfl [tmO (xg x) o a (va_up (va_up (va_up z 8 0) 2 (rfz m ((N s.toNat).natAbs * 10 ^ (sc - Sc s.toNat).toNat) (1 * 10 ^ (Sc s.toNat - sc).toNat) 0)) 8 0), aN (xg x) 0 (a 0) 2400 D1_7, aN (xg x) 0 (a 1) 10 M1_8, aL (xg x) (a 3) 12 (up1 (laI (rnd m (bl (N s.toNat)) ((N s.toNat).natAbs * 10 ^ (sc - Sc s.toNat).toNat) (1 * 10 ^ (Sc s.toNat - sc).toNat)) sc) N t.toNat (sgn 0 (rnd m (bl (N s.toNat)) ((N s.toNat).natAbs * 10 ^ (sc - Sc s.toNat).toNat) (1 * 10 ^ (Sc s.toNat - sc).toNat)))), aI (xg x) 0 (a 4) 12 (up1 (laI (rnd m (bl (N s.toNat)) ((N s.toNat).natAbs * 10 ^ (sc - Sc s.toNat).toNat) (1 * 10 ^ (Sc s.toNat - sc).toNat)) sc) Sc t.toNat sc), aI (xg x) 4 (a 5) 12 (up1 (laI (rnd m (bl (N s.toNat)) ((N s.toNat).natAbs * 10 ^ (sc - Sc s.toNat).toNat) (1 * 10 ^ (Sc s.toNat - sc).toNat)) sc) Hs t.toNat 1)] rfl 0 0 ⟨by omega, by omega⟩ [] rfl (Nat.le_of_ble_eq_true rfl) dX4_setScale_124 rfl (fun _ _ h => h.elim) (fun v Ws h => ?_)
                      obtain ⟨rfl, rfl⟩ := h
                      show SW x [tmO (xg x) o a (va_up (va_up (va_up z 8 0) 2 (rfz m ((N s.toNat).natAbs * 10 ^ (sc - Sc s.toNat).toNat) (1 * 10 ^ (Sc s.toNat - sc).toNat) 0)) 8 0), aN (xg x) 0 (a 0) 2400 D1_7, aN (xg x) 0 (a 1) 10 M1_8, aL (xg x) (a 3) 12 (up1 (laI (rnd m (bl (N s.toNat)) ((N s.toNat).natAbs * 10 ^ (sc - Sc s.toNat).toNat) (1 * 10 ^ (Sc s.toNat - sc).toNat)) sc) N t.toNat (sgn 0 (rnd m (bl (N s.toNat)) ((N s.toNat).natAbs * 10 ^ (sc - Sc s.toNat).toNat) (1 * 10 ^ (Sc s.toNat - sc).toNat)))), aI (xg x) 0 (a 4) 12 (up1 (laI (rnd m (bl (N s.toNat)) ((N s.toNat).natAbs * 10 ^ (sc - Sc s.toNat).toNat) (1 * 10 ^ (Sc s.toNat - sc).toNat)) sc) Sc t.toNat sc), aI (xg x) 4 (a 5) 12 (up1 (laI (rnd m (bl (N s.toNat)) ((N s.toNat).natAbs * 10 ^ (sc - Sc s.toNat).toNat) (1 * 10 ^ (Sc s.toNat - sc).toNat)) sc) Hs t.toNat 1)] _ _ _ _ [.int (jI (↑(dgc ((up1 (laI (rnd m (bl (N s.toNat)) ((N s.toNat).natAbs * 10 ^ (sc - Sc s.toNat).toNat) (1 * 10 ^ (Sc s.toNat - sc).toNat)) sc) N t.toNat (sgn 0 (rnd m (bl (N s.toNat)) ((N s.toNat).natAbs * 10 ^ (sc - Sc s.toNat).toNat) (1 * 10 ^ (Sc s.toNat - sc).toNat)))) t.toNat).natAbs)))]
                      have e : ssC s t sc m Hs (rnd m (bl (N s.toNat)) ((N s.toNat).natAbs * 10 ^ (sc - Sc s.toNat).toNat) (1 * 10 ^ (Sc s.toNat - sc).toNat)) (rfz m ((N s.toNat).natAbs * 10 ^ (sc - Sc s.toNat).toNat) (1 * 10 ^ (Sc s.toNat - sc).toNat) 0) = 0 := by unfold ssC; (repeat' split) <;> omega
                      have l1 : laI (rnd m (bl (N s.toNat)) ((N s.toNat).natAbs * 10 ^ (sc - Sc s.toNat).toNat) (1 * 10 ^ (Sc s.toNat - sc).toNat)) sc = 1 := by omega
                      exact sw_iret F _ rfl (by first | rfl | exact jI_nz (by omega) | exact jI_nc (by omega)) dX4_setScale_127 (by rw [hPo]; exact ⟨D1_7, M1_8, (by rw [e]; first | rfl | (rw [if0_0, l1, up1_11, va_up_self, sgn_na])), hV_9, (by simp only [e, up0_0, up4_0, up_828, l1, up1_11]; first | rfl | rw [bl_1 (by omega)] | rw [bl_0 (by omega)])⟩)
                    · exfalso; exact absurd c_110 (by decide)
                ·
                  have c_87 : N s.toNat < 0 := by revert c_87; (repeat' split) <;> omega
                  refine sw_iconst (n := 91) F (1) (by decide) dX4_setScale_90 rfl ?_
                  refine sw_goto F (n := 95) dX4_setScale_91 (by decide) ?_
                  refine sw_iload_n (n := 96) F 2 rfl rfl dX4_setScale_95 rfl ?_
                  rw [show (↑(t.toNat) : Int) = ↑t.toNat by omega]
                  refine sw_callV (n := 99) F (ct_X4_lays (g := xg x) (l := xl x) o a (va_up (va_up z 8 0) 2 (rfz m ((N s.toNat).natAbs * 10 ^ (sc - Sc s.toNat).toNat) (1 * 10 ^ (Sc s.toNat - sc).toNat) 0)) D1_7 M1_8 N Sc Hs t.toNat 2 (rnd m (bl (N s.toNat)) ((N s.toNat).natAbs * 10 ^ (sc - Sc s.toNat).toNat) (1 * 10 ^ (Sc s.toNat - sc).toNat)) 1 sc (by first | assumption | omega) (by first | assumption | omega) a_11 hr_10 (by first | assumption | omega) hsc) (rcv_ob F 0 (ci := 3) rfl rfl) q4020 q4022 qs75 q120 q4023 nd_X4_lays rfl (by decide) [0, 1, 2, 3, 4, 5] rfl [] rfl 0 0 ⟨by omega, by omega⟩ [.ref o] rfl (Nat.le_of_ble_eq_true rfl) dX4_setScale_96 rfl (fun _ _ h => h.elim) (fun v Ws h => ?_)
                  obtain ⟨rfl, hl_16, rfl⟩ := h
                  show SW x [tmO (xg x) o a (va_up (va_up z 8 0) 2 (rfz m ((N s.toNat).natAbs * 10 ^ (sc - Sc s.toNat).toNat) (1 * 10 ^ (Sc s.toNat - sc).toNat) 0)), aN (xg x) 0 (a 0) 2400 D1_7, aN (xg x) 0 (a 1) 10 M1_8, aL (xg x) (a 3) 12 (up1 (laI (rnd m (bl (N s.toNat)) ((N s.toNat).natAbs * 10 ^ (sc - Sc s.toNat).toNat) (1 * 10 ^ (Sc s.toNat - sc).toNat)) sc) N t.toNat (sgn 1 (rnd m (bl (N s.toNat)) ((N s.toNat).natAbs * 10 ^ (sc - Sc s.toNat).toNat) (1 * 10 ^ (Sc s.toNat - sc).toNat)))), aI (xg x) 0 (a 4) 12 (up1 (laI (rnd m (bl (N s.toNat)) ((N s.toNat).natAbs * 10 ^ (sc - Sc s.toNat).toNat) (1 * 10 ^ (Sc s.toNat - sc).toNat)) sc) Sc t.toNat sc), aI (xg x) 4 (a 5) 12 (up1 (laI (rnd m (bl (N s.toNat)) ((N s.toNat).natAbs * 10 ^ (sc - Sc s.toNat).toNat) (1 * 10 ^ (Sc s.toNat - sc).toNat)) sc) Hs t.toNat 1)] _ _ _ _ [.int (jI (laI (rnd m (bl (N s.toNat)) ((N s.toNat).natAbs * 10 ^ (sc - Sc s.toNat).toNat) (1 * 10 ^ (Sc s.toNat - sc).toNat)) sc)), .ref o]
                  refine sw_if_eq (n := 102) F (by omega) (tgt := 106) dX4_setScale_99 (by decide) rfl (fun c_99 => ?_) (fun c_99 => ?_)
                  ·
                    refine sw_iconst (n := 107) F (4) (by decide) dX4_setScale_106 rfl ?_
                    refine sw_callV (n := 110) F (ct_X4_fails (g := xg x) (l := xl x) o a (va_up (va_up z 8 0) 2 (rfz m ((N s.toNat).natAbs * 10 ^ (sc - Sc s.toNat).toNat) (1 * 10 ^ (Sc s.toNat - sc).toNat) 0)) 4 (by first | assumption | omega)) (rcv_ob F 0 (ci := 3) rfl rfl) q3973 q3975 qs68 q120 q3976 nd_X4_fails rfl (by decide) [0, 1, 2, 3, 4, 5] rfl [aN (xg x) 0 (a 0) 2400 D1_7, aN (xg x) 0 (a 1) 10 M1_8, aL (xg x) (a 3) 12 (up1 (laI (rnd m (bl (N s.toNat)) ((N s.toNat).natAbs * 10 ^ (sc - Sc s.toNat).toNat) (1 * 10 ^ (Sc s.toNat - sc).toNat)) sc) N t.toNat (sgn 1 (rnd m (bl (N s.toNat)) ((N s.toNat).natAbs * 10 ^ (sc - Sc s.toNat).toNat) (1 * 10 ^ (Sc s.toNat - sc).toNat)))), aI (xg x) 0 (a 4) 12 (up1 (laI (rnd m (bl (N s.toNat)) ((N s.toNat).natAbs * 10 ^ (sc - Sc s.toNat).toNat) (1 * 10 ^ (Sc s.toNat - sc).toNat)) sc) Sc t.toNat sc), aI (xg x) 4 (a 5) 12 (up1 (laI (rnd m (bl (N s.toNat)) ((N s.toNat).natAbs * 10 ^ (sc - Sc s.toNat).toNat) (1 * 10 ^ (Sc s.toNat - sc).toNat)) sc) Hs t.toNat 1)] rfl 0 0 ⟨by omega, by omega⟩ [] rfl (Nat.le_of_ble_eq_true rfl) dX4_setScale_107 rfl (fun _ _ h => h.elim) (fun v Ws h => ?_)
                    obtain ⟨rfl, hps_17, rfl⟩ := h
                    show SW x [tmO (xg x) o a (va_up (va_up (va_up z 8 0) 2 (rfz m ((N s.toNat).natAbs * 10 ^ (sc - Sc s.toNat).toNat) (1 * 10 ^ (Sc s.toNat - sc).toNat) 0)) 8 4), aN (xg x) 0 (a 0) 2400 D1_7, aN (xg x) 0 (a 1) 10 M1_8, aL (xg x) (a 3) 12 (up1 (laI (rnd m (bl (N s.toNat)) ((N s.toNat).natAbs * 10 ^ (sc - Sc s.toNat).toNat) (1 * 10 ^ (Sc s.toNat - sc).toNat)) sc) N t.toNat (sgn 1 (rnd m (bl (N s.toNat)) ((N s.toNat).natAbs * 10 ^ (sc - Sc s.toNat).toNat) (1 * 10 ^ (Sc s.toNat - sc).toNat)))), aI (xg x) 0 (a 4) 12 (up1 (laI (rnd m (bl (N s.toNat)) ((N s.toNat).natAbs * 10 ^ (sc - Sc s.toNat).toNat) (1 * 10 ^ (Sc s.toNat - sc).toNat)) sc) Sc t.toNat sc), aI (xg x) 4 (a 5) 12 (up1 (laI (rnd m (bl (N s.toNat)) ((N s.toNat).natAbs * 10 ^ (sc - Sc s.toNat).toNat) (1 * 10 ^ (Sc s.toNat - sc).toNat)) sc) Hs t.toNat 1)] _ _ _ _ [.int (jI 1)]
                    refine sw_if_eq (n := 113) F (by decide) (tgt := 117) dX4_setScale_110 (by decide) rfl (fun c_110 => ?_) (fun c_110 => ?_)
                    · exfalso; exact absurd c_110 (by decide)
                    ·
                      refine sw_iconst (n := 114) F (0) (by decide) dX4_setScale_113 rfl ?_
                      refine sw_goto F (n := 127) dX4_setScale_114 (by decide) ?_
                      have e : ssC s t sc m Hs (rnd m (bl (N s.toNat)) ((N s.toNat).natAbs * 10 ^ (sc - Sc s.toNat).toNat) (1 * 10 ^ (Sc s.toNat - sc).toNat)) (rfz m ((N s.toNat).natAbs * 10 ^ (sc - Sc s.toNat).toNat) (1 * 10 ^ (Sc s.toNat - sc).toNat) 0) = 4 := by unfold ssC; (repeat' split) <;> omega
                      exact sw_iret F _ rfl (by first | rfl | exact jI_nz (by omega) | exact jI_nc (by omega)) dX4_setScale_127 (by rw [hPo]; exact ⟨D1_7, M1_8, (by rw [e]; first | rfl | (rw [if0_0, l1, up1_11, va_up_self, sgn_na])), hV_9, (by simp only [e, up0_4, up4_4, up_828, c_99, up1_00])⟩)
                  ·
                    refine sw_iconst (n := 103) F (0) (by decide) dX4_setScale_102 rfl ?_
                    refine sw_goto F (n := 107) dX4_setScale_103 (by decide) ?_
                    refine sw_callV (n := 110) F (ct_X4_fails (g := xg x) (l := xl x) o a (va_up (va_up z 8 0) 2 (rfz m ((N s.toNat).natAbs * 10 ^ (sc - Sc s.toNat).toNat) (1 * 10 ^ (Sc s.toNat - sc).toNat) 0)) 0 (by first | assumption | omega)) (rcv_ob F 0 (ci := 3) rfl rfl) q3973 q3975 qs68 q120 q3976 nd_X4_fails rfl (by decide) [0, 1, 2, 3, 4, 5] rfl [aN (xg x) 0 (a 0) 2400 D1_7, aN (xg x) 0 (a 1) 10 M1_8, aL (xg x) (a 3) 12 (up1 (laI (rnd m (bl (N s.toNat)) ((N s.toNat).natAbs * 10 ^ (sc - Sc s.toNat).toNat) (1 * 10 ^ (Sc s.toNat - sc).toNat)) sc) N t.toNat (sgn 1 (rnd m (bl (N s.toNat)) ((N s.toNat).natAbs * 10 ^ (sc - Sc s.toNat).toNat) (1 * 10 ^ (Sc s.toNat - sc).toNat)))), aI (xg x) 0 (a 4) 12 (up1 (laI (rnd m (bl (N s.toNat)) ((N s.toNat).natAbs * 10 ^ (sc - Sc s.toNat).toNat) (1 * 10 ^ (Sc s.toNat - sc).toNat)) sc) Sc t.toNat sc), aI (xg x) 4 (a 5) 12 (up1 (laI (rnd m (bl (N s.toNat)) ((N s.toNat).natAbs * 10 ^ (sc - Sc s.toNat).toNat) (1 * 10 ^ (Sc s.toNat - sc).toNat)) sc) Hs t.toNat 1)] rfl 0 0 ⟨by omega, by omega⟩ [] rfl (Nat.le_of_ble_eq_true rfl) dX4_setScale_107 rfl (fun _ _ h => h.elim) (fun v Ws h => ?_)
                    obtain ⟨rfl, hps_18, rfl⟩ := h
                    show SW x [tmO (xg x) o a (va_up (va_up (va_up z 8 0) 2 (rfz m ((N s.toNat).natAbs * 10 ^ (sc - Sc s.toNat).toNat) (1 * 10 ^ (Sc s.toNat - sc).toNat) 0)) 8 0), aN (xg x) 0 (a 0) 2400 D1_7, aN (xg x) 0 (a 1) 10 M1_8, aL (xg x) (a 3) 12 (up1 (laI (rnd m (bl (N s.toNat)) ((N s.toNat).natAbs * 10 ^ (sc - Sc s.toNat).toNat) (1 * 10 ^ (Sc s.toNat - sc).toNat)) sc) N t.toNat (sgn 1 (rnd m (bl (N s.toNat)) ((N s.toNat).natAbs * 10 ^ (sc - Sc s.toNat).toNat) (1 * 10 ^ (Sc s.toNat - sc).toNat)))), aI (xg x) 0 (a 4) 12 (up1 (laI (rnd m (bl (N s.toNat)) ((N s.toNat).natAbs * 10 ^ (sc - Sc s.toNat).toNat) (1 * 10 ^ (Sc s.toNat - sc).toNat)) sc) Sc t.toNat sc), aI (xg x) 4 (a 5) 12 (up1 (laI (rnd m (bl (N s.toNat)) ((N s.toNat).natAbs * 10 ^ (sc - Sc s.toNat).toNat) (1 * 10 ^ (Sc s.toNat - sc).toNat)) sc) Hs t.toNat 1)] _ _ _ _ [.int (jI 0)]
                    refine sw_if_eq (n := 113) F (by decide) (tgt := 117) dX4_setScale_110 (by decide) rfl (fun c_110 => ?_) (fun c_110 => ?_)
                    ·
                      refine sw_aload_n (n := 118) F 0 (some o) rfl rfl rfl dX4_setScale_117 rfl ?_
                      refine sw_get (n := 121) F 0 rfl (k := 3) ⟨(RX4, TX4, 50), rfl, by decide, q3802, in_X4, Or.inl rfl⟩ (v := .ref (a 3)) rfl dX4_setScale_118 rfl ?_
                      refine sw_iload (n := 123) F 4 rfl dX4_setScale_121 rfl ?_
                      refine sw_laloadL (n := 124) F 3 rfl (fun _ => rfl) t.toNat rfl (by omega) dX4_setScale_123 rfl ?_
                      refine sw_callS (n := 127) F (ct_X4_digitsOf (g := xg x) (l := xl x) ((up1 (laI (rnd m (bl (N s.toNat)) ((N s.toNat).natAbs * 10 ^ (sc - Sc s.toNat).toNat) (1 * 10 ^ (Sc s.toNat - sc).toNat)) sc) N t.toNat (sgn 1 (rnd m (bl (N s.toNat)) ((N s.toNat).natAbs * 10 ^ (sc - Sc s.toNat).toNat) (1 * 10 ^ (Sc s.toNat - sc).toNat)))) t.toNat) (by exact rng_la (by omega))) q3977 q3978 q120 q3979 nd_X4_digitsOf rfl (by decide) [0, 1, 2, 3, 4, 5] rfl [tmO (xg x) o a (va_up (va_up (va_up z 8 0) 2 (rfz m ((N s.toNat).natAbs * 10 ^ (sc - Sc s.toNat).toNat) (1 * 10 ^ (Sc s.toNat - sc).toNat) 0)) 8 0), aN (xg x) 0 (a 0) 2400 D1_7, aN (xg x) 0 (a 1) 10 M1_8, aL (xg x) (a 3) 12 (up1 (laI (rnd m (bl (N s.toNat)) ((N s.toNat).natAbs * 10 ^ (sc - Sc s.toNat).toNat) (1 * 10 ^ (Sc s.toNat - sc).toNat)) sc) N t.toNat (sgn 1 (rnd m (bl (N s.toNat)) ((N s.toNat).natAbs * 10 ^ (sc - Sc s.toNat).toNat) (1 * 10 ^ (Sc s.toNat - sc).toNat)))), aI (xg x) 0 (a 4) 12 (up1 (laI (rnd m (bl (N s.toNat)) ((N s.toNat).natAbs * 10 ^ (sc - Sc s.toNat).toNat) (1 * 10 ^ (Sc s.toNat - sc).toNat)) sc) Sc t.toNat sc), aI (xg x) 4 (a 5) 12 (up1 (laI (rnd m (bl (N s.toNat)) ((N s.toNat).natAbs * 10 ^ (sc - Sc s.toNat).toNat) (1 * 10 ^ (Sc s.toNat - sc).toNat)) sc) Hs t.toNat 1)] rfl 0 0 ⟨by omega, by omega⟩ [] rfl (Nat.le_of_ble_eq_true rfl) dX4_setScale_124 rfl (fun _ _ h => h.elim) (fun v Ws h => ?_)
                      obtain ⟨rfl, rfl⟩ := h
                      show SW x [tmO (xg x) o a (va_up (va_up (va_up z 8 0) 2 (rfz m ((N s.toNat).natAbs * 10 ^ (sc - Sc s.toNat).toNat) (1 * 10 ^ (Sc s.toNat - sc).toNat) 0)) 8 0), aN (xg x) 0 (a 0) 2400 D1_7, aN (xg x) 0 (a 1) 10 M1_8, aL (xg x) (a 3) 12 (up1 (laI (rnd m (bl (N s.toNat)) ((N s.toNat).natAbs * 10 ^ (sc - Sc s.toNat).toNat) (1 * 10 ^ (Sc s.toNat - sc).toNat)) sc) N t.toNat (sgn 1 (rnd m (bl (N s.toNat)) ((N s.toNat).natAbs * 10 ^ (sc - Sc s.toNat).toNat) (1 * 10 ^ (Sc s.toNat - sc).toNat)))), aI (xg x) 0 (a 4) 12 (up1 (laI (rnd m (bl (N s.toNat)) ((N s.toNat).natAbs * 10 ^ (sc - Sc s.toNat).toNat) (1 * 10 ^ (Sc s.toNat - sc).toNat)) sc) Sc t.toNat sc), aI (xg x) 4 (a 5) 12 (up1 (laI (rnd m (bl (N s.toNat)) ((N s.toNat).natAbs * 10 ^ (sc - Sc s.toNat).toNat) (1 * 10 ^ (Sc s.toNat - sc).toNat)) sc) Hs t.toNat 1)] _ _ _ _ [.int (jI (↑(dgc ((up1 (laI (rnd m (bl (N s.toNat)) ((N s.toNat).natAbs * 10 ^ (sc - Sc s.toNat).toNat) (1 * 10 ^ (Sc s.toNat - sc).toNat)) sc) N t.toNat (sgn 1 (rnd m (bl (N s.toNat)) ((N s.toNat).natAbs * 10 ^ (sc - Sc s.toNat).toNat) (1 * 10 ^ (Sc s.toNat - sc).toNat)))) t.toNat).natAbs)))]
                      have e : ssC s t sc m Hs (rnd m (bl (N s.toNat)) ((N s.toNat).natAbs * 10 ^ (sc - Sc s.toNat).toNat) (1 * 10 ^ (Sc s.toNat - sc).toNat)) (rfz m ((N s.toNat).natAbs * 10 ^ (sc - Sc s.toNat).toNat) (1 * 10 ^ (Sc s.toNat - sc).toNat) 0) = 0 := by unfold ssC; (repeat' split) <;> omega
                      have l1 : laI (rnd m (bl (N s.toNat)) ((N s.toNat).natAbs * 10 ^ (sc - Sc s.toNat).toNat) (1 * 10 ^ (Sc s.toNat - sc).toNat)) sc = 1 := by omega
                      exact sw_iret F _ rfl (by first | rfl | exact jI_nz (by omega) | exact jI_nc (by omega)) dX4_setScale_127 (by rw [hPo]; exact ⟨D1_7, M1_8, (by rw [e]; first | rfl | (rw [if0_0, l1, up1_11, va_up_self, sgn_na])), hV_9, (by simp only [e, up0_0, up4_0, up_828, l1, up1_11]; first | rfl | rw [bl_1 (by omega)] | rw [bl_0 (by omega)])⟩)
                    · exfalso; exact absurd c_110 (by decide)
            · exfalso; exact absurd c_55 (by decide)
          ·
            refine sw_iconst (n := 48) F (3) (by decide) dX4_setScale_47 rfl ?_
            refine sw_goto F (n := 52) dX4_setScale_48 (by decide) ?_
            refine sw_callV (n := 55) F (ct_X4_fails (g := xg x) (l := xl x) o a z 3 (by first | assumption | omega)) (rcv_ob F 0 (ci := 3) rfl rfl) q3973 q3975 qs68 q120 q3976 nd_X4_fails rfl (by decide) [0, 1, 2, 3, 4, 5] rfl [aN (xg x) 0 (a 0) 2400 D, aN (xg x) 0 (a 1) 10 M, aL (xg x) (a 3) 12 N, aI (xg x) 0 (a 4) 12 Sc, aI (xg x) 4 (a 5) 12 Hs] rfl 0 0 ⟨by omega, by omega⟩ [] rfl (Nat.le_of_ble_eq_true rfl) dX4_setScale_52 rfl (fun _ _ h => h.elim) (fun v Ws h => ?_)
            obtain ⟨rfl, hps_19, rfl⟩ := h
            show SW x [tmO (xg x) o a (va_up z 8 3), aN (xg x) 0 (a 0) 2400 D, aN (xg x) 0 (a 1) 10 M, aL (xg x) (a 3) 12 N, aI (xg x) 0 (a 4) 12 Sc, aI (xg x) 4 (a 5) 12 Hs] _ _ _ _ [.int (jI 1)]
            refine sw_if_eq (n := 58) F (by decide) (tgt := 60) dX4_setScale_55 (by decide) rfl (fun c_55 => ?_) (fun c_55 => ?_)
            · exfalso; exact absurd c_55 (by decide)
            ·
              refine sw_iconst (n := 59) F (0) (by decide) dX4_setScale_58 rfl ?_
              have e : ssC s t sc m Hs (rnd m (bl (N s.toNat)) ((N s.toNat).natAbs * 10 ^ (sc - Sc s.toNat).toNat) (1 * 10 ^ (Sc s.toNat - sc).toNat)) (rfz m ((N s.toNat).natAbs * 10 ^ (sc - Sc s.toNat).toNat) (1 * 10 ^ (Sc s.toNat - sc).toNat) 0) = 3 := by unfold ssC; (repeat' split) <;> omega
              exact sw_iret F _ rfl (by first | rfl | exact jI_nz (by omega) | exact jI_nc (by omega)) dX4_setScale_59 (by rw [hPo]; exact ⟨D, M, (by rw [e]; first | rfl | (rw [if0_0, l1, up1_11, va_up_self, sgn_na])), (by exact (RV.rf hA).mono (S := []) (by simp)), (by simp only [e, up0_3, up4_3, up_828])⟩)
        ·
          refine sw_iconst (n := 35) F (2) (by decide) dX4_setScale_34 rfl ?_
          refine sw_goto F (n := 52) dX4_setScale_35 (by decide) ?_
          refine sw_callV (n := 55) F (ct_X4_fails (g := xg x) (l := xl x) o a z 2 (by first | assumption | omega)) (rcv_ob F 0 (ci := 3) rfl rfl) q3973 q3975 qs68 q120 q3976 nd_X4_fails rfl (by decide) [0, 1, 2, 3, 4, 5] rfl [aN (xg x) 0 (a 0) 2400 D, aN (xg x) 0 (a 1) 10 M, aL (xg x) (a 3) 12 N, aI (xg x) 0 (a 4) 12 Sc, aI (xg x) 4 (a 5) 12 Hs] rfl 0 0 ⟨by omega, by omega⟩ [] rfl (Nat.le_of_ble_eq_true rfl) dX4_setScale_52 rfl (fun _ _ h => h.elim) (fun v Ws h => ?_)
          obtain ⟨rfl, hps_20, rfl⟩ := h
          show SW x [tmO (xg x) o a (va_up z 8 2), aN (xg x) 0 (a 0) 2400 D, aN (xg x) 0 (a 1) 10 M, aL (xg x) (a 3) 12 N, aI (xg x) 0 (a 4) 12 Sc, aI (xg x) 4 (a 5) 12 Hs] _ _ _ _ [.int (jI 1)]
          refine sw_if_eq (n := 58) F (by decide) (tgt := 60) dX4_setScale_55 (by decide) rfl (fun c_55 => ?_) (fun c_55 => ?_)
          · exfalso; exact absurd c_55 (by decide)
          ·
            refine sw_iconst (n := 59) F (0) (by decide) dX4_setScale_58 rfl ?_
            have e : ssC s t sc m Hs (rnd m (bl (N s.toNat)) ((N s.toNat).natAbs * 10 ^ (sc - Sc s.toNat).toNat) (1 * 10 ^ (Sc s.toNat - sc).toNat)) (rfz m ((N s.toNat).natAbs * 10 ^ (sc - Sc s.toNat).toNat) (1 * 10 ^ (Sc s.toNat - sc).toNat) 0) = 2 := by unfold ssC; (repeat' split) <;> omega
            exact sw_iret F _ rfl (by first | rfl | exact jI_nz (by omega) | exact jI_nc (by omega)) dX4_setScale_59 (by rw [hPo]; exact ⟨D, M, (by rw [e]; first | rfl | (rw [if0_0, l1, up1_11, va_up_self, sgn_na])), (by exact (RV.rf hA).mono (S := []) (by simp)), (by simp only [e, up0_2, up4_2, up_828])⟩)
    ·
      refine sw_iconst (n := 17) F (1) (by decide) dX4_setScale_16 rfl ?_
      refine sw_goto F (n := 52) dX4_setScale_17 (by decide) ?_
      refine sw_callV (n := 55) F (ct_X4_fails (g := xg x) (l := xl x) o a z 1 (by first | assumption | omega)) (rcv_ob F 0 (ci := 3) rfl rfl) q3973 q3975 qs68 q120 q3976 nd_X4_fails rfl (by decide) [0, 1, 2, 3, 4, 5] rfl [aN (xg x) 0 (a 0) 2400 D, aN (xg x) 0 (a 1) 10 M, aL (xg x) (a 3) 12 N, aI (xg x) 0 (a 4) 12 Sc, aI (xg x) 4 (a 5) 12 Hs] rfl 0 0 ⟨by omega, by omega⟩ [] rfl (Nat.le_of_ble_eq_true rfl) dX4_setScale_52 rfl (fun _ _ h => h.elim) (fun v Ws h => ?_)
      obtain ⟨rfl, hps_21, rfl⟩ := h
      show SW x [tmO (xg x) o a (va_up z 8 1), aN (xg x) 0 (a 0) 2400 D, aN (xg x) 0 (a 1) 10 M, aL (xg x) (a 3) 12 N, aI (xg x) 0 (a 4) 12 Sc, aI (xg x) 4 (a 5) 12 Hs] _ _ _ _ [.int (jI 1)]
      refine sw_if_eq (n := 58) F (by decide) (tgt := 60) dX4_setScale_55 (by decide) rfl (fun c_55 => ?_) (fun c_55 => ?_)
      · exfalso; exact absurd c_55 (by decide)
      ·
        refine sw_iconst (n := 59) F (0) (by decide) dX4_setScale_58 rfl ?_
        have e : ssC s t sc m Hs (rnd m (bl (N s.toNat)) ((N s.toNat).natAbs * 10 ^ (sc - Sc s.toNat).toNat) (1 * 10 ^ (Sc s.toNat - sc).toNat)) (rfz m ((N s.toNat).natAbs * 10 ^ (sc - Sc s.toNat).toNat) (1 * 10 ^ (Sc s.toNat - sc).toNat) 0) = 1 := by unfold ssC; (repeat' split) <;> omega
        exact sw_iret F _ rfl (by first | rfl | exact jI_nz (by omega) | exact jI_nc (by omega)) dX4_setScale_59 (by rw [hPo]; exact ⟨D, M, (by rw [e]; first | rfl | (rw [if0_0, l1, up1_11, va_up_self, sgn_na])), (by exact (RV.rf hA).mono (S := []) (by simp)), (by simp only [e, up0_1, up4_1, up_828])⟩)
