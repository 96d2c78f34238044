set_option maxRecDepth 100000 in
set_option maxHeartbeats 16000000 in
theorem ct_X4_round {g : GG} {l : Launch} (o : Nat) (a : Nat → Nat) (z : Nat → Int) (D : Nat → Nat) (M : Nat → Nat) (N : Nat → Int) (Sc : Nat → Int) (Hs : Nat → Int) (s : Int) (n : Int) (m : Int) (t : Int) (hs : -2147483648 ≤ s ∧ s ≤ 2147483647) (hn9 : -2147483648 ≤ n ∧ n ≤ 2147483647) (hm : 0 ≤ m ∧ m ≤ 65535) (ht : -2147483648 ≤ t ∧ t ≤ 2147483647) (hA : Dok D M) (hN : NB N) (hSc : SB Sc) (hB : HB Hs) : Ct g l yX4_round (ws_ yX4_round cX4_round 6 (Option.some Jvm.ClassFile.FieldType.int)) 7 150 0 0 [.ref o, .int (jI s), .int (jI n), .int (jI m), .int (jI t)] [tmO g o a z, aN g 0 (a 0) 2400 D, aN g 0 (a 1) 10 M, aL g (a 3) 12 N, aI g 0 (a 4) 12 Sc, aI g 4 (a 5) 12 Hs] (fun v9 Ws9 => ∃ D1 : Nat → Nat, ∃ M1 : Nat → Nat, v9 = some (.int (jI (if0 (cd2 4 (roP s n m t Hs) (lrI (roF N Sc s.toNat n m) (laI (roV N Sc s.toNat n m) (roT N Sc s.toNat n m)))) (roT N Sc s.toNat n m)))) ∧ (RV [0, 1, 2, 3, 4, 8, 9] D M D1 M1) ∧ Ws9 = [tmO g o a (va_up (up0 (roP s n m t Hs) z 2 (roF N Sc s.toNat n m)) 8 (cd2 4 (roP s n m t Hs) (lrI (roF N Sc s.toNat n m) (laI (roV N Sc s.toNat n m) (roT N Sc s.toNat n m))))), aN g 0 (a 0) 2400 D1, aN g 0 (a 1) 10 M1, aL g (a 3) 12 (up0 (cd2 4 (roP s n m t Hs) (lrI (roF N Sc s.toNat n m) (laI (roV N Sc s.toNat n m) (roT N Sc s.toNat n m)))) N t.toNat (sgn (bl (N s.toNat)) (roV N Sc s.toNat n m))), aI g 0 (a 4) 12 (up0 (cd2 4 (roP s n m t Hs) (lrI (roF N Sc s.toNat n m) (laI (roV N Sc s.toNat n m) (roT N Sc s.toNat n m)))) Sc t.toNat (roT N Sc s.toNat n m)), aI g 4 (a 5) 12 (up0 (cd2 4 (roP s n m t Hs) (lrI (roF N Sc s.toNat n m) (laI (roV N Sc s.toNat n m) (roT N Sc s.toNat n m)))) Hs t.toNat 1)]) (nox) := by
  refine Ct.of (cc := cX4_round) (nL := 6) (ret := (Option.some Jvm.ClassFile.FieldType.int)) (by decide) rfl (Nat.le_of_ble_eq_true rfl) ?_
  intro x hg hl hPo hPx hmc hms F
  subst hg; subst hl
  refine SW.cast (L' := [(0, .ref o), (1, .int (jI s)), (2, .int (jI n)), (3, .int (jI m)), (4, .int (jI t))]) ?_ rfl rfl rfl
  have hq1 := hB s.toNat
  have hn := hN s.toNat
  have hss := hSc s.toNat
  have hmd := mdI_cases m
  have hdg := dgc_18 hn
  refine sw_aload_n (n := 1) F 0 (some o) rfl rfl rfl dX4_round_0 rfl ?_
  have K57 : ∀ (p : Int), (p = roP s n m t Hs) → SW x [tmO (xg x) o a z, aN (xg x) 0 (a 0) 2400 D, aN (xg x) 0 (a 1) 10 M, aL (xg x) (a 3) 12 N, aI (xg x) 0 (a 4) 12 Sc, aI (xg x) 4 (a 5) 12 Hs] 0 0 57 [(0, .ref o), (1, .int (jI s)), (2, .int (jI n)), (3, .int (jI m)), (4, .int (jI t))] [.int (jI p), .ref o] := by
    intro p hpc
    subst hpc
    have hcs := roP_c s n m t Hs
    refine sw_callV (n := 60) F (ct_X4_fails (g := xg x) (l := xl x) o a z (roP s n m t Hs) (by first | omega | assumption)) (rcv_ob F 0 (ci := 3) rfl rfl) q3973 q3975 qs68 q120 q3976 nd_X4_fails rfl (by decide) [0, 1, 2, 3, 4, 5] (perm_ok _ 6 (by decide +kernel) rfl) [aN (xg x) 0 (a 0) 2400 D, aN (xg x) 0 (a 1) 10 M, aL (xg x) (a 3) 12 N, aI (xg x) 0 (a 4) 12 Sc, aI (xg x) 4 (a 5) 12 Hs] rfl 0 0 ⟨by omega, by omega⟩ [] rfl (Nat.le_of_ble_eq_true rfl) dX4_round_57 rfl (fun _ _ h => h.elim) (fun v Ws h => ?_)
    obtain ⟨rfl, hps_1, rfl⟩ := h
    show SW x [tmO (xg x) o a (va_up z 8 (roP s n m t Hs)), aN (xg x) 0 (a 0) 2400 D, aN (xg x) 0 (a 1) 10 M, aL (xg x) (a 3) 12 N, aI (xg x) 0 (a 4) 12 Sc, aI (xg x) 4 (a 5) 12 Hs] _ _ _ _ [.int (jI (psI (roP s n m t Hs)))]
    refine sw_if_eq (n := 63) F (by omega) (tgt := 65) dX4_round_60 (by decide) rfl (fun c_60 => ?_) (fun c_60 => ?_)
    ·
      have e0 : roP s n m t Hs = 0 := by omega
      have rg0 : 0 ≤ s ∧ s ≤ 11 := by omega
      have rg1 : 0 ≤ t ∧ t ≤ 11 := by omega
      have rg2 : 1 ≤ n ∧ n ≤ 18 := by omega
      clear hcs hmd hq1 c_60 hps_1
      refine SW.cast (L' := [(0, .ref o), (1, .int (jI (↑(s.toNat)))), (2, .int (jI n)), (3, .int (jI m)), (4, .int (jI (↑(t.toNat))))]) ?_ rfl (by rw [Int.toNat_of_nonneg (show 0 ≤ s by omega), Int.toNat_of_nonneg (show 0 ≤ t by omega)]) rfl
      have hgc := grI_cases 0 ((dgc (N s.toNat).natAbs : Int) - n)
      have hos := roS_eq N Sc s.toNat n
      have hor : Sc s.toNat - 17 ≤ roS N Sc s.toNat n ∧ roS N Sc s.toNat n ≤ Sc s.toNat := by omega
      refine sw_aload_n (n := 66) F 0 (some o) rfl rfl rfl dX4_round_65 rfl ?_
      refine sw_get (n := 69) F 0 rfl (k := 4) ⟨(RX4, TX4, 50), rfl, by decide, q3803, in_X4, Or.inl rfl⟩ (v := .ref (a 4)) rfl dX4_round_66 rfl ?_
      refine sw_iload_n (n := 70) F 1 rfl rfl dX4_round_69 rfl ?_
      refine sw_ialoadI (n := 71) F 4 rfl (fun _ => rfl) s.toNat (by omega) (by omega) dX4_round_70 rfl ?_
      refine sw_iconst (n := 72) F (0) (by decide) dX4_round_71 rfl ?_
      refine sw_aload_n (n := 73) F 0 (some o) rfl rfl rfl dX4_round_72 rfl ?_
      refine sw_get (n := 76) F 0 rfl (k := 3) ⟨(RX4, TX4, 50), rfl, by decide, q3802, in_X4, Or.inl rfl⟩ (v := .ref (a 3)) rfl dX4_round_73 rfl ?_
      refine sw_iload_n (n := 77) F 1 rfl rfl dX4_round_76 rfl ?_
      refine sw_laloadL (n := 78) F 3 rfl (fun _ => rfl) s.toNat (by omega) (by omega) dX4_round_77 rfl ?_
      refine sw_callS (n := 81) F (ct_X4_digitsOf (g := xg x) (l := xl x) (N s.toNat) (by first | omega | assumption)) q3977 q3978 q120 q3979 nd_X4_digitsOf rfl (by decide) [0, 1, 2, 3, 4, 5] (perm_ok _ 6 (by decide +kernel) rfl) [tmO (xg x) o a (va_up z 8 (roP s n m t Hs)), aN (xg x) 0 (a 0) 2400 D, aN (xg x) 0 (a 1) 10 M, aL (xg x) (a 3) 12 N, aI (xg x) 0 (a 4) 12 Sc, aI (xg x) 4 (a 5) 12 Hs] rfl 0 0 ⟨by omega, by omega⟩ [.int (jI 0), .int (jI (Sc s.toNat))] rfl (Nat.le_of_ble_eq_true rfl) dX4_round_78 rfl (fun _ _ h => h.elim) (fun v Ws h => ?_)
      obtain ⟨rfl, rfl⟩ := h
      show SW x [tmO (xg x) o a (va_up z 8 (roP s n m t Hs)), aN (xg x) 0 (a 0) 2400 D, aN (xg x) 0 (a 1) 10 M, aL (xg x) (a 3) 12 N, aI (xg x) 0 (a 4) 12 Sc, aI (xg x) 4 (a 5) 12 Hs] _ _ _ _ [.int (jI (↑(dgc (N s.toNat).natAbs))), .int (jI 0), .int (jI (Sc s.toNat))]
      obtain ⟨d9, hd9⟩ : ∃ d9 : Int, d9 = (dgc (N s.toNat).natAbs : Int) := ⟨_, rfl⟩
      rw [← hd9]
      refine sw_iload_n (n := 82) F 2 rfl rfl dX4_round_81 rfl ?_
      refine sw_isub (n := 83) F dX4_round_82 rfl ?_
      refine sw_callS (n := 86) F (ct_X4_greater (g := xg x) (l := xl x) 0 (d9 - n) (by first | omega | assumption) (by first | omega | assumption)) q4060 q4061 q120 q4062 nd_X4_greater rfl (by decide) [0, 1, 2, 3, 4, 5] (perm_ok _ 6 (by decide +kernel) rfl) [tmO (xg x) o a (va_up z 8 (roP s n m t Hs)), aN (xg x) 0 (a 0) 2400 D, aN (xg x) 0 (a 1) 10 M, aL (xg x) (a 3) 12 N, aI (xg x) 0 (a 4) 12 Sc, aI (xg x) 4 (a 5) 12 Hs] rfl 0 0 ⟨by omega, by omega⟩ [.int (jI (Sc s.toNat))] rfl (Nat.le_of_ble_eq_true rfl) dX4_round_83 rfl (fun _ _ h => h.elim) (fun v Ws h => ?_)
      obtain ⟨rfl, hgr_2, rfl⟩ := h
      show SW x [tmO (xg x) o a (va_up z 8 (roP s n m t Hs)), aN (xg x) 0 (a 0) 2400 D, aN (xg x) 0 (a 1) 10 M, aL (xg x) (a 3) 12 N, aI (xg x) 0 (a 4) 12 Sc, aI (xg x) 4 (a 5) 12 Hs] _ _ _ _ [.int (jI (grI 0 (d9 - n))), .int (jI (Sc s.toNat))]
      refine sw_isub (n := 87) F dX4_round_86 rfl ?_
      refine SW.cast (st' := [.int (jI (roS N Sc s.toNat n))]) ?_ rfl rfl (by rw [hos, hd9])
      refine sw_istore (n := 89) F (L2 := [(5, .int (jI (roS N Sc s.toNat n))), (0, .ref o), (1, .int (jI (↑(s.toNat)))), (2, .int (jI n)), (3, .int (jI m)), (4, .int (jI (↑(t.toNat))))]) rfl (by decide) dX4_round_87 rfl ?_
      refine sw_aload_n (n := 90) F 1 (some o) rfl rfl rfl dX4_round_89 rfl ?_
      refine sw_iload_n (n := 91) F 2 rfl rfl dX4_round_90 rfl ?_
      refine sw_iload (n := 93) F 0 rfl dX4_round_91 rfl ?_
      refine sw_iload_n (n := 94) F 4 rfl rfl dX4_round_93 rfl ?_
      refine sw_callV (n := 97) F (ct_X4_scales (g := xg x) (l := xl x) o a (va_up z 8 (roP s n m t Hs)) D M N Sc s.toNat (roS N Sc s.toNat n) m (by first | omega | assumption) (by first | omega | assumption) hm hA hN hSc) (rcv_ob F 0 (ci := 3) rfl rfl) q4119 q4121 qs89 q120 q4122 nd_X4_scales rfl (by decide) [0, 1, 2, 3, 4, 5] (perm_ok _ 6 (by decide +kernel) rfl) [aI (xg x) 4 (a 5) 12 Hs] rfl 0 0 ⟨by omega, by omega⟩ [] rfl (Nat.le_of_ble_eq_true rfl) dX4_round_94 rfl (fun _ _ h => h.elim) (fun v Ws h => ?_)
      obtain ⟨D1_3, M1_4, rfl, hV_5, hr_6, rfl⟩ := h
      show SW x [tmO (xg x) o a (va_up (va_up z 8 (roP s n m t Hs)) 2 (rfz m ((N s.toNat).natAbs * 10 ^ ((roS N Sc s.toNat n) - Sc s.toNat).toNat) (1 * 10 ^ (Sc s.toNat - (roS N Sc s.toNat n)).toNat) 0)), aN (xg x) 0 (a 0) 2400 D1_3, aN (xg x) 0 (a 1) 10 M1_4, aL (xg x) (a 3) 12 N, aI (xg x) 0 (a 4) 12 Sc, aI (xg x) 4 (a 5) 12 Hs] _ _ _ _ []
      have a_7 := hV_5.1
      show SW x [tmO (xg x) o a (va_up (va_up z 8 (roP s n m t Hs)) 2 (roF N Sc s.toNat n m)), aN (xg x) 0 (a 0) 2400 D1_3, aN (xg x) 0 (a 1) 10 M1_4, aL (xg x) (a 3) 12 N, aI (xg x) 0 (a 4) 12 Sc, aI (xg x) 4 (a 5) 12 Hs] _ _ _ _ []
      have hrz : roF N Sc s.toNat n m = 0 ∨ roF N Sc s.toNat n m = 1 := rfz_01 m _ _
      refine sw_aload_n (n := 98) F 1 (some o) rfl rfl rfl dX4_round_97 rfl ?_
      refine sw_iconst (n := 99) F (2) (by decide) dX4_round_98 rfl ?_
      refine sw_iconst (n := 100) F (4) (by decide) dX4_round_99 rfl ?_
      have hrq : rok D1_3 M1_4 2 (roQ N Sc s.toNat n m) := hr_6
      refine sw_callV (n := 103) F (ct_X4_copies (g := xg x) (l := xl x) o a (va_up (va_up z 8 (roP s n m t Hs)) 2 (roF N Sc s.toNat n m)) D1_3 M1_4 2 4 (roQ N Sc s.toNat n m) (by first | omega | assumption) (by first | omega | assumption) (by decide) a_7 hrq) (rcv_ob F 0 (ci := 3) rfl rfl) q4087 q4089 qs86 q120 q4090 nd_X4_copies rfl (by decide) [0, 1, 2, 3, 4, 5] (perm_ok _ 6 (by decide +kernel) rfl) [aL (xg x) (a 3) 12 N, aI (xg x) 0 (a 4) 12 Sc, aI (xg x) 4 (a 5) 12 Hs] rfl 0 0 ⟨by omega, by omega⟩ [] rfl (Nat.le_of_ble_eq_true rfl) dX4_round_100 rfl (fun _ _ h => h.elim) (fun v Ws h => ?_)
      obtain ⟨D1_8, M1_9, rfl, hU_10, rfl⟩ := h
      show SW x [tmO (xg x) o a (va_up (va_up z 8 (roP s n m t Hs)) 2 (roF N Sc s.toNat n m)), aN (xg x) 0 (a 0) 2400 D1_8, aN (xg x) 0 (a 1) 10 M1_9, aL (xg x) (a 3) 12 N, aI (xg x) 0 (a 4) 12 Sc, aI (xg x) 4 (a 5) 12 Hs] _ _ _ _ []
      have a_11 := hU_10.1
      have r_12 : rok D1_8 M1_9 4 (roQ N Sc s.toNat n m) := hU_10.2.2.2
      have k_13 := hU_10.keep (r := 2) (by first | omega | simp | (simp; omega)) hrq
      have v_14 := (hV_5.mono (T := [0, 1, 2, 3, 8, 9, 4]) (by simp)).trans hU_10.rv (by simp)
      have hm4 := a_11.2 4 (by decide)
      refine sw_aload_n (n := 104) F 1 (some o) rfl rfl rfl dX4_round_103 rfl ?_
      refine sw_get (n := 107) F 0 rfl (k := 1) ⟨(RX4, TX4, 50), rfl, by decide, q3800, in_X4, Or.inl rfl⟩ (v := .ref (a 1)) rfl dX4_round_104 rfl ?_
      refine sw_iconst (n := 108) F (4) (by decide) dX4_round_107 rfl ?_
      refine sw_ialoadN (n := 109) F 2 rfl (fun _ => rfl) 4 rfl (by omega) dX4_round_108 rfl ?_
      refine sw_iload_n (n := 110) F 3 rfl rfl dX4_round_109 rfl ?_
      refine sw_icmp_le (n := 113) F (by omega) (by omega) (tgt := 140) dX4_round_110 (by decide) rfl (fun c_110 => ?_) (fun c_110 => ?_)
      ·
        have hge : ¬ 10 ^ n.toNat ≤ roQ N Sc s.toNat n m := by have h8 := rok_lt r_12; have h9 : 10 ^ M1_9 4 ≤ 10 ^ n.toNat := Nat.pow_le_pow_right (by decide) (by omega); omega
        have ev : roV N Sc s.toNat n m = roQ N Sc s.toNat n m := if_neg hge
        have es : roT N Sc s.toNat n m = roS N Sc s.toNat n := if_neg hge
        refine sw_aload_n (n := 141) F 1 (some o) rfl rfl rfl dX4_round_140 rfl ?_
        refine sw_aload_n (n := 142) F 1 (some o) rfl rfl rfl dX4_round_141 rfl ?_
        refine sw_get (n := 145) F 0 rfl (k := 2) ⟨(RX4, TX4, 50), rfl, by decide, q3801, in_X4, Or.inl rfl⟩ (v := .int (jI (roF N Sc s.toNat n m))) rfl dX4_round_142 rfl ?_
        refine sw_if_ne (n := 148) F (by omega) (tgt := 180) dX4_round_145 (by decide) rfl (fun c_145 => ?_) (fun c_145 => ?_)
        ·
          refine sw_iconst (n := 181) F (4) (by decide) dX4_round_180 rfl ?_
          refine sw_callV (n := 184) F (ct_X4_fails (g := xg x) (l := xl x) o a (va_up (va_up z 8 (roP s n m t Hs)) 2 (roF N Sc s.toNat n m)) 4 (by first | omega | assumption)) (rcv_ob F 0 (ci := 3) rfl rfl) q3973 q3975 qs68 q120 q3976 nd_X4_fails rfl (by decide) [0, 1, 2, 3, 4, 5] (perm_ok _ 6 (by decide +kernel) rfl) [aN (xg x) 0 (a 0) 2400 D1_8, aN (xg x) 0 (a 1) 10 M1_9, aL (xg x) (a 3) 12 N, aI (xg x) 0 (a 4) 12 Sc, aI (xg x) 4 (a 5) 12 Hs] rfl 0 0 ⟨by omega, by omega⟩ [] rfl (Nat.le_of_ble_eq_true rfl) dX4_round_181 rfl (fun _ _ h => h.elim) (fun v Ws h => ?_)
          obtain ⟨rfl, hps_15, rfl⟩ := h
          show SW x [tmO (xg x) o a (va_up (va_up (va_up z 8 (roP s n m t Hs)) 2 (roF N Sc s.toNat n m)) 8 4), aN (xg x) 0 (a 0) 2400 D1_8, aN (xg x) 0 (a 1) 10 M1_9, aL (xg x) (a 3) 12 N, aI (xg x) 0 (a 4) 12 Sc, aI (xg x) 4 (a 5) 12 Hs] _ _ _ _ [.int (jI 1)]
          refine sw_if_eq (n := 187) F (by decide) (tgt := 191) dX4_round_184 (by decide) rfl (fun c_184 => ?_) (fun c_184 => ?_)
          · exfalso; exact absurd c_184 (by decide)
          ·
            refine sw_iconst (n := 188) F (0) (by decide) dX4_round_187 rfl ?_
            refine sw_goto F (n := 198) dX4_round_188 (by decide) ?_
            have e0 : roP s n m t Hs = 0 := by omega
            have e : cd2 4 (roP s n m t Hs) (lrI (roF N Sc s.toNat n m) (laI (roV N Sc s.toNat n m) (roT N Sc s.toNat n m))) = 4 := cd2_r e0 (by omega)
            exact sw_iret F _ rfl (by first | rfl | exact jI_nz (by omega) | exact jI_nc (by omega)) dX4_round_198 (by rw [hPo]; exact ⟨D1_8, M1_9, (by rw [e]; rfl), (by exact v_14.mono (by simp)), (by rw [e]; simp only [up0_p e0, up0_4, up_828, up_88, ev, es])⟩)
        ·
          refine sw_aload_n (n := 149) F 1 (some o) rfl rfl rfl dX4_round_148 rfl ?_
          refine sw_iload (n := 151) F 5 rfl dX4_round_149 rfl ?_
          refine sw_iconst (n := 152) F (4) (by decide) dX4_round_151 rfl ?_
          refine sw_aload_n (n := 153) F 1 (some o) rfl rfl rfl dX4_round_152 rfl ?_
          refine sw_get (n := 156) F 0 rfl (k := 3) ⟨(RX4, TX4, 50), rfl, by decide, q3802, in_X4, Or.inl rfl⟩ (v := .ref (a 3)) rfl dX4_round_153 rfl ?_
          refine sw_iload_n (n := 157) F 2 rfl rfl dX4_round_156 rfl ?_
          refine sw_laloadL (n := 158) F 3 rfl (fun _ => rfl) s.toNat (by omega) (by omega) dX4_round_157 rfl ?_
          refine sw_lconst (n := 159) F 0 (by decide) dX4_round_158 rfl ?_
          refine sw_lcmp (n := 160) F (by omega) (by decide) dX4_round_159 rfl ?_
          refine sw_if_ge (n := 163) F (by omega) (tgt := 167) dX4_round_160 (by decide) rfl (fun c_160 => ?_) (fun c_160 => ?_)
          ·
            have c_160 : N s.toNat ≥ 0 := by revert c_160; (repeat' split) <;> omega
            refine sw_iconst (n := 168) F (0) (by decide) dX4_round_167 rfl ?_
            refine sw_iload (n := 170) F 0 rfl dX4_round_168 rfl ?_
            refine sw_callV (n := 173) F (ct_X4_lays (g := xg x) (l := xl x) o a (va_up (va_up z 8 (roP s n m t Hs)) 2 (roF N Sc s.toNat n m)) D1_8 M1_9 N Sc Hs t.toNat 4 (roQ N Sc s.toNat n m) 0 (roS N Sc s.toNat n) (by first | omega | assumption) (by first | omega | assumption) a_11 r_12 (by first | omega | assumption) (by first | omega | assumption)) (rcv_ob F 0 (ci := 3) rfl rfl) q4020 q4022 qs75 q120 q4023 nd_X4_lays rfl (by decide) [0, 1, 2, 3, 4, 5] (perm_ok _ 6 (by decide +kernel) rfl) [] rfl 0 0 ⟨by omega, by omega⟩ [.ref o] rfl (Nat.le_of_ble_eq_true rfl) dX4_round_170 rfl (fun _ _ h => h.elim) (fun v Ws h => ?_)
            obtain ⟨rfl, hl_16, rfl⟩ := h
            show SW x [tmO (xg x) o a (va_up (va_up z 8 (roP s n m t Hs)) 2 (roF N Sc s.toNat n m)), aN (xg x) 0 (a 0) 2400 D1_8, aN (xg x) 0 (a 1) 10 M1_9, aL (xg x) (a 3) 12 (up1 (laI (roQ N Sc s.toNat n m) (roS N Sc s.toNat n)) N t.toNat (sgn 0 (roQ N Sc s.toNat n m))), aI (xg x) 0 (a 4) 12 (up1 (laI (roQ N Sc s.toNat n m) (roS N Sc s.toNat n)) Sc t.toNat (roS N Sc s.toNat n)), aI (xg x) 4 (a 5) 12 (up1 (laI (roQ N Sc s.toNat n m) (roS N Sc s.toNat n)) Hs t.toNat 1)] _ _ _ _ [.int (jI (laI (roQ N Sc s.toNat n m) (roS N Sc s.toNat n))), .ref o]
            have la_17 := laI_cases (roQ N Sc s.toNat n m) (roS N Sc s.toNat n)
            refine sw_if_eq (n := 176) F (by omega) (tgt := 180) dX4_round_173 (by decide) rfl (fun c_173 => ?_) (fun c_173 => ?_)
            ·
              refine sw_iconst (n := 181) F (4) (by decide) dX4_round_180 rfl ?_
              refine sw_callV (n := 184) F (ct_X4_fails (g := xg x) (l := xl x) o a (va_up (va_up z 8 (roP s n m t Hs)) 2 (roF N Sc s.toNat n m)) 4 (by first | omega | assumption)) (rcv_ob F 0 (ci := 3) rfl rfl) q3973 q3975 qs68 q120 q3976 nd_X4_fails rfl (by decide) [0, 1, 2, 3, 4, 5] (perm_ok _ 6 (by decide +kernel) rfl) [aN (xg x) 0 (a 0) 2400 D1_8, aN (xg x) 0 (a 1) 10 M1_9, aL (xg x) (a 3) 12 (up1 (laI (roQ N Sc s.toNat n m) (roS N Sc s.toNat n)) N t.toNat (sgn 0 (roQ N Sc s.toNat n m))), aI (xg x) 0 (a 4) 12 (up1 (laI (roQ N Sc s.toNat n m) (roS N Sc s.toNat n)) Sc t.toNat (roS N Sc s.toNat n)), aI (xg x) 4 (a 5) 12 (up1 (laI (roQ N Sc s.toNat n m) (roS N Sc s.toNat n)) Hs t.toNat 1)] rfl 0 0 ⟨by omega, by omega⟩ [] rfl (Nat.le_of_ble_eq_true rfl) dX4_round_181 rfl (fun _ _ h => h.elim) (fun v Ws h => ?_)
              obtain ⟨rfl, hps_18, rfl⟩ := h
              show SW x [tmO (xg x) o a (va_up (va_up (va_up z 8 (roP s n m t Hs)) 2 (roF N Sc s.toNat n m)) 8 4), aN (xg x) 0 (a 0) 2400 D1_8, aN (xg x) 0 (a 1) 10 M1_9, aL (xg x) (a 3) 12 (up1 (laI (roQ N Sc s.toNat n m) (roS N Sc s.toNat n)) N t.toNat (sgn 0 (roQ N Sc s.toNat n m))), aI (xg x) 0 (a 4) 12 (up1 (laI (roQ N Sc s.toNat n m) (roS N Sc s.toNat n)) Sc t.toNat (roS N Sc s.toNat n)), aI (xg x) 4 (a 5) 12 (up1 (laI (roQ N Sc s.toNat n m) (roS N Sc s.toNat n)) Hs t.toNat 1)] _ _ _ _ [.int (jI 1)]
              refine sw_if_eq (n := 187) F (by decide) (tgt := 191) dX4_round_184 (by decide) rfl (fun c_184 => ?_) (fun c_184 => ?_)
              · exfalso; exact absurd c_184 (by decide)
              ·
                refine sw_iconst (n := 188) F (0) (by decide) dX4_round_187 rfl ?_
                refine sw_goto F (n := 198) dX4_round_188 (by decide) ?_
                have e0 : roP s n m t Hs = 0 := by omega
                have l1 : laI (roV N Sc s.toNat n m) (roT N Sc s.toNat n m) = 0 := by rw [ev, es]; first | assumption | omega
                have e : cd2 4 (roP s n m t Hs) (lrI (roF N Sc s.toNat n m) (laI (roV N Sc s.toNat n m) (roT N Sc s.toNat n m))) = 4 := cd2_rf e0 l1
                rw [ev, es] at l1
                exact sw_iret F _ rfl (by first | rfl | exact jI_nz (by omega) | exact jI_nc (by omega)) dX4_round_198 (by rw [hPo]; exact ⟨D1_8, M1_9, (by rw [e]; rfl), (by exact v_14.mono (by simp)), (by rw [e]; simp only [up0_p e0, up0_4, l1, up1_00, up_828, up_88, ev, es])⟩)
            ·
              refine sw_iconst (n := 177) F (0) (by decide) dX4_round_176 rfl ?_
              refine sw_goto F (n := 181) dX4_round_177 (by decide) ?_
              refine sw_callV (n := 184) F (ct_X4_fails (g := xg x) (l := xl x) o a (va_up (va_up z 8 (roP s n m t Hs)) 2 (roF N Sc s.toNat n m)) 0 (by first | omega | assumption)) (rcv_ob F 0 (ci := 3) rfl rfl) q3973 q3975 qs68 q120 q3976 nd_X4_fails rfl (by decide) [0, 1, 2, 3, 4, 5] (perm_ok _ 6 (by decide +kernel) rfl) [aN (xg x) 0 (a 0) 2400 D1_8, aN (xg x) 0 (a 1) 10 M1_9, aL (xg x) (a 3) 12 (up1 (laI (roQ N Sc s.toNat n m) (roS N Sc s.toNat n)) N t.toNat (sgn 0 (roQ N Sc s.toNat n m))), aI (xg x) 0 (a 4) 12 (up1 (laI (roQ N Sc s.toNat n m) (roS N Sc s.toNat n)) Sc t.toNat (roS N Sc s.toNat n)), aI (xg x) 4 (a 5) 12 (up1 (laI (roQ N Sc s.toNat n m) (roS N Sc s.toNat n)) Hs t.toNat 1)] rfl 0 0 ⟨by omega, by omega⟩ [] rfl (Nat.le_of_ble_eq_true rfl) dX4_round_181 rfl (fun _ _ h => h.elim) (fun v Ws h => ?_)
              obtain ⟨rfl, hps_19, rfl⟩ := h
              show SW x [tmO (xg x) o a (va_up (va_up (va_up z 8 (roP s n m t Hs)) 2 (roF N Sc s.toNat n m)) 8 0), aN (xg x) 0 (a 0) 2400 D1_8, aN (xg x) 0 (a 1) 10 M1_9, aL (xg x) (a 3) 12 (up1 (laI (roQ N Sc s.toNat n m) (roS N Sc s.toNat n)) N t.toNat (sgn 0 (roQ N Sc s.toNat n m))), aI (xg x) 0 (a 4) 12 (up1 (laI (roQ N Sc s.toNat n m) (roS N Sc s.toNat n)) Sc t.toNat (roS N Sc s.toNat n)), aI (xg x) 4 (a 5) 12 (up1 (laI (roQ N Sc s.toNat n m) (roS N Sc s.toNat n)) Hs t.toNat 1)] _ _ _ _ [.int (jI 0)]
              refine sw_if_eq (n := 187) F (by decide) (tgt := 191) dX4_round_184 (by decide) rfl (fun c_184 => ?_) (fun c_184 => ?_)
              ·
                refine sw_aload_n (n := 192) F 1 (some o) rfl rfl rfl dX4_round_191 rfl ?_
                refine sw_get (n := 195) F 0 rfl (k := 4) ⟨(RX4, TX4, 50), rfl, by decide, q3803, in_X4, Or.inl rfl⟩ (v := .ref (a 4)) rfl dX4_round_192 rfl ?_
                refine sw_iload (n := 197) F 5 rfl dX4_round_195 rfl ?_
                refine sw_ialoadI (n := 198) F 4 rfl (fun _ => rfl) t.toNat (by omega) (by omega) dX4_round_197 rfl ?_
                have e0 : roP s n m t Hs = 0 := by omega
                have l1 : laI (roV N Sc s.toNat n m) (roT N Sc s.toNat n m) = 1 := by rw [ev, es]; omega
                have e : cd2 4 (roP s n m t Hs) (lrI (roF N Sc s.toNat n m) (laI (roV N Sc s.toNat n m) (roT N Sc s.toNat n m))) = 0 := cd2_rt e0 (by omega) (by rw [l1]; decide)
                rw [ev, es] at l1
                exact sw_iret F _ rfl (by first | rfl | exact jI_nz (by omega) | exact jI_nc (by omega)) dX4_round_198 (by rw [hPo]; exact ⟨D1_8, M1_9, (by rw [e, if0_0]; first | rfl | (simp only [l1, up1_11, va_up_self, ev, es])), (by exact v_14.mono (by simp)), (by rw [e]; simp only [up0_p e0, up0_0, l1, up1_11, up_828, up_88, ev, es]; first | rfl | rw [bl_1 (by omega)] | rw [bl_0 (by omega)])⟩)
              · exfalso; exact absurd c_184 (by decide)
          ·
            have c_160 : N s.toNat < 0 := by revert c_160; (repeat' split) <;> omega
            refine sw_iconst (n := 164) F (1) (by decide) dX4_round_163 rfl ?_
            refine sw_goto F (n := 168) dX4_round_164 (by decide) ?_
            refine sw_iload (n := 170) F 0 rfl dX4_round_168 rfl ?_
            refine sw_callV (n := 173) F (ct_X4_lays (g := xg x) (l := xl x) o a (va_up (va_up z 8 (roP s n m t Hs)) 2 (roF N Sc s.toNat n m)) D1_8 M1_9 N Sc Hs t.toNat 4 (roQ N Sc s.toNat n m) 1 (roS N Sc s.toNat n) (by first | omega | assumption) (by first | omega | assumption) a_11 r_12 (by first | omega | assumption) (by first | omega | assumption)) (rcv_ob F 0 (ci := 3) rfl rfl) q4020 q4022 qs75 q120 q4023 nd_X4_lays rfl (by decide) [0, 1, 2, 3, 4, 5] (perm_ok _ 6 (by decide +kernel) rfl) [] rfl 0 0 ⟨by omega, by omega⟩ [.ref o] rfl (Nat.le_of_ble_eq_true rfl) dX4_round_170 rfl (fun _ _ h => h.elim) (fun v Ws h => ?_)
            obtain ⟨rfl, hl_20, rfl⟩ := h
            show SW x [tmO (xg x) o a (va_up (va_up z 8 (roP s n m t Hs)) 2 (roF N Sc s.toNat n m)), aN (xg x) 0 (a 0) 2400 D1_8, aN (xg x) 0 (a 1) 10 M1_9, aL (xg x) (a 3) 12 (up1 (laI (roQ N Sc s.toNat n m) (roS N Sc s.toNat n)) N t.toNat (sgn 1 (roQ N Sc s.toNat n m))), aI (xg x) 0 (a 4) 12 (up1 (laI (roQ N Sc s.toNat n m) (roS N Sc s.toNat n)) Sc t.toNat (roS N Sc s.toNat n)), aI (xg x) 4 (a 5) 12 (up1 (laI (roQ N Sc s.toNat n m) (roS N Sc s.toNat n)) Hs t.toNat 1)] _ _ _ _ [.int (jI (laI (roQ N Sc s.toNat n m) (roS N Sc s.toNat n))), .ref o]
            have la_21 := laI_cases (roQ N Sc s.toNat n m) (roS N Sc s.toNat n)
            refine sw_if_eq (n := 176) F (by omega) (tgt := 180) dX4_round_173 (by decide) rfl (fun c_173 => ?_) (fun c_173 => ?_)
            ·
              refine sw_iconst (n := 181) F (4) (by decide) dX4_round_180 rfl ?_
              refine sw_callV (n := 184) F (ct_X4_fails (g := xg x) (l := xl x) o a (va_up (va_up z 8 (roP s n m t Hs)) 2 (roF N Sc s.toNat n m)) 4 (by first | omega | assumption)) (rcv_ob F 0 (ci := 3) rfl rfl) q3973 q3975 qs68 q120 q3976 nd_X4_fails rfl (by decide) [0, 1, 2, 3, 4, 5] (perm_ok _ 6 (by decide +kernel) rfl) [aN (xg x) 0 (a 0) 2400 D1_8, aN (xg x) 0 (a 1) 10 M1_9, aL (xg x) (a 3) 12 (up1 (laI (roQ N Sc s.toNat n m) (roS N Sc s.toNat n)) N t.toNat (sgn 1 (roQ N Sc s.toNat n m))), aI (xg x) 0 (a 4) 12 (up1 (laI (roQ N Sc s.toNat n m) (roS N Sc s.toNat n)) Sc t.toNat (roS N Sc s.toNat n)), aI (xg x) 4 (a 5) 12 (up1 (laI (roQ N Sc s.toNat n m) (roS N Sc s.toNat n)) Hs t.toNat 1)] rfl 0 0 ⟨by omega, by omega⟩ [] rfl (Nat.le_of_ble_eq_true rfl) dX4_round_181 rfl (fun _ _ h => h.elim) (fun v Ws h => ?_)
              obtain ⟨rfl, hps_22, rfl⟩ := h
              show SW x [tmO (xg x) o a (va_up (va_up (va_up z 8 (roP s n m t Hs)) 2 (roF N Sc s.toNat n m)) 8 4), aN (xg x) 0 (a 0) 2400 D1_8, aN (xg x) 0 (a 1) 10 M1_9, aL (xg x) (a 3) 12 (up1 (laI (roQ N Sc s.toNat n m) (roS N Sc s.toNat n)) N t.toNat (sgn 1 (roQ N Sc s.toNat n m))), aI (xg x) 0 (a 4) 12 (up1 (laI (roQ N Sc s.toNat n m) (roS N Sc s.toNat n)) Sc t.toNat (roS N Sc s.toNat n)), aI (xg x) 4 (a 5) 12 (up1 (laI (roQ N Sc s.toNat n m) (roS N Sc s.toNat n)) Hs t.toNat 1)] _ _ _ _ [.int (jI 1)]
              refine sw_if_eq (n := 187) F (by decide) (tgt := 191) dX4_round_184 (by decide) rfl (fun c_184 => ?_) (fun c_184 => ?_)
              · exfalso; exact absurd c_184 (by decide)
              ·
                refine sw_iconst (n := 188) F (0) (by decide) dX4_round_187 rfl ?_
                refine sw_goto F (n := 198) dX4_round_188 (by decide) ?_
                have e0 : roP s n m t Hs = 0 := by omega
                have l1 : laI (roV N Sc s.toNat n m) (roT N Sc s.toNat n m) = 0 := by rw [ev, es]; first | assumption | omega
                have e : cd2 4 (roP s n m t Hs) (lrI (roF N Sc s.toNat n m) (laI (roV N Sc s.toNat n m) (roT N Sc s.toNat n m))) = 4 := cd2_rf e0 l1
                rw [ev, es] at l1
                exact sw_iret F _ rfl (by first | rfl | exact jI_nz (by omega) | exact jI_nc (by omega)) dX4_round_198 (by rw [hPo]; exact ⟨D1_8, M1_9, (by rw [e]; rfl), (by exact v_14.mono (by simp)), (by rw [e]; simp only [up0_p e0, up0_4, l1, up1_00, up_828, up_88, ev, es])⟩)
            ·
              refine sw_iconst (n := 177) F (0) (by decide) dX4_round_176 rfl ?_
              refine sw_goto F (n := 181) dX4_round_177 (by decide) ?_
              refine sw_callV (n := 184) F (ct_X4_fails (g := xg x) (l := xl x) o a (va_up (va_up z 8 (roP s n m t Hs)) 2 (roF N Sc s.toNat n m)) 0 (by first | omega | assumption)) (rcv_ob F 0 (ci := 3) rfl rfl) q3973 q3975 qs68 q120 q3976 nd_X4_fails rfl (by decide) [0, 1, 2, 3, 4, 5] (perm_ok _ 6 (by decide +kernel) rfl) [aN (xg x) 0 (a 0) 2400 D1_8, aN (xg x) 0 (a 1) 10 M1_9, aL (xg x) (a 3) 12 (up1 (laI (roQ N Sc s.toNat n m) (roS N Sc s.toNat n)) N t.toNat (sgn 1 (roQ N Sc s.toNat n m))), aI (xg x) 0 (a 4) 12 (up1 (laI (roQ N Sc s.toNat n m) (roS N Sc s.toNat n)) Sc t.toNat (roS N Sc s.toNat n)), aI (xg x) 4 (a 5) 12 (up1 (laI (roQ N Sc s.toNat n m) (roS N Sc s.toNat n)) Hs t.toNat 1)] rfl 0 0 ⟨by omega, by omega⟩ [] rfl (Nat.le_of_ble_eq_true rfl) dX4_round_181 rfl (fun _ _ h => h.elim) (fun v Ws h => ?_)
              obtain ⟨rfl, hps_23, rfl⟩ := h
              show SW x [tmO (xg x) o a (va_up (va_up (va_up z 8 (roP s n m t Hs)) 2 (roF N Sc s.toNat n m)) 8 0), aN (xg x) 0 (a 0) 2400 D1_8, aN (xg x) 0 (a 1) 10 M1_9, aL (xg x) (a 3) 12 (up1 (laI (roQ N Sc s.toNat n m) (roS N Sc s.toNat n)) N t.toNat (sgn 1 (roQ N Sc s.toNat n m))), aI (xg x) 0 (a 4) 12 (up1 (laI (roQ N Sc s.toNat n m) (roS N Sc s.toNat n)) Sc t.toNat (roS N Sc s.toNat n)), aI (xg x) 4 (a 5) 12 (up1 (laI (roQ N Sc s.toNat n m) (roS N Sc s.toNat n)) Hs t.toNat 1)] _ _ _ _ [.int (jI 0)]
              refine sw_if_eq (n := 187) F (by decide) (tgt := 191) dX4_round_184 (by decide) rfl (fun c_184 => ?_) (fun c_184 => ?_)
              ·
                refine sw_aload_n (n := 192) F 1 (some o) rfl rfl rfl dX4_round_191 rfl ?_
                refine sw_get (n := 195) F 0 rfl (k := 4) ⟨(RX4, TX4, 50), rfl, by decide, q3803, in_X4, Or.inl rfl⟩ (v := .ref (a 4)) rfl dX4_round_192 rfl ?_
                refine sw_iload (n := 197) F 5 rfl dX4_round_195 rfl ?_
                refine sw_ialoadI (n := 198) F 4 rfl (fun _ => rfl) t.toNat (by omega) (by omega) dX4_round_197 rfl ?_
                have e0 : roP s n m t Hs = 0 := by omega
                have l1 : laI (roV N Sc s.toNat n m) (roT N Sc s.toNat n m) = 1 := by rw [ev, es]; omega
                have e : cd2 4 (roP s n m t Hs) (lrI (roF N Sc s.toNat n m) (laI (roV N Sc s.toNat n m) (roT N Sc s.toNat n m))) = 0 := cd2_rt e0 (by omega) (by rw [l1]; decide)
                rw [ev, es] at l1
                exact sw_iret F _ rfl (by first | rfl | exact jI_nz (by omega) | exact jI_nc (by omega)) dX4_round_198 (by rw [hPo]; exact ⟨D1_8, M1_9, (by rw [e, if0_0]; first | rfl | (simp only [l1, up1_11, va_up_self, ev, es])), (by exact v_14.mono (by simp)), (by rw [e]; simp only [up0_p e0, up0_0, l1, up1_11, up_828, up_88, ev, es]; first | rfl | rw [bl_1 (by omega)] | rw [bl_0 (by omega)])⟩)
              · exfalso; exact absurd c_184 (by decide)
      ·
        have hx5 : 10 * 10 < big := (b76 (n := 10) (by decide)).2.2
        have hx7 : 0 < 10 := by decide
        have hge : 10 ^ n.toNat ≤ roQ N Sc s.toNat n m := by rcases Nat.lt_or_ge (roQ N Sc s.toNat n m) (10 ^ n.toNat) with h9 | h9; (have := rok_le r_12 h9; omega); exact h9
        have ev : roV N Sc s.toNat n m = roQ N Sc s.toNat n m / 10 := if_pos hge
        have es : roT N Sc s.toNat n m = roS N Sc s.toNat n + (-1) := by unfold roT; rw [if_pos hge]; omega
        refine sw_aload_n (n := 114) F 1 (some o) rfl rfl rfl dX4_round_113 rfl ?_
        refine sw_iconst (n := 115) F (4) (by decide) dX4_round_114 rfl ?_
        refine sw_iconst (n := 116) F (0) (by decide) dX4_round_115 rfl ?_
        refine sw_callV (n := 119) F (ct_X4_copies (g := xg x) (l := xl x) o a (va_up (va_up z 8 (roP s n m t Hs)) 2 (roF N Sc s.toNat n m)) D1_8 M1_9 4 0 (roQ N Sc s.toNat n m) (by first | omega | assumption) hx7 (by decide) a_11 r_12) (rcv_ob F 0 (ci := 3) rfl rfl) q4087 q4089 qs86 q120 q4090 nd_X4_copies rfl (by decide) [0, 1, 2, 3, 4, 5] (perm_ok _ 6 (by decide +kernel) rfl) [aL (xg x) (a 3) 12 N, aI (xg x) 0 (a 4) 12 Sc, aI (xg x) 4 (a 5) 12 Hs] rfl 0 0 ⟨by omega, by omega⟩ [] rfl (Nat.le_of_ble_eq_true rfl) dX4_round_116 rfl (fun _ _ h => h.elim) (fun v Ws h => ?_)
        obtain ⟨D1_24, M1_25, rfl, hU_26, rfl⟩ := h
        show SW x [tmO (xg x) o a (va_up (va_up z 8 (roP s n m t Hs)) 2 (roF N Sc s.toNat n m)), aN (xg x) 0 (a 0) 2400 D1_24, aN (xg x) 0 (a 1) 10 M1_25, aL (xg x) (a 3) 12 N, aI (xg x) 0 (a 4) 12 Sc, aI (xg x) 4 (a 5) 12 Hs] _ _ _ _ []
        have a_27 := hU_26.1
        have r_28 : rok D1_24 M1_25 0 (roQ N Sc s.toNat n m) := hU_26.2.2.2
        have k_29 := hU_26.keep (r := 2) (by first | omega | simp | (simp; omega)) k_13
        have k_30 := hU_26.keep (r := 4) (by first | omega | simp | (simp; omega)) r_12
        have v_31 := (v_14.mono (T := [0, 1, 2, 3, 8, 9, 4]) (by simp)).trans hU_26.rv (by simp)
        refine sw_aload_n (n := 120) F 1 (some o) rfl rfl rfl dX4_round_119 rfl ?_
        refine sw_iconst (n := 121) F (1) (by decide) dX4_round_120 rfl ?_
        refine sw_ldc2 (n := 124) F (10) q3980 (by decide) dX4_round_121 rfl ?_
        refine sw_callV (n := 127) F (ct_X4_lets (g := xg x) (l := xl x) o a (va_up (va_up z 8 (roP s n m t Hs)) 2 (roF N Sc s.toNat n m)) D1_24 M1_25 1 10 (by first | omega | assumption) a_27 (by first | omega | assumption)) (rcv_ob F 0 (ci := 3) rfl rfl) q4004 q4006 qs71 q120 q4007 nd_X4_lets rfl (by decide) [0, 1, 2, 3, 4, 5] (perm_ok _ 6 (by decide +kernel) rfl) [aL (xg x) (a 3) 12 N, aI (xg x) 0 (a 4) 12 Sc, aI (xg x) 4 (a 5) 12 Hs] rfl 0 0 ⟨by omega, by omega⟩ [] rfl (Nat.le_of_ble_eq_true rfl) dX4_round_124 rfl (fun _ _ h => h.elim) (fun v Ws h => ?_)
        obtain ⟨D1_32, M1_33, rfl, hU_34, rfl⟩ := h
        show SW x [tmO (xg x) o a (va_up (va_up z 8 (roP s n m t Hs)) 2 (roF N Sc s.toNat n m)), aN (xg x) 0 (a 0) 2400 D1_32, aN (xg x) 0 (a 1) 10 M1_33, aL (xg x) (a 3) 12 N, aI (xg x) 0 (a 4) 12 Sc, aI (xg x) 4 (a 5) 12 Hs] _ _ _ _ []
        have a_35 := hU_34.1
        have r_36 : rok D1_32 M1_33 1 10 := hU_34.2.2.2
        have k_37 := hU_34.keep (r := 4) (by first | omega | simp | (simp; omega)) k_30
        have k_38 := hU_34.keep (r := 2) (by first | omega | simp | (simp; omega)) k_29
        have k_39 := hU_34.keep (r := 0) (by first | omega | simp | (simp; omega)) r_28
        have v_40 := (v_31.mono (T := [0, 1, 2, 3, 8, 9, 4]) (by simp)).trans hU_34.rv (by simp)
        refine sw_aload_n (n := 128) F 1 (some o) rfl rfl rfl dX4_round_127 rfl ?_
        refine sw_callV (n := 131) F (ct_X4_divides (g := xg x) (l := xl x) o a (va_up (va_up z 8 (roP s n m t Hs)) 2 (roF N Sc s.toNat n m)) D1_32 M1_33 (roQ N Sc s.toNat n m) 10 a_35 k_39 r_36 hx7 hx5) (rcv_ob F 0 (ci := 3) rfl rfl) q4127 q4129 qs91 q120 q4130 nd_X4_divides rfl (by decide) [0, 1, 2, 3, 4, 5] (perm_ok _ 6 (by decide +kernel) rfl) [aL (xg x) (a 3) 12 N, aI (xg x) 0 (a 4) 12 Sc, aI (xg x) 4 (a 5) 12 Hs] rfl 0 0 ⟨by omega, by omega⟩ [] rfl (Nat.le_of_ble_eq_true rfl) dX4_round_128 rfl (fun _ _ h => h.elim) (fun v Ws h => ?_)
        obtain ⟨D1_41, M1_42, rfl, hV_43, hq_44, hr_45, rfl⟩ := h
        show SW x [tmO (xg x) o a (va_up (va_up z 8 (roP s n m t Hs)) 2 (roF N Sc s.toNat n m)), aN (xg x) 0 (a 0) 2400 D1_41, aN (xg x) 0 (a 1) 10 M1_42, aL (xg x) (a 3) 12 N, aI (xg x) 0 (a 4) 12 Sc, aI (xg x) 4 (a 5) 12 Hs] _ _ _ _ []
        have a_46 := hV_43.1
        have k_47 := hV_43.keep (r := 0) (by first | omega | simp | (simp; omega)) k_39
        have k_48 := hV_43.keep (r := 4) (by first | omega | simp | (simp; omega)) k_37
        have k_49 := hV_43.keep (r := 1) (by first | omega | simp | (simp; omega)) r_36
        have v_50 := (v_40.mono (T := [0, 1, 2, 3, 8, 9, 4]) (by simp)).trans hV_43 (by simp)
        refine sw_aload_n (n := 132) F 1 (some o) rfl rfl rfl dX4_round_131 rfl ?_
        refine sw_iconst (n := 133) F (2) (by decide) dX4_round_132 rfl ?_
        refine sw_iconst (n := 134) F (4) (by decide) dX4_round_133 rfl ?_
        refine sw_callV (n := 137) F (ct_X4_copies (g := xg x) (l := xl x) o a (va_up (va_up z 8 (roP s n m t Hs)) 2 (roF N Sc s.toNat n m)) D1_41 M1_42 2 4 ((roQ N Sc s.toNat n m) / 10) (by first | omega | assumption) (by first | omega | assumption) (by decide) a_46 hq_44) (rcv_ob F 0 (ci := 3) rfl rfl) q4087 q4089 qs86 q120 q4090 nd_X4_copies rfl (by decide) [0, 1, 2, 3, 4, 5] (perm_ok _ 6 (by decide +kernel) rfl) [aL (xg x) (a 3) 12 N, aI (xg x) 0 (a 4) 12 Sc, aI (xg x) 4 (a 5) 12 Hs] rfl 0 0 ⟨by omega, by omega⟩ [] rfl (Nat.le_of_ble_eq_true rfl) dX4_round_134 rfl (fun _ _ h => h.elim) (fun v Ws h => ?_)
        obtain ⟨D1_51, M1_52, rfl, hU_53, rfl⟩ := h
        show SW x [tmO (xg x) o a (va_up (va_up z 8 (roP s n m t Hs)) 2 (roF N Sc s.toNat n m)), aN (xg x) 0 (a 0) 2400 D1_51, aN (xg x) 0 (a 1) 10 M1_52, aL (xg x) (a 3) 12 N, aI (xg x) 0 (a 4) 12 Sc, aI (xg x) 4 (a 5) 12 Hs] _ _ _ _ []
        have a_54 := hU_53.1
        have r_55 : rok D1_51 M1_52 4 ((roQ N Sc s.toNat n m) / 10) := hU_53.2.2.2
        have k_56 := hU_53.keep (r := 1) (by first | omega | simp | (simp; omega)) k_49
        have k_57 := hU_53.keep (r := 0) (by first | omega | simp | (simp; omega)) k_47
        have k_58 := hU_53.keep (r := 3) (by first | omega | simp | (simp; omega)) hr_45
        have k_59 := hU_53.keep (r := 2) (by first | omega | simp | (simp; omega)) hq_44
        have v_60 := (v_50.mono (T := [0, 1, 2, 3, 8, 9, 4]) (by simp)).trans hU_53.rv (by simp)
        refine sw_iinc (n := 140) F 0 (L2 := [(5, .int (jI (roS N Sc s.toNat n + (-1)))), (0, .ref o), (1, .int (jI (↑(s.toNat)))), (2, .int (jI n)), (3, .int (jI m)), (4, .int (jI (↑(t.toNat))))]) rfl rfl (by decide) dX4_round_137 rfl ?_
        refine sw_aload_n (n := 141) F 1 (some o) rfl rfl rfl dX4_round_140 rfl ?_
        refine sw_aload_n (n := 142) F 1 (some o) rfl rfl rfl dX4_round_141 rfl ?_
        refine sw_get (n := 145) F 0 rfl (k := 2) ⟨(RX4, TX4, 50), rfl, by decide, q3801, in_X4, Or.inl rfl⟩ (v := .int (jI (roF N Sc s.toNat n m))) rfl dX4_round_142 rfl ?_
        refine sw_if_ne (n := 148) F (by omega) (tgt := 180) dX4_round_145 (by decide) rfl (fun c_145 => ?_) (fun c_145 => ?_)
        ·
          refine sw_iconst (n := 181) F (4) (by decide) dX4_round_180 rfl ?_
          refine sw_callV (n := 184) F (ct_X4_fails (g := xg x) (l := xl x) o a (va_up (va_up z 8 (roP s n m t Hs)) 2 (roF N Sc s.toNat n m)) 4 (by first | omega | assumption)) (rcv_ob F 0 (ci := 3) rfl rfl) q3973 q3975 qs68 q120 q3976 nd_X4_fails rfl (by decide) [0, 1, 2, 3, 4, 5] (perm_ok _ 6 (by decide +kernel) rfl) [aN (xg x) 0 (a 0) 2400 D1_51, aN (xg x) 0 (a 1) 10 M1_52, aL (xg x) (a 3) 12 N, aI (xg x) 0 (a 4) 12 Sc, aI (xg x) 4 (a 5) 12 Hs] rfl 0 0 ⟨by omega, by omega⟩ [] rfl (Nat.le_of_ble_eq_true rfl) dX4_round_181 rfl (fun _ _ h => h.elim) (fun v Ws h => ?_)
          obtain ⟨rfl, hps_61, rfl⟩ := h
          show SW x [tmO (xg x) o a (va_up (va_up (va_up z 8 (roP s n m t Hs)) 2 (roF N Sc s.toNat n m)) 8 4), aN (xg x) 0 (a 0) 2400 D1_51, aN (xg x) 0 (a 1) 10 M1_52, aL (xg x) (a 3) 12 N, aI (xg x) 0 (a 4) 12 Sc, aI (xg x) 4 (a 5) 12 Hs] _ _ _ _ [.int (jI 1)]
          refine sw_if_eq (n := 187) F (by decide) (tgt := 191) dX4_round_184 (by decide) rfl (fun c_184 => ?_) (fun c_184 => ?_)
          · exfalso; exact absurd c_184 (by decide)
          ·
            refine sw_iconst (n := 188) F (0) (by decide) dX4_round_187 rfl ?_
            refine sw_goto F (n := 198) dX4_round_188 (by decide) ?_
            have e0 : roP s n m t Hs = 0 := by omega
            have e : cd2 4 (roP s n m t Hs) (lrI (roF N Sc s.toNat n m) (laI (roV N Sc s.toNat n m) (roT N Sc s.toNat n m))) = 4 := cd2_r e0 (by omega)
            exact sw_iret F _ rfl (by first | rfl | exact jI_nz (by omega) | exact jI_nc (by omega)) dX4_round_198 (by rw [hPo]; exact ⟨D1_51, M1_52, (by rw [e]; rfl), (by exact v_60.mono (by simp)), (by rw [e]; simp only [up0_p e0, up0_4, up_828, up_88, ev, es])⟩)
        ·
          refine sw_aload_n (n := 149) F 1 (some o) rfl rfl rfl dX4_round_148 rfl ?_
          refine sw_iload (n := 151) F 5 rfl dX4_round_149 rfl ?_
          refine sw_iconst (n := 152) F (4) (by decide) dX4_round_151 rfl ?_
          refine sw_aload_n (n := 153) F 1 (some o) rfl rfl rfl dX4_round_152 rfl ?_
          refine sw_get (n := 156) F 0 rfl (k := 3) ⟨(RX4, TX4, 50), rfl, by decide, q3802, in_X4, Or.inl rfl⟩ (v := .ref (a 3)) rfl dX4_round_153 rfl ?_
          refine sw_iload_n (n := 157) F 2 rfl rfl dX4_round_156 rfl ?_
          refine sw_laloadL (n := 158) F 3 rfl (fun _ => rfl) s.toNat (by omega) (by omega) dX4_round_157 rfl ?_
          refine sw_lconst (n := 159) F 0 (by decide) dX4_round_158 rfl ?_
          refine sw_lcmp (n := 160) F (by omega) (by decide) dX4_round_159 rfl ?_
          refine sw_if_ge (n := 163) F (by omega) (tgt := 167) dX4_round_160 (by decide) rfl (fun c_160 => ?_) (fun c_160 => ?_)
          ·
            have c_160 : N s.toNat ≥ 0 := by revert c_160; (repeat' split) <;> omega
            refine sw_iconst (n := 168) F (0) (by decide) dX4_round_167 rfl ?_
            refine sw_iload (n := 170) F 0 rfl dX4_round_168 rfl ?_
            refine sw_callV (n := 173) F (ct_X4_lays (g := xg x) (l := xl x) o a (va_up (va_up z 8 (roP s n m t Hs)) 2 (roF N Sc s.toNat n m)) D1_51 M1_52 N Sc Hs t.toNat 4 ((roQ N Sc s.toNat n m) / 10) 0 (roS N Sc s.toNat n + (-1)) (by first | omega | assumption) (by first | omega | assumption) a_54 r_55 (by first | omega | assumption) (by first | omega | assumption)) (rcv_ob F 0 (ci := 3) rfl rfl) q4020 q4022 qs75 q120 q4023 nd_X4_lays rfl (by decide) [0, 1, 2, 3, 4, 5] (perm_ok _ 6 (by decide +kernel) rfl) [] rfl 0 0 ⟨by omega, by omega⟩ [.ref o] rfl (Nat.le_of_ble_eq_true rfl) dX4_round_170 rfl (fun _ _ h => h.elim) (fun v Ws h => ?_)
            obtain ⟨rfl, hl_62, rfl⟩ := h
            show SW x [tmO (xg x) o a (va_up (va_up z 8 (roP s n m t Hs)) 2 (roF N Sc s.toNat n m)), aN (xg x) 0 (a 0) 2400 D1_51, aN (xg x) 0 (a 1) 10 M1_52, aL (xg x) (a 3) 12 (up1 (laI ((roQ N Sc s.toNat n m) / 10) (roS N Sc s.toNat n + (-1))) N t.toNat (sgn 0 ((roQ N Sc s.toNat n m) / 10))), aI (xg x) 0 (a 4) 12 (up1 (laI ((roQ N Sc s.toNat n m) / 10) (roS N Sc s.toNat n + (-1))) Sc t.toNat (roS N Sc s.toNat n + (-1))), aI (xg x) 4 (a 5) 12 (up1 (laI ((roQ N Sc s.toNat n m) / 10) (roS N Sc s.toNat n + (-1))) Hs t.toNat 1)] _ _ _ _ [.int (jI (laI ((roQ N Sc s.toNat n m) / 10) (roS N Sc s.toNat n + (-1)))), .ref o]
            have la_63 := laI_cases ((roQ N Sc s.toNat n m) / 10) (roS N Sc s.toNat n + (-1))
            refine sw_if_eq (n := 176) F (by omega) (tgt := 180) dX4_round_173 (by decide) rfl (fun c_173 => ?_) (fun c_173 => ?_)
            ·
              refine sw_iconst (n := 181) F (4) (by decide) dX4_round_180 rfl ?_
              refine sw_callV (n := 184) F (ct_X4_fails (g := xg x) (l := xl x) o a (va_up (va_up z 8 (roP s n m t Hs)) 2 (roF N Sc s.toNat n m)) 4 (by first | omega | assumption)) (rcv_ob F 0 (ci := 3) rfl rfl) q3973 q3975 qs68 q120 q3976 nd_X4_fails rfl (by decide) [0, 1, 2, 3, 4, 5] (perm_ok _ 6 (by decide +kernel) rfl) [aN (xg x) 0 (a 0) 2400 D1_51, aN (xg x) 0 (a 1) 10 M1_52, aL (xg x) (a 3) 12 (up1 (laI ((roQ N Sc s.toNat n m) / 10) (roS N Sc s.toNat n + (-1))) N t.toNat (sgn 0 ((roQ N Sc s.toNat n m) / 10))), aI (xg x) 0 (a 4) 12 (up1 (laI ((roQ N Sc s.toNat n m) / 10) (roS N Sc s.toNat n + (-1))) Sc t.toNat (roS N Sc s.toNat n + (-1))), aI (xg x) 4 (a 5) 12 (up1 (laI ((roQ N Sc s.toNat n m) / 10) (roS N Sc s.toNat n + (-1))) Hs t.toNat 1)] rfl 0 0 ⟨by omega, by omega⟩ [] rfl (Nat.le_of_ble_eq_true rfl) dX4_round_181 rfl (fun _ _ h => h.elim) (fun v Ws h => ?_)
              obtain ⟨rfl, hps_64, rfl⟩ := h
              show SW x [tmO (xg x) o a (va_up (va_up (va_up z 8 (roP s n m t Hs)) 2 (roF N Sc s.toNat n m)) 8 4), aN (xg x) 0 (a 0) 2400 D1_51, aN (xg x) 0 (a 1) 10 M1_52, aL (xg x) (a 3) 12 (up1 (laI ((roQ N Sc s.toNat n m) / 10) (roS N Sc s.toNat n + (-1))) N t.toNat (sgn 0 ((roQ N Sc s.toNat n m) / 10))), aI (xg x) 0 (a 4) 12 (up1 (laI ((roQ N Sc s.toNat n m) / 10) (roS N Sc s.toNat n + (-1))) Sc t.toNat (roS N Sc s.toNat n + (-1))), aI (xg x) 4 (a 5) 12 (up1 (laI ((roQ N Sc s.toNat n m) / 10) (roS N Sc s.toNat n + (-1))) Hs t.toNat 1)] _ _ _ _ [.int (jI 1)]
              refine sw_if_eq (n := 187) F (by decide) (tgt := 191) dX4_round_184 (by decide) rfl (fun c_184 => ?_) (fun c_184 => ?_)
              · exfalso; exact absurd c_184 (by decide)
              ·
                refine sw_iconst (n := 188) F (0) (by decide) dX4_round_187 rfl ?_
                refine sw_goto F (n := 198) dX4_round_188 (by decide) ?_
                have e0 : roP s n m t Hs = 0 := by omega
                have l1 : laI (roV N Sc s.toNat n m) (roT N Sc s.toNat n m) = 0 := by rw [ev, es]; first | assumption | omega
                have e : cd2 4 (roP s n m t Hs) (lrI (roF N Sc s.toNat n m) (laI (roV N Sc s.toNat n m) (roT N Sc s.toNat n m))) = 4 := cd2_rf e0 l1
                rw [ev, es] at l1
                exact sw_iret F _ rfl (by first | rfl | exact jI_nz (by omega) | exact jI_nc (by omega)) dX4_round_198 (by rw [hPo]; exact ⟨D1_51, M1_52, (by rw [e]; rfl), (by exact v_60.mono (by simp)), (by rw [e]; simp only [up0_p e0, up0_4, l1, up1_00, up_828, up_88, ev, es])⟩)
            ·
              refine sw_iconst (n := 177) F (0) (by decide) dX4_round_176 rfl ?_
              refine sw_goto F (n := 181) dX4_round_177 (by decide) ?_
              refine sw_callV (n := 184) F (ct_X4_fails (g := xg x) (l := xl x) o a (va_up (va_up z 8 (roP s n m t Hs)) 2 (roF N Sc s.toNat n m)) 0 (by first | omega | assumption)) (rcv_ob F 0 (ci := 3) rfl rfl) q3973 q3975 qs68 q120 q3976 nd_X4_fails rfl (by decide) [0, 1, 2, 3, 4, 5] (perm_ok _ 6 (by decide +kernel) rfl) [aN (xg x) 0 (a 0) 2400 D1_51, aN (xg x) 0 (a 1) 10 M1_52, aL (xg x) (a 3) 12 (up1 (laI ((roQ N Sc s.toNat n m) / 10) (roS N Sc s.toNat n + (-1))) N t.toNat (sgn 0 ((roQ N Sc s.toNat n m) / 10))), aI (xg x) 0 (a 4) 12 (up1 (laI ((roQ N Sc s.toNat n m) / 10) (roS N Sc s.toNat n + (-1))) Sc t.toNat (roS N Sc s.toNat n + (-1))), aI (xg x) 4 (a 5) 12 (up1 (laI ((roQ N Sc s.toNat n m) / 10) (roS N Sc s.toNat n + (-1))) Hs t.toNat 1)] rfl 0 0 ⟨by omega, by omega⟩ [] rfl (Nat.le_of_ble_eq_true rfl) dX4_round_181 rfl (fun _ _ h => h.elim) (fun v Ws h => ?_)
              obtain ⟨rfl, hps_65, rfl⟩ := h
              show SW x [tmO (xg x) o a (va_up (va_up (va_up z 8 (roP s n m t Hs)) 2 (roF N Sc s.toNat n m)) 8 0), aN (xg x) 0 (a 0) 2400 D1_51, aN (xg x) 0 (a 1) 10 M1_52, aL (xg x) (a 3) 12 (up1 (laI ((roQ N Sc s.toNat n m) / 10) (roS N Sc s.toNat n + (-1))) N t.toNat (sgn 0 ((roQ N Sc s.toNat n m) / 10))), aI (xg x) 0 (a 4) 12 (up1 (laI ((roQ N Sc s.toNat n m) / 10) (roS N Sc s.toNat n + (-1))) Sc t.toNat (roS N Sc s.toNat n + (-1))), aI (xg x) 4 (a 5) 12 (up1 (laI ((roQ N Sc s.toNat n m) / 10) (roS N Sc s.toNat n + (-1))) Hs t.toNat 1)] _ _ _ _ [.int (jI 0)]
              refine sw_if_eq (n := 187) F (by decide) (tgt := 191) dX4_round_184 (by decide) rfl (fun c_184 => ?_) (fun c_184 => ?_)
              ·
                refine sw_aload_n (n := 192) F 1 (some o) rfl rfl rfl dX4_round_191 rfl ?_
                refine sw_get (n := 195) F 0 rfl (k := 4) ⟨(RX4, TX4, 50), rfl, by decide, q3803, in_X4, Or.inl rfl⟩ (v := .ref (a 4)) rfl dX4_round_192 rfl ?_
                refine sw_iload (n := 197) F 5 rfl dX4_round_195 rfl ?_
                refine sw_ialoadI (n := 198) F 4 rfl (fun _ => rfl) t.toNat (by omega) (by omega) dX4_round_197 rfl ?_
                have e0 : roP s n m t Hs = 0 := by omega
                have l1 : laI (roV N Sc s.toNat n m) (roT N Sc s.toNat n m) = 1 := by rw [ev, es]; omega
                have e : cd2 4 (roP s n m t Hs) (lrI (roF N Sc s.toNat n m) (laI (roV N Sc s.toNat n m) (roT N Sc s.toNat n m))) = 0 := cd2_rt e0 (by omega) (by rw [l1]; decide)
                rw [ev, es] at l1
                exact sw_iret F _ rfl (by first | rfl | exact jI_nz (by omega) | exact jI_nc (by omega)) dX4_round_198 (by rw [hPo]; exact ⟨D1_51, M1_52, (by rw [e, if0_0]; first | rfl | (simp only [l1, up1_11, va_up_self, ev, es])), (by exact v_60.mono (by simp)), (by rw [e]; simp only [up0_p e0, up0_0, l1, up1_11, up_828, up_88, ev, es]; first | rfl | rw [bl_1 (by omega)] | rw [bl_0 (by omega)])⟩)
              · exfalso; exact absurd c_184 (by decide)
          ·
            have c_160 : N s.toNat < 0 := by revert c_160; (repeat' split) <;> omega
            refine sw_iconst (n := 164) F (1) (by decide) dX4_round_163 rfl ?_
            refine sw_goto F (n := 168) dX4_round_164 (by decide) ?_
            refine sw_iload (n := 170) F 0 rfl dX4_round_168 rfl ?_
            refine sw_callV (n := 173) F (ct_X4_lays (g := xg x) (l := xl x) o a (va_up (va_up z 8 (roP s n m t Hs)) 2 (roF N Sc s.toNat n m)) D1_51 M1_52 N Sc Hs t.toNat 4 ((roQ N Sc s.toNat n m) / 10) 1 (roS N Sc s.toNat n + (-1)) (by first | omega | assumption) (by first | omega | assumption) a_54 r_55 (by first | omega | assumption) (by first | omega | assumption)) (rcv_ob F 0 (ci := 3) rfl rfl) q4020 q4022 qs75 q120 q4023 nd_X4_lays rfl (by decide) [0, 1, 2, 3, 4, 5] (perm_ok _ 6 (by decide +kernel) rfl) [] rfl 0 0 ⟨by omega, by omega⟩ [.ref o] rfl (Nat.le_of_ble_eq_true rfl) dX4_round_170 rfl (fun _ _ h => h.elim) (fun v Ws h => ?_)
            obtain ⟨rfl, hl_66, rfl⟩ := h
            show SW x [tmO (xg x) o a (va_up (va_up z 8 (roP s n m t Hs)) 2 (roF N Sc s.toNat n m)), aN (xg x) 0 (a 0) 2400 D1_51, aN (xg x) 0 (a 1) 10 M1_52, aL (xg x) (a 3) 12 (up1 (laI ((roQ N Sc s.toNat n m) / 10) (roS N Sc s.toNat n + (-1))) N t.toNat (sgn 1 ((roQ N Sc s.toNat n m) / 10))), aI (xg x) 0 (a 4) 12 (up1 (laI ((roQ N Sc s.toNat n m) / 10) (roS N Sc s.toNat n + (-1))) Sc t.toNat (roS N Sc s.toNat n + (-1))), aI (xg x) 4 (a 5) 12 (up1 (laI ((roQ N Sc s.toNat n m) / 10) (roS N Sc s.toNat n + (-1))) Hs t.toNat 1)] _ _ _ _ [.int (jI (laI ((roQ N Sc s.toNat n m) / 10) (roS N Sc s.toNat n + (-1)))), .ref o]
            have la_67 := laI_cases ((roQ N Sc s.toNat n m) / 10) (roS N Sc s.toNat n + (-1))
            refine sw_if_eq (n := 176) F (by omega) (tgt := 180) dX4_round_173 (by decide) rfl (fun c_173 => ?_) (fun c_173 => ?_)
            ·
              refine sw_iconst (n := 181) F (4) (by decide) dX4_round_180 rfl ?_
              refine sw_callV (n := 184) F (ct_X4_fails (g := xg x) (l := xl x) o a (va_up (va_up z 8 (roP s n m t Hs)) 2 (roF N Sc s.toNat n m)) 4 (by first | omega | assumption)) (rcv_ob F 0 (ci := 3) rfl rfl) q3973 q3975 qs68 q120 q3976 nd_X4_fails rfl (by decide) [0, 1, 2, 3, 4, 5] (perm_ok _ 6 (by decide +kernel) rfl) [aN (xg x) 0 (a 0) 2400 D1_51, aN (xg x) 0 (a 1) 10 M1_52, aL (xg x) (a 3) 12 (up1 (laI ((roQ N Sc s.toNat n m) / 10) (roS N Sc s.toNat n + (-1))) N t.toNat (sgn 1 ((roQ N Sc s.toNat n m) / 10))), aI (xg x) 0 (a 4) 12 (up1 (laI ((roQ N Sc s.toNat n m) / 10) (roS N Sc s.toNat n + (-1))) Sc t.toNat (roS N Sc s.toNat n + (-1))), aI (xg x) 4 (a 5) 12 (up1 (laI ((roQ N Sc s.toNat n m) / 10) (roS N Sc s.toNat n + (-1))) Hs t.toNat 1)] rfl 0 0 ⟨by omega, by omega⟩ [] rfl (Nat.le_of_ble_eq_true rfl) dX4_round_181 rfl (fun _ _ h => h.elim) (fun v Ws h => ?_)
              obtain ⟨rfl, hps_68, rfl⟩ := h
              show SW x [tmO (xg x) o a (va_up (va_up (va_up z 8 (roP s n m t Hs)) 2 (roF N Sc s.toNat n m)) 8 4), aN (xg x) 0 (a 0) 2400 D1_51, aN (xg x) 0 (a 1) 10 M1_52, aL (xg x) (a 3) 12 (up1 (laI ((roQ N Sc s.toNat n m) / 10) (roS N Sc s.toNat n + (-1))) N t.toNat (sgn 1 ((roQ N Sc s.toNat n m) / 10))), aI (xg x) 0 (a 4) 12 (up1 (laI ((roQ N Sc s.toNat n m) / 10) (roS N Sc s.toNat n + (-1))) Sc t.toNat (roS N Sc s.toNat n + (-1))), aI (xg x) 4 (a 5) 12 (up1 (laI ((roQ N Sc s.toNat n m) / 10) (roS N Sc s.toNat n + (-1))) Hs t.toNat 1)] _ _ _ _ [.int (jI 1)]
              refine sw_if_eq (n := 187) F (by decide) (tgt := 191) dX4_round_184 (by decide) rfl (fun c_184 => ?_) (fun c_184 => ?_)
              · exfalso; exact absurd c_184 (by decide)
              ·
                refine sw_iconst (n := 188) F (0) (by decide) dX4_round_187 rfl ?_
                refine sw_goto F (n := 198) dX4_round_188 (by decide) ?_
                have e0 : roP s n m t Hs = 0 := by omega
                have l1 : laI (roV N Sc s.toNat n m) (roT N Sc s.toNat n m) = 0 := by rw [ev, es]; first | assumption | omega
                have e : cd2 4 (roP s n m t Hs) (lrI (roF N Sc s.toNat n m) (laI (roV N Sc s.toNat n m) (roT N Sc s.toNat n m))) = 4 := cd2_rf e0 l1
                rw [ev, es] at l1
                exact sw_iret F _ rfl (by first | rfl | exact jI_nz (by omega) | exact jI_nc (by omega)) dX4_round_198 (by rw [hPo]; exact ⟨D1_51, M1_52, (by rw [e]; rfl), (by exact v_60.mono (by simp)), (by rw [e]; simp only [up0_p e0, up0_4, l1, up1_00, up_828, up_88, ev, es])⟩)
            ·
              refine sw_iconst (n := 177) F (0) (by decide) dX4_round_176 rfl ?_
              refine sw_goto F (n := 181) dX4_round_177 (by decide) ?_
              refine sw_callV (n := 184) F (ct_X4_fails (g := xg x) (l := xl x) o a (va_up (va_up z 8 (roP s n m t Hs)) 2 (roF N Sc s.toNat n m)) 0 (by first | omega | assumption)) (rcv_ob F 0 (ci := 3) rfl rfl) q3973 q3975 qs68 q120 q3976 nd_X4_fails rfl (by decide) [0, 1, 2, 3, 4, 5] (perm_ok _ 6 (by decide +kernel) rfl) [aN (xg x) 0 (a 0) 2400 D1_51, aN (xg x) 0 (a 1) 10 M1_52, aL (xg x) (a 3) 12 (up1 (laI ((roQ N Sc s.toNat n m) / 10) (roS N Sc s.toNat n + (-1))) N t.toNat (sgn 1 ((roQ N Sc s.toNat n m) / 10))), aI (xg x) 0 (a 4) 12 (up1 (laI ((roQ N Sc s.toNat n m) / 10) (roS N Sc s.toNat n + (-1))) Sc t.toNat (roS N Sc s.toNat n + (-1))), aI (xg x) 4 (a 5) 12 (up1 (laI ((roQ N Sc s.toNat n m) / 10) (roS N Sc s.toNat n + (-1))) Hs t.toNat 1)] rfl 0 0 ⟨by omega, by omega⟩ [] rfl (Nat.le_of_ble_eq_true rfl) dX4_round_181 rfl (fun _ _ h => h.elim) (fun v Ws h => ?_)
              obtain ⟨rfl, hps_69, rfl⟩ := h
              show SW x [tmO (xg x) o a (va_up (va_up (va_up z 8 (roP s n m t Hs)) 2 (roF N Sc s.toNat n m)) 8 0), aN (xg x) 0 (a 0) 2400 D1_51, aN (xg x) 0 (a 1) 10 M1_52, aL (xg x) (a 3) 12 (up1 (laI ((roQ N Sc s.toNat n m) / 10) (roS N Sc s.toNat n + (-1))) N t.toNat (sgn 1 ((roQ N Sc s.toNat n m) / 10))), aI (xg x) 0 (a 4) 12 (up1 (laI ((roQ N Sc s.toNat n m) / 10) (roS N Sc s.toNat n + (-1))) Sc t.toNat (roS N Sc s.toNat n + (-1))), aI (xg x) 4 (a 5) 12 (up1 (laI ((roQ N Sc s.toNat n m) / 10) (roS N Sc s.toNat n + (-1))) Hs t.toNat 1)] _ _ _ _ [.int (jI 0)]
              refine sw_if_eq (n := 187) F (by decide) (tgt := 191) dX4_round_184 (by decide) rfl (fun c_184 => ?_) (fun c_184 => ?_)
              ·
                refine sw_aload_n (n := 192) F 1 (some o) rfl rfl rfl dX4_round_191 rfl ?_
                refine sw_get (n := 195) F 0 rfl (k := 4) ⟨(RX4, TX4, 50), rfl, by decide, q3803, in_X4, Or.inl rfl⟩ (v := .ref (a 4)) rfl dX4_round_192 rfl ?_
                refine sw_iload (n := 197) F 5 rfl dX4_round_195 rfl ?_
                refine sw_ialoadI (n := 198) F 4 rfl (fun _ => rfl) t.toNat (by omega) (by omega) dX4_round_197 rfl ?_
                have e0 : roP s n m t Hs = 0 := by omega
                have l1 : laI (roV N Sc s.toNat n m) (roT N Sc s.toNat n m) = 1 := by rw [ev, es]; omega
                have e : cd2 4 (roP s n m t Hs) (lrI (roF N Sc s.toNat n m) (laI (roV N Sc s.toNat n m) (roT N Sc s.toNat n m))) = 0 := cd2_rt e0 (by omega) (by rw [l1]; decide)
                rw [ev, es] at l1
                exact sw_iret F _ rfl (by first | rfl | exact jI_nz (by omega) | exact jI_nc (by omega)) dX4_round_198 (by rw [hPo]; exact ⟨D1_51, M1_52, (by rw [e, if0_0]; first | rfl | (simp only [l1, up1_11, va_up_self, ev, es])), (by exact v_60.mono (by simp)), (by rw [e]; simp only [up0_p e0, up0_0, l1, up1_11, up_828, up_88, ev, es]; first | rfl | rw [bl_1 (by omega)] | rw [bl_0 (by omega)])⟩)
              · exfalso; exact absurd c_184 (by decide)
    ·
      refine sw_iconst (n := 64) F (0) (by decide) dX4_round_63 rfl ?_
      have e0 : roP s n m t Hs ≠ 0 := by omega
      have e : cd2 4 (roP s n m t Hs) (lrI (roF N Sc s.toNat n m) (laI (roV N Sc s.toNat n m) (roT N Sc s.toNat n m))) = roP s n m t Hs := cd2_n e0
      exact sw_iret F _ rfl (by first | rfl | exact jI_nz (by omega) | exact jI_nc (by omega)) dX4_round_64 (by rw [hPo]; exact ⟨D, M, (by first | rw [e, if0_n e0] | (rw [e]; exact congrArg _ (congrArg _ (if0_n e0)))), (by exact (RV.rf hA).mono (S := []) (by simp)), (by rw [e]; simp only [up0_n e0, up_828, up_88])⟩)
  refine sw_iload_n (n := 2) F 1 rfl rfl dX4_round_1 rfl ?_
  refine sw_callS (n := 5) F (ct_X4_isShelf (g := xg x) (l := xl x) s hs) q3959 q3960 q120 q3961 nd_X4_isShelf rfl (by decide) [0, 1, 2, 3, 4, 5] (perm_ok _ 6 (by decide +kernel) rfl) [tmO (xg x) o a z, aN (xg x) 0 (a 0) 2400 D, aN (xg x) 0 (a 1) 10 M, aL (xg x) (a 3) 12 N, aI (xg x) 0 (a 4) 12 Sc, aI (xg x) 4 (a 5) 12 Hs] rfl 0 0 ⟨by omega, by omega⟩ [.ref o] rfl (Nat.le_of_ble_eq_true rfl) dX4_round_2 rfl (fun _ _ h => h.elim) (fun v Ws h => ?_)
  obtain ⟨rfl, hs_70, rfl⟩ := h
  show SW x [tmO (xg x) o a z, aN (xg x) 0 (a 0) 2400 D, aN (xg x) 0 (a 1) 10 M, aL (xg x) (a 3) 12 N, aI (xg x) 0 (a 4) 12 Sc, aI (xg x) 4 (a 5) 12 Hs] _ _ _ _ [.int (jI (inI s 0 11)), .ref o]
  refine sw_if_eq (n := 8) F (by omega) (tgt := 16) dX4_round_5 (by decide) rfl (fun c_5 => ?_) (fun c_5 => ?_)
  ·
    refine sw_iconst (n := 17) F (1) (by decide) dX4_round_16 rfl ?_
    refine sw_goto F (n := 57) dX4_round_17 (by decide) ?_
    exact K57 1 (by unfold roP; (repeat' split) <;> omega)
  ·
    refine sw_iload (n := 10) F 4 rfl dX4_round_8 rfl ?_
    refine sw_callS (n := 13) F (ct_X4_isShelf (g := xg x) (l := xl x) t ht) q3959 q3960 q120 q3961 nd_X4_isShelf rfl (by decide) [0, 1, 2, 3, 4, 5] (perm_ok _ 6 (by decide +kernel) rfl) [tmO (xg x) o a z, aN (xg x) 0 (a 0) 2400 D, aN (xg x) 0 (a 1) 10 M, aL (xg x) (a 3) 12 N, aI (xg x) 0 (a 4) 12 Sc, aI (xg x) 4 (a 5) 12 Hs] rfl 0 0 ⟨by omega, by omega⟩ [.ref o] rfl (Nat.le_of_ble_eq_true rfl) dX4_round_10 rfl (fun _ _ h => h.elim) (fun v Ws h => ?_)
    obtain ⟨rfl, hs_71, rfl⟩ := h
    show SW x [tmO (xg x) o a z, aN (xg x) 0 (a 0) 2400 D, aN (xg x) 0 (a 1) 10 M, aL (xg x) (a 3) 12 N, aI (xg x) 0 (a 4) 12 Sc, aI (xg x) 4 (a 5) 12 Hs] _ _ _ _ [.int (jI (inI t 0 11)), .ref o]
    refine sw_if_ne (n := 16) F (by omega) (tgt := 20) dX4_round_13 (by decide) rfl (fun c_13 => ?_) (fun c_13 => ?_)
    ·
      refine sw_iload_n (n := 21) F 2 rfl rfl dX4_round_20 rfl ?_
      refine sw_i2l (n := 22) F (by omega) dX4_round_21 rfl ?_
      refine sw_lconst (n := 23) F 1 (by decide) dX4_round_22 rfl ?_
      refine sw_ldc2 (n := 26) F (18) q4135 (by decide) dX4_round_23 rfl ?_
      refine sw_callS (n := 29) F (ct_X4_in (g := xg x) (l := xl x) n 1 18 (by first | omega | assumption) (by first | omega | assumption) (by first | omega | assumption)) q3963 q3964 q120 q3965 nd_X4_in rfl (by decide) [0, 1, 2, 3, 4, 5] (perm_ok _ 6 (by decide +kernel) rfl) [tmO (xg x) o a z, aN (xg x) 0 (a 0) 2400 D, aN (xg x) 0 (a 1) 10 M, aL (xg x) (a 3) 12 N, aI (xg x) 0 (a 4) 12 Sc, aI (xg x) 4 (a 5) 12 Hs] rfl 0 0 ⟨by omega, by omega⟩ [.ref o] rfl (Nat.le_of_ble_eq_true rfl) dX4_round_26 rfl (fun _ _ h => h.elim) (fun v Ws h => ?_)
      obtain ⟨rfl, hs_72, rfl⟩ := h
      show SW x [tmO (xg x) o a z, aN (xg x) 0 (a 0) 2400 D, aN (xg x) 0 (a 1) 10 M, aL (xg x) (a 3) 12 N, aI (xg x) 0 (a 4) 12 Sc, aI (xg x) 4 (a 5) 12 Hs] _ _ _ _ [.int (jI (inI n 1 18)), .ref o]
      refine sw_if_eq (n := 32) F (by omega) (tgt := 39) dX4_round_29 (by decide) rfl (fun c_29 => ?_) (fun c_29 => ?_)
      ·
        refine sw_iconst (n := 40) F (2) (by decide) dX4_round_39 rfl ?_
        refine sw_goto F (n := 57) dX4_round_40 (by decide) ?_
        exact K57 2 (by unfold roP; (repeat' split) <;> omega)
      ·
        refine sw_iload_n (n := 33) F 3 rfl rfl dX4_round_32 rfl ?_
        refine sw_callS (n := 36) F (ct_X4_isMode (g := xg x) (l := xl x) m hm) q4116 q4117 q120 q4118 nd_X4_isMode rfl (by decide) [0, 1, 2, 3, 4, 5] (perm_ok _ 6 (by decide +kernel) rfl) [tmO (xg x) o a z, aN (xg x) 0 (a 0) 2400 D, aN (xg x) 0 (a 1) 10 M, aL (xg x) (a 3) 12 N, aI (xg x) 0 (a 4) 12 Sc, aI (xg x) 4 (a 5) 12 Hs] rfl 0 0 ⟨by omega, by omega⟩ [.ref o] rfl (Nat.le_of_ble_eq_true rfl) dX4_round_33 rfl (fun _ _ h => h.elim) (fun v Ws h => ?_)
        obtain ⟨rfl, rfl⟩ := h
        show SW x [tmO (xg x) o a z, aN (xg x) 0 (a 0) 2400 D, aN (xg x) 0 (a 1) 10 M, aL (xg x) (a 3) 12 N, aI (xg x) 0 (a 4) 12 Sc, aI (xg x) 4 (a 5) 12 Hs] _ _ _ _ [.int (jI (mdI m)), .ref o]
        refine sw_if_ne (n := 39) F (by omega) (tgt := 43) dX4_round_36 (by decide) rfl (fun c_36 => ?_) (fun c_36 => ?_)
        ·
          refine sw_aload_n (n := 44) F 0 (some o) rfl rfl rfl dX4_round_43 rfl ?_
          refine sw_get (n := 47) F 0 rfl (k := 5) ⟨(RX4, TX4, 50), rfl, by decide, q3804, in_X4, Or.inl rfl⟩ (v := .ref (a 5)) rfl dX4_round_44 rfl ?_
          refine sw_iload_n (n := 48) F 1 rfl rfl dX4_round_47 rfl ?_
          refine sw_zaloadI (n := 49) F 5 rfl (fun _ => rfl) ((s : Int).toNat) (by omega) (by omega) dX4_round_48 rfl ?_
          refine sw_if_ne (n := 52) F (by omega) (tgt := 56) dX4_round_49 (by decide) rfl (fun c_49 => ?_) (fun c_49 => ?_)
          ·
            refine sw_iconst (n := 57) F (0) (by decide) dX4_round_56 rfl ?_
            exact K57 0 (by unfold roP; (repeat' split) <;> omega)
          ·
            refine sw_iconst (n := 53) F (3) (by decide) dX4_round_52 rfl ?_
            refine sw_goto F (n := 57) dX4_round_53 (by decide) ?_
            exact K57 3 (by unfold roP; (repeat' split) <;> omega)
        ·
          refine sw_iconst (n := 40) F (2) (by decide) dX4_round_39 rfl ?_
          refine sw_goto F (n := 57) dX4_round_40 (by decide) ?_
          exact K57 2 (by unfold roP; (repeat' split) <;> omega)
    ·
      refine sw_iconst (n := 17) F (1) (by decide) dX4_round_16 rfl ?_
      refine sw_goto F (n := 57) dX4_round_17 (by decide) ?_
      exact K57 1 (by unfold roP; (repeat' split) <;> omega)
