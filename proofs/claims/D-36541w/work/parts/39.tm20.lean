def dxL (a b : Int) : Nat := b.natAbs / Int.gcd a b
def dxT (a b : Int) : Nat := fac 2 (dxL a b)
def dxG (a b : Int) : Nat := fac 5 (dxL a b / 2 ^ dxT a b)
def dxR (a b : Int) : Nat := dxL a b / 2 ^ dxT a b / 5 ^ dxG a b
def dxF (a b : Int) : Int := if dxR a b = 1 then 0 else 1
def dxM (a b : Int) : Int := grI (dxT a b : Int) (dxG a b : Int)
theorem dx_ok {a b : Int} (hb : b ≠ 0) (h : -999999999999999999 ≤ b ∧ b ≤ 999999999999999999) : 0 < Int.gcd a b ∧ Int.gcd a b ≤ b.natAbs ∧ 0 < dxL a b ∧ dxT a b < 60 ∧ 0 < dxL a b / 2 ^ dxT a b ∧ dxG a b < 26 := by
  have hb0 : 0 < b.natAbs := by omega
  have g1 : 0 < Int.gcd a b := Nat.gcd_pos_of_pos_right _ hb0
  have g2 : Int.gcd a b ≤ b.natAbs := Nat.gcd_le_right _ hb0
  have l0 : 0 < dxL a b := Nat.div_pos g2 g1
  have l1 : dxL a b ≤ b.natAbs := Nat.div_le_self _ _
  have t1 : dxT a b < 60 := fac_lt (by decide) l0 (by omega)
  have m1 : 0 < dxL a b / 2 ^ dxT a b := Nat.div_pos (fac_le _ l0) (Nat.pow_pos (by decide))
  have m2 : dxL a b / 2 ^ dxT a b ≤ dxL a b := Nat.div_le_self _ _
  exact ⟨g1, g2, l0, t1, m1, fac_lt (by decide) m1 (by omega)⟩
theorem dxG_0 {a b w : Int} {j : Nat} (hj : dxT a b = j + fac 2 w.natAbs) (hf : fac 2 w.natAbs = 0) (hw : w.natAbs = dxL a b / 2 ^ j) : dxG a b = 0 + fac 5 w.natAbs := by
  have e : dxT a b = j := by omega
  rw [hw, Nat.zero_add, dxG, e]
theorem div_pp (a p j : Nat) : a / p ^ j / p = a / p ^ (j + 1) := by rw [Nat.pow_succ, Nat.div_div_eq_div_mul]
def dxP (s s2 t : Int) (H N : Nat → Int) : Int := if s < 0 ∨ 11 < s ∨ s2 < 0 ∨ 11 < s2 ∨ t < 0 ∨ 11 < t then 1 else if H s.toNat = 0 ∨ H s2.toNat = 0 then 2 else if N s2.toNat = 0 then 3 else 0
theorem dxP_c (s s2 t : Int) (H N : Nat → Int) : (dxP s s2 t H N = 1 ∧ (s < 0 ∨ 11 < s ∨ s2 < 0 ∨ 11 < s2 ∨ t < 0 ∨ 11 < t)) ∨ (dxP s s2 t H N = 2 ∧ ¬(s < 0 ∨ 11 < s ∨ s2 < 0 ∨ 11 < s2 ∨ t < 0 ∨ 11 < t) ∧ (H s.toNat = 0 ∨ H s2.toNat = 0)) ∨ (dxP s s2 t H N = 3 ∧ ¬(s < 0 ∨ 11 < s ∨ s2 < 0 ∨ 11 < s2 ∨ t < 0 ∨ 11 < t) ∧ ¬(H s.toNat = 0 ∨ H s2.toNat = 0) ∧ (N s2.toNat = 0)) ∨ (dxP s s2 t H N = 0 ∧ ¬(s < 0 ∨ 11 < s ∨ s2 < 0 ∨ 11 < s2 ∨ t < 0 ∨ 11 < t) ∧ ¬(H s.toNat = 0 ∨ H s2.toNat = 0) ∧ ¬(N s2.toNat = 0)) := by
  unfold dxP; (repeat' split) <;> omega
theorem nd_X4_divideExactly : yX4_divideExactly.cls ≠ "java/lang/invoke/MethodHandle" ∧ yX4_divideExactly.cls ≠ "java/lang/invoke/VarHandle" ∧ (parseMethodDescriptor yX4_divideExactly.desc).map (fun d => d.parameters.length) = some 3 := by decide +kernel
set_option maxRecDepth 100000 in
set_option maxHeartbeats 16000000 in
theorem ct_X4_divideExactly {g : GG} {l : Launch} (o : Nat) (a : Nat → Nat) (z : Nat → Int) (D : Nat → Nat) (M : Nat → Nat) (N : Nat → Int) (Sc : Nat → Int) (Hs : Nat → Int) (s : Int) (s2 : Int) (t : Int) (hs : -2147483648 ≤ s ∧ s ≤ 2147483647) (hs2 : -2147483648 ≤ s2 ∧ s2 ≤ 2147483647) (ht : -2147483648 ≤ t ∧ t ≤ 2147483647) (hA : Dok D M) (hN : NB N) (hSc : SB Sc) (hB : HB Hs) : Ct g l yX4_divideExactly (ws_ yX4_divideExactly cX4_divideExactly 11 (Option.some Jvm.ClassFile.FieldType.int)) 5 102 0 0 [.ref o, .int (jI s), .int (jI s2), .int (jI t)] [tmO g o a z, aN g 0 (a 0) 2400 D, aN g 0 (a 1) 10 M, aL g (a 3) 12 N, aI g 0 (a 4) 12 Sc, aI g 4 (a 5) 12 Hs] (fun v9 Ws9 => ∃ D1 : Nat → Nat, ∃ M1 : Nat → Nat, v9 = some (.int (jI (if0 (cd2 3 (dxP s s2 t Hs N) (lrI (dxF (N s.toNat) (N s2.toNat)) (laI ((N s.toNat).natAbs * 10 ^ (dxM (N s.toNat) (N s2.toNat)).toNat / (N s2.toNat).natAbs) (Sc s.toNat - Sc s2.toNat + dxM (N s.toNat) (N s2.toNat))))) (Sc s.toNat - Sc s2.toNat + dxM (N s.toNat) (N s2.toNat))))) ∧ (RV [0, 1, 2, 3, 8] D M D1 M1) ∧ Ws9 = [tmO g o a (va_up z 8 (cd2 3 (dxP s s2 t Hs N) (lrI (dxF (N s.toNat) (N s2.toNat)) (laI ((N s.toNat).natAbs * 10 ^ (dxM (N s.toNat) (N s2.toNat)).toNat / (N s2.toNat).natAbs) (Sc s.toNat - Sc s2.toNat + dxM (N s.toNat) (N s2.toNat)))))), aN g 0 (a 0) 2400 D1, aN g 0 (a 1) 10 M1, aL g (a 3) 12 (up0 (cd2 3 (dxP s s2 t Hs N) (lrI (dxF (N s.toNat) (N s2.toNat)) (laI ((N s.toNat).natAbs * 10 ^ (dxM (N s.toNat) (N s2.toNat)).toNat / (N s2.toNat).natAbs) (Sc s.toNat - Sc s2.toNat + dxM (N s.toNat) (N s2.toNat))))) N t.toNat (sgn (xrI (N s.toNat) (N s2.toNat)) ((N s.toNat).natAbs * 10 ^ (dxM (N s.toNat) (N s2.toNat)).toNat / (N s2.toNat).natAbs))), aI g 0 (a 4) 12 (up0 (cd2 3 (dxP s s2 t Hs N) (lrI (dxF (N s.toNat) (N s2.toNat)) (laI ((N s.toNat).natAbs * 10 ^ (dxM (N s.toNat) (N s2.toNat)).toNat / (N s2.toNat).natAbs) (Sc s.toNat - Sc s2.toNat + dxM (N s.toNat) (N s2.toNat))))) Sc t.toNat (Sc s.toNat - Sc s2.toNat + dxM (N s.toNat) (N s2.toNat))), aI g 4 (a 5) 12 (up0 (cd2 3 (dxP s s2 t Hs N) (lrI (dxF (N s.toNat) (N s2.toNat)) (laI ((N s.toNat).natAbs * 10 ^ (dxM (N s.toNat) (N s2.toNat)).toNat / (N s2.toNat).natAbs) (Sc s.toNat - Sc s2.toNat + dxM (N s.toNat) (N s2.toNat))))) Hs t.toNat 1)]) (nox) := by
  refine Ct.of (cc := cX4_divideExactly) (nL := 11) (ret := (Option.some Jvm.ClassFile.FieldType.int)) (by decide) rfl (Nat.le_of_ble_eq_true rfl) ?_
  intro x hg hl hPo hPx hmc hms F
  subst hg; subst hl
  refine SW.cast (L' := [(0, .ref o), (1, .int (jI s)), (2, .int (jI s2)), (3, .int (jI t))]) ?_ rfl rfl rfl
  have hq1 := hB s.toNat
  have hq2 := hB s2.toNat
  have hn := hN s.toNat
  have hn2 := hN s2.toNat
  have hss := hSc s.toNat
  have hss2 := hSc s2.toNat
  refine sw_aload_n (n := 1) F 0 (some o) rfl rfl rfl dX4_divideExactly_0 rfl ?_
  have K53 : ∀ (p : Int), (p = dxP s s2 t Hs N) → SW x [tmO (xg x) o a z, aN (xg x) 0 (a 0) 2400 D, aN (xg x) 0 (a 1) 10 M, aL (xg x) (a 3) 12 N, aI (xg x) 0 (a 4) 12 Sc, aI (xg x) 4 (a 5) 12 Hs] 0 0 53 [(0, .ref o), (1, .int (jI s)), (2, .int (jI s2)), (3, .int (jI t))] [.int (jI p), .ref o] := by
    intro p hpc
    subst hpc
    have hcs := dxP_c s s2 t Hs N
    refine sw_callV (n := 56) F (ct_X4_fails (g := xg x) (l := xl x) o a z (dxP s s2 t Hs N) (by first | omega | assumption)) (rcv_ob F 0 (ci := 3) rfl rfl) q3973 q3975 qs68 q120 q3976 nd_X4_fails rfl (by decide) [0, 1, 2, 3, 4, 5] rfl [aN (xg x) 0 (a 0) 2400 D, aN (xg x) 0 (a 1) 10 M, aL (xg x) (a 3) 12 N, aI (xg x) 0 (a 4) 12 Sc, aI (xg x) 4 (a 5) 12 Hs] rfl 0 0 ⟨by omega, by omega⟩ [] rfl (Nat.le_of_ble_eq_true rfl) dX4_divideExactly_53 rfl (fun _ _ h => h.elim) (fun v Ws h => ?_)
    obtain ⟨rfl, hps_1, rfl⟩ := h
    show SW x [tmO (xg x) o a (va_up z 8 (dxP s s2 t Hs N)), aN (xg x) 0 (a 0) 2400 D, aN (xg x) 0 (a 1) 10 M, aL (xg x) (a 3) 12 N, aI (xg x) 0 (a 4) 12 Sc, aI (xg x) 4 (a 5) 12 Hs] _ _ _ _ [.int (jI (psI (dxP s s2 t Hs N)))]
    refine sw_if_eq (n := 59) F (by omega) (tgt := 61) dX4_divideExactly_56 (by decide) rfl (fun c_56 => ?_) (fun c_56 => ?_)
    ·
      refine SW.cast (L' := [(0, .ref o), (1, .int (jI (↑(s.toNat)))), (2, .int (jI (↑(s2.toNat)))), (3, .int (jI (↑(t.toNat))))]) ?_ rfl (by rw [Int.toNat_of_nonneg (show 0 ≤ s by omega), Int.toNat_of_nonneg (show 0 ≤ s2 by omega), Int.toNat_of_nonneg (show 0 ≤ t by omega)]) rfl
      have hb0 : N s2.toNat ≠ 0 := by omega
      have hxr := xrI_01 (N s.toNat) (N s2.toNat)
      have hdx := dx_ok (a := N s.toNat) hb0 hn2
      have hgm : dxM (N s.toNat) (N s2.toNat) = grI (dxT (N s.toNat) (N s2.toNat) : Int) (dxG (N s.toNat) (N s2.toNat) : Int) := rfl
      have hgc := grI_cases (dxT (N s.toNat) (N s2.toNat) : Int) (dxG (N s.toNat) (N s2.toNat) : Int)
      have hfr : dxF (N s.toNat) (N s2.toNat) = if dxR (N s.toNat) (N s2.toNat) = 1 then 0 else 1 := rfl
      refine sw_aload_n (n := 62) F 0 (some o) rfl rfl rfl dX4_divideExactly_61 rfl ?_
      have K101 : ∀ (q : Int), (q = xrI (N s.toNat) (N s2.toNat)) → SW x [tmO (xg x) o a (va_up z 8 (dxP s s2 t Hs N)), aN (xg x) 0 (a 0) 2400 D, aN (xg x) 0 (a 1) 10 M, aL (xg x) (a 3) 12 N, aI (xg x) 0 (a 4) 12 Sc, aI (xg x) 4 (a 5) 12 Hs] 0 0 101 [(0, .ref o), (1, .int (jI (↑(s.toNat)))), (2, .int (jI (↑(s2.toNat)))), (3, .int (jI (↑(t.toNat))))] [.int (jI q)] := by
        intro q hqx
        subst hqx
        refine sw_istore (n := 103) F (L2 := [(4, .int (jI (xrI (N s.toNat) (N s2.toNat)))), (0, .ref o), (1, .int (jI (↑(s.toNat)))), (2, .int (jI (↑(s2.toNat)))), (3, .int (jI (↑(t.toNat))))]) rfl (by decide) dX4_divideExactly_101 rfl ?_
        refine sw_aload_n (n := 104) F 1 (some o) rfl rfl rfl dX4_divideExactly_103 rfl ?_
        refine sw_get (n := 107) F 0 rfl (k := 4) ⟨(RX4, TX4, 50), rfl, by decide, q3803, in_X4, Or.inl rfl⟩ (v := .ref (a 4)) rfl dX4_divideExactly_104 rfl ?_
        refine sw_iload_n (n := 108) F 2 rfl rfl dX4_divideExactly_107 rfl ?_
        refine sw_ialoadI (n := 109) F 4 rfl (fun _ => rfl) s.toNat (by omega) (by omega) dX4_divideExactly_108 rfl ?_
        refine sw_aload_n (n := 110) F 1 (some o) rfl rfl rfl dX4_divideExactly_109 rfl ?_
        refine sw_get (n := 113) F 0 rfl (k := 4) ⟨(RX4, TX4, 50), rfl, by decide, q3803, in_X4, Or.inl rfl⟩ (v := .ref (a 4)) rfl dX4_divideExactly_110 rfl ?_
        refine sw_iload_n (n := 114) F 3 rfl rfl dX4_divideExactly_113 rfl ?_
        refine sw_ialoadI (n := 115) F 4 rfl (fun _ => rfl) s2.toNat (by omega) (by omega) dX4_divideExactly_114 rfl ?_
        refine sw_isub (n := 116) F dX4_divideExactly_115 rfl ?_
        refine sw_istore (n := 118) F (L2 := [(5, .int (jI ((Sc s.toNat) - (Sc s2.toNat)))), (4, .int (jI (xrI (N s.toNat) (N s2.toNat)))), (0, .ref o), (1, .int (jI (↑(s.toNat)))), (2, .int (jI (↑(s2.toNat)))), (3, .int (jI (↑(t.toNat))))]) rfl (by decide) dX4_divideExactly_116 rfl ?_
        have K220 : ∀ (p2 : Int), ((p2 = 0 ∧ dxF (N s.toNat) (N s2.toNat) = 0) ∨ (p2 = 3 ∧ dxF (N s.toNat) (N s2.toNat) = 1)) → SW x [tmO (xg x) o a (va_up z 8 (dxP s s2 t Hs N)), aN (xg x) 0 (a 0) 2400 D, aN (xg x) 0 (a 1) 10 M, aL (xg x) (a 3) 12 N, aI (xg x) 0 (a 4) 12 Sc, aI (xg x) 4 (a 5) 12 Hs] 0 0 220 [(0, .ref o), (1, .int (jI (↑(s.toNat)))), (2, .int (jI (↑(s2.toNat)))), (3, .int (jI (↑(t.toNat)))), (4, .int (jI (xrI (N s.toNat) (N s2.toNat)))), (5, .int (jI ((Sc s.toNat) - (Sc s2.toNat)))), (8, .int (jI (↑(dxT (N s.toNat) (N s2.toNat))))), (9, .int (jI (↑(dxG (N s.toNat) (N s2.toNat)))))] [.int (jI p2), .ref o] := by
          intro p2 hp2
          refine sw_callV (n := 223) F (ct_X4_fails (g := xg x) (l := xl x) o a (va_up z 8 (dxP s s2 t Hs N)) p2 (by first | omega | assumption)) (rcv_ob F 0 (ci := 3) rfl rfl) q3973 q3975 qs68 q120 q3976 nd_X4_fails rfl (by decide) [0, 1, 2, 3, 4, 5] rfl [aN (xg x) 0 (a 0) 2400 D, aN (xg x) 0 (a 1) 10 M, aL (xg x) (a 3) 12 N, aI (xg x) 0 (a 4) 12 Sc, aI (xg x) 4 (a 5) 12 Hs] rfl 0 0 ⟨by omega, by omega⟩ [] rfl (Nat.le_of_ble_eq_true rfl) dX4_divideExactly_220 rfl (fun _ _ h => h.elim) (fun v Ws h => ?_)
          obtain ⟨rfl, hps_2, rfl⟩ := h
          show SW x [tmO (xg x) o a (va_up (va_up z 8 (dxP s s2 t Hs N)) 8 p2), aN (xg x) 0 (a 0) 2400 D, aN (xg x) 0 (a 1) 10 M, aL (xg x) (a 3) 12 N, aI (xg x) 0 (a 4) 12 Sc, aI (xg x) 4 (a 5) 12 Hs] _ _ _ _ [.int (jI (psI p2))]
          refine sw_if_eq (n := 226) F (by omega) (tgt := 228) dX4_divideExactly_223 (by decide) rfl (fun c_223 => ?_) (fun c_223 => ?_)
          ·
            obtain rfl : p2 = 0 := by omega
            show SW x [tmO (xg x) o a (va_up (va_up z 8 (dxP s s2 t Hs N)) 8 0), aN (xg x) 0 (a 0) 2400 D, aN (xg x) 0 (a 1) 10 M, aL (xg x) (a 3) 12 N, aI (xg x) 0 (a 4) 12 Sc, aI (xg x) 4 (a 5) 12 Hs] _ _ _ _ []
            refine sw_iload (n := 230) F 6 rfl dX4_divideExactly_228 rfl ?_
            refine sw_iload (n := 232) F 7 rfl dX4_divideExactly_230 rfl ?_
            refine sw_callS (n := 235) F (ct_X4_greater (g := xg x) (l := xl x) (↑(dxT (N s.toNat) (N s2.toNat))) (↑(dxG (N s.toNat) (N s2.toNat))) (by first | omega | assumption) (by first | omega | assumption)) q4060 q4061 q120 q4062 nd_X4_greater rfl (by decide) [0, 1, 2, 3, 4, 5] rfl [tmO (xg x) o a (va_up (va_up z 8 (dxP s s2 t Hs N)) 8 0), aN (xg x) 0 (a 0) 2400 D, aN (xg x) 0 (a 1) 10 M, aL (xg x) (a 3) 12 N, aI (xg x) 0 (a 4) 12 Sc, aI (xg x) 4 (a 5) 12 Hs] rfl 0 0 ⟨by omega, by omega⟩ [] rfl (Nat.le_of_ble_eq_true rfl) dX4_divideExactly_232 rfl (fun _ _ h => h.elim) (fun v Ws h => ?_)
            obtain ⟨rfl, hgr_3, rfl⟩ := h
            show SW x [tmO (xg x) o a (va_up (va_up z 8 (dxP s s2 t Hs N)) 8 0), aN (xg x) 0 (a 0) 2400 D, aN (xg x) 0 (a 1) 10 M, aL (xg x) (a 3) 12 N, aI (xg x) 0 (a 4) 12 Sc, aI (xg x) 4 (a 5) 12 Hs] _ _ _ _ [.int (jI (grI (↑(dxT (N s.toNat) (N s2.toNat))) (↑(dxG (N s.toNat) (N s2.toNat)))))]
            show SW x _ _ _ _ _ [.int (jI (dxM (N s.toNat) (N s2.toNat)))]
            refine sw_istore (n := 237) F (L2 := [(10, .int (jI (dxM (N s.toNat) (N s2.toNat)))), (0, .ref o), (1, .int (jI (↑(s.toNat)))), (2, .int (jI (↑(s2.toNat)))), (3, .int (jI (↑(t.toNat)))), (4, .int (jI (xrI (N s.toNat) (N s2.toNat)))), (5, .int (jI ((Sc s.toNat) - (Sc s2.toNat)))), (8, .int (jI (↑(dxT (N s.toNat) (N s2.toNat))))), (9, .int (jI (↑(dxG (N s.toNat) (N s2.toNat)))))]) rfl (by decide) dX4_divideExactly_235 rfl ?_
            refine sw_aload_n (n := 238) F 1 (some o) rfl rfl rfl dX4_divideExactly_237 rfl ?_
            refine sw_iconst (n := 239) F (0) (by decide) dX4_divideExactly_238 rfl ?_
            refine sw_aload_n (n := 240) F 1 (some o) rfl rfl rfl dX4_divideExactly_239 rfl ?_
            refine sw_get (n := 243) F 0 rfl (k := 3) ⟨(RX4, TX4, 50), rfl, by decide, q3802, in_X4, Or.inl rfl⟩ (v := .ref (a 3)) rfl dX4_divideExactly_240 rfl ?_
            refine sw_iload_n (n := 244) F 2 rfl rfl dX4_divideExactly_243 rfl ?_
            refine sw_laloadL (n := 245) F 3 rfl (fun _ => rfl) s.toNat (by omega) (by omega) dX4_divideExactly_244 rfl ?_
            refine sw_callV (n := 248) F (ct_X4_lets (g := xg x) (l := xl x) o a (va_up (va_up z 8 (dxP s s2 t Hs N)) 8 0) D M 0 (N s.toNat) (by first | omega | assumption) hA (by first | omega | assumption)) (rcv_ob F 0 (ci := 3) rfl rfl) q4004 q4006 qs71 q120 q4007 nd_X4_lets rfl (by decide) [0, 1, 2, 3, 4, 5] rfl [aL (xg x) (a 3) 12 N, aI (xg x) 0 (a 4) 12 Sc, aI (xg x) 4 (a 5) 12 Hs] rfl 0 0 ⟨by omega, by omega⟩ [] rfl (Nat.le_of_ble_eq_true rfl) dX4_divideExactly_245 rfl (fun _ _ h => h.elim) (fun v Ws h => ?_)
            obtain ⟨D1_4, M1_5, rfl, hU_6, rfl⟩ := h
            show SW x [tmO (xg x) o a (va_up (va_up z 8 (dxP s s2 t Hs N)) 8 0), aN (xg x) 0 (a 0) 2400 D1_4, aN (xg x) 0 (a 1) 10 M1_5, aL (xg x) (a 3) 12 N, aI (xg x) 0 (a 4) 12 Sc, aI (xg x) 4 (a 5) 12 Hs] _ _ _ _ []
            have a_7 := hU_6.1
            have r_8 : rok D1_4 M1_5 0 ((N s.toNat).natAbs) := hU_6.2.2.2
            have v_9 := hU_6.rv
            have hxb := b110 (l110 (e := (dxM (N s.toNat) (N s2.toNat)).toNat) (abs_18 hn) (by omega))
            have hxv := b110 (l110 (e := 0) (abs_18 hn2) (by omega))
            refine sw_aload_n (n := 249) F 1 (some o) rfl rfl rfl dX4_divideExactly_248 rfl ?_
            refine sw_iconst (n := 250) F (0) (by decide) dX4_divideExactly_249 rfl ?_
            refine sw_iload (n := 252) F 0 rfl dX4_divideExactly_250 rfl ?_
            refine sw_callV (n := 255) F (ct_X4_shifts (g := xg x) (l := xl x) o a (va_up (va_up z 8 (dxP s s2 t Hs N)) 8 0) D1_4 M1_5 0 (dxM (N s.toNat) (N s2.toNat)) ((N s.toNat).natAbs) (by first | omega | assumption) a_7 r_8 (by first | omega | assumption) (by first | omega | assumption)) (rcv_ob F 0 (ci := 3) rfl rfl) q4000 q4002 qs70 q120 q4003 nd_X4_shifts rfl (by decide) [0, 1, 2, 3, 4, 5] rfl [aL (xg x) (a 3) 12 N, aI (xg x) 0 (a 4) 12 Sc, aI (xg x) 4 (a 5) 12 Hs] rfl 0 0 ⟨by omega, by omega⟩ [] rfl (Nat.le_of_ble_eq_true rfl) dX4_divideExactly_252 rfl (fun _ _ h => h.elim) (fun v Ws h => ?_)
            obtain ⟨D1_10, M1_11, rfl, hU_12, rfl⟩ := h
            show SW x [tmO (xg x) o a (va_up (va_up z 8 (dxP s s2 t Hs N)) 8 0), aN (xg x) 0 (a 0) 2400 D1_10, aN (xg x) 0 (a 1) 10 M1_11, aL (xg x) (a 3) 12 N, aI (xg x) 0 (a 4) 12 Sc, aI (xg x) 4 (a 5) 12 Hs] _ _ _ _ []
            have a_13 := hU_12.1
            have r_14 : rok D1_10 M1_11 0 (((N s.toNat).natAbs) * 10 ^ (dxM (N s.toNat) (N s2.toNat)).toNat) := hU_12.2.2.2
            have v_15 := (v_9.mono (T := [0]) (by simp)).trans hU_12.rv (by simp)
            refine sw_aload_n (n := 256) F 1 (some o) rfl rfl rfl dX4_divideExactly_255 rfl ?_
            refine sw_iconst (n := 257) F (1) (by decide) dX4_divideExactly_256 rfl ?_
            refine sw_aload_n (n := 258) F 1 (some o) rfl rfl rfl dX4_divideExactly_257 rfl ?_
            refine sw_get (n := 261) F 0 rfl (k := 3) ⟨(RX4, TX4, 50), rfl, by decide, q3802, in_X4, Or.inl rfl⟩ (v := .ref (a 3)) rfl dX4_divideExactly_258 rfl ?_
            refine sw_iload_n (n := 262) F 3 rfl rfl dX4_divideExactly_261 rfl ?_
            refine sw_laloadL (n := 263) F 3 rfl (fun _ => rfl) s2.toNat (by omega) (by omega) dX4_divideExactly_262 rfl ?_
            refine sw_callV (n := 266) F (ct_X4_lets (g := xg x) (l := xl x) o a (va_up (va_up z 8 (dxP s s2 t Hs N)) 8 0) D1_10 M1_11 1 (N s2.toNat) (by first | omega | assumption) a_13 (by first | omega | assumption)) (rcv_ob F 0 (ci := 3) rfl rfl) q4004 q4006 qs71 q120 q4007 nd_X4_lets rfl (by decide) [0, 1, 2, 3, 4, 5] rfl [aL (xg x) (a 3) 12 N, aI (xg x) 0 (a 4) 12 Sc, aI (xg x) 4 (a 5) 12 Hs] rfl 0 0 ⟨by omega, by omega⟩ [] rfl (Nat.le_of_ble_eq_true rfl) dX4_divideExactly_263 rfl (fun _ _ h => h.elim) (fun v Ws h => ?_)
            obtain ⟨D1_16, M1_17, rfl, hU_18, rfl⟩ := h
            show SW x [tmO (xg x) o a (va_up (va_up z 8 (dxP s s2 t Hs N)) 8 0), aN (xg x) 0 (a 0) 2400 D1_16, aN (xg x) 0 (a 1) 10 M1_17, aL (xg x) (a 3) 12 N, aI (xg x) 0 (a 4) 12 Sc, aI (xg x) 4 (a 5) 12 Hs] _ _ _ _ []
            have a_19 := hU_18.1
            have r_20 : rok D1_16 M1_17 1 ((N s2.toNat).natAbs) := hU_18.2.2.2
            have k_21 := hU_18.keep (r := 0) (by first | omega | simp | (simp; omega)) r_14
            have v_22 := (v_15.mono (T := [0, 1]) (by simp)).trans hU_18.rv (by simp)
            refine sw_aload_n (n := 267) F 1 (some o) rfl rfl rfl dX4_divideExactly_266 rfl ?_
            refine sw_callV (n := 270) F (ct_X4_divides (g := xg x) (l := xl x) o a (va_up (va_up z 8 (dxP s s2 t Hs N)) 8 0) D1_16 M1_17 (((N s.toNat).natAbs) * 10 ^ (dxM (N s.toNat) (N s2.toNat)).toNat) ((N s2.toNat).natAbs) a_19 k_21 r_20 (by first | omega | assumption) (by first | omega | assumption)) (rcv_ob F 0 (ci := 3) rfl rfl) q4127 q4129 qs91 q120 q4130 nd_X4_divides rfl (by decide) [0, 1, 2, 3, 4, 5] rfl [aL (xg x) (a 3) 12 N, aI (xg x) 0 (a 4) 12 Sc, aI (xg x) 4 (a 5) 12 Hs] rfl 0 0 ⟨by omega, by omega⟩ [] rfl (Nat.le_of_ble_eq_true rfl) dX4_divideExactly_267 rfl (fun _ _ h => h.elim) (fun v Ws h => ?_)
            obtain ⟨D1_23, M1_24, rfl, hV_25, hq_26, hr_27, rfl⟩ := h
            show SW x [tmO (xg x) o a (va_up (va_up z 8 (dxP s s2 t Hs N)) 8 0), aN (xg x) 0 (a 0) 2400 D1_23, aN (xg x) 0 (a 1) 10 M1_24, aL (xg x) (a 3) 12 N, aI (xg x) 0 (a 4) 12 Sc, aI (xg x) 4 (a 5) 12 Hs] _ _ _ _ []
            have a_28 := hV_25.1
            have k_29 := hV_25.keep (r := 0) (by first | omega | simp | (simp; omega)) k_21
            have k_30 := hV_25.keep (r := 1) (by first | omega | simp | (simp; omega)) r_20
            have v_31 := (v_22.mono (T := [0, 1, 2, 3, 8]) (by simp)).trans hV_25 (by simp)
            refine sw_aload_n (n := 271) F 1 (some o) rfl rfl rfl dX4_divideExactly_270 rfl ?_
            refine sw_aload_n (n := 272) F 1 (some o) rfl rfl rfl dX4_divideExactly_271 rfl ?_
            refine sw_iload_n (n := 273) F 4 rfl rfl dX4_divideExactly_272 rfl ?_
            refine sw_iconst (n := 274) F (2) (by decide) dX4_divideExactly_273 rfl ?_
            refine sw_iload (n := 276) F 5 rfl dX4_divideExactly_274 rfl ?_
            refine sw_iload (n := 278) F 6 rfl dX4_divideExactly_276 rfl ?_
            refine sw_iload (n := 280) F 0 rfl dX4_divideExactly_278 rfl ?_
            refine sw_iadd (n := 281) F dX4_divideExactly_280 rfl ?_
            refine sw_callV (n := 284) F (ct_X4_lays (g := xg x) (l := xl x) o a (va_up (va_up z 8 (dxP s s2 t Hs N)) 8 0) D1_23 M1_24 N Sc Hs t.toNat 2 ((((N s.toNat).natAbs) * 10 ^ (dxM (N s.toNat) (N s2.toNat)).toNat) / ((N s2.toNat).natAbs)) (xrI (N s.toNat) (N s2.toNat)) (((Sc s.toNat) - (Sc s2.toNat)) + (dxM (N s.toNat) (N s2.toNat))) (by first | omega | assumption) (by first | omega | assumption) a_28 hq_26 (by first | omega | assumption) (by first | omega | assumption)) (rcv_ob F 0 (ci := 3) rfl rfl) q4020 q4022 qs75 q120 q4023 nd_X4_lays rfl (by decide) [0, 1, 2, 3, 4, 5] rfl [] rfl 0 0 ⟨by omega, by omega⟩ [.ref o] rfl (Nat.le_of_ble_eq_true rfl) dX4_divideExactly_281 rfl (fun _ _ h => h.elim) (fun v Ws h => ?_)
            obtain ⟨rfl, hl_32, rfl⟩ := h
            show SW x [tmO (xg x) o a (va_up (va_up z 8 (dxP s s2 t Hs N)) 8 0), aN (xg x) 0 (a 0) 2400 D1_23, aN (xg x) 0 (a 1) 10 M1_24, aL (xg x) (a 3) 12 (up1 (laI ((((N s.toNat).natAbs) * 10 ^ (dxM (N s.toNat) (N s2.toNat)).toNat) / ((N s2.toNat).natAbs)) (((Sc s.toNat) - (Sc s2.toNat)) + (dxM (N s.toNat) (N s2.toNat)))) N t.toNat (sgn (xrI (N s.toNat) (N s2.toNat)) ((((N s.toNat).natAbs) * 10 ^ (dxM (N s.toNat) (N s2.toNat)).toNat) / ((N s2.toNat).natAbs)))), aI (xg x) 0 (a 4) 12 (up1 (laI ((((N s.toNat).natAbs) * 10 ^ (dxM (N s.toNat) (N s2.toNat)).toNat) / ((N s2.toNat).natAbs)) (((Sc s.toNat) - (Sc s2.toNat)) + (dxM (N s.toNat) (N s2.toNat)))) Sc t.toNat (((Sc s.toNat) - (Sc s2.toNat)) + (dxM (N s.toNat) (N s2.toNat)))), aI (xg x) 4 (a 5) 12 (up1 (laI ((((N s.toNat).natAbs) * 10 ^ (dxM (N s.toNat) (N s2.toNat)).toNat) / ((N s2.toNat).natAbs)) (((Sc s.toNat) - (Sc s2.toNat)) + (dxM (N s.toNat) (N s2.toNat)))) Hs t.toNat 1)] _ _ _ _ [.int (jI (laI ((((N s.toNat).natAbs) * 10 ^ (dxM (N s.toNat) (N s2.toNat)).toNat) / ((N s2.toNat).natAbs)) (((Sc s.toNat) - (Sc s2.toNat)) + (dxM (N s.toNat) (N s2.toNat))))), .ref o]
            have la_33 := laI_cases ((((N s.toNat).natAbs) * 10 ^ (dxM (N s.toNat) (N s2.toNat)).toNat) / ((N s2.toNat).natAbs)) (((Sc s.toNat) - (Sc s2.toNat)) + (dxM (N s.toNat) (N s2.toNat)))
            refine sw_if_eq (n := 287) F (by omega) (tgt := 291) dX4_divideExactly_284 (by decide) rfl (fun c_284 => ?_) (fun c_284 => ?_)
            ·
              refine sw_iconst (n := 292) F (3) (by decide) dX4_divideExactly_291 rfl ?_
              refine sw_callV (n := 295) F (ct_X4_fails (g := xg x) (l := xl x) o a (va_up (va_up z 8 (dxP s s2 t Hs N)) 8 0) 3 (by first | omega | assumption)) (rcv_ob F 0 (ci := 3) rfl rfl) q3973 q3975 qs68 q120 q3976 nd_X4_fails rfl (by decide) [0, 1, 2, 3, 4, 5] rfl [aN (xg x) 0 (a 0) 2400 D1_23, aN (xg x) 0 (a 1) 10 M1_24, aL (xg x) (a 3) 12 (up1 (laI ((((N s.toNat).natAbs) * 10 ^ (dxM (N s.toNat) (N s2.toNat)).toNat) / ((N s2.toNat).natAbs)) (((Sc s.toNat) - (Sc s2.toNat)) + (dxM (N s.toNat) (N s2.toNat)))) N t.toNat (sgn (xrI (N s.toNat) (N s2.toNat)) ((((N s.toNat).natAbs) * 10 ^ (dxM (N s.toNat) (N s2.toNat)).toNat) / ((N s2.toNat).natAbs)))), aI (xg x) 0 (a 4) 12 (up1 (laI ((((N s.toNat).natAbs) * 10 ^ (dxM (N s.toNat) (N s2.toNat)).toNat) / ((N s2.toNat).natAbs)) (((Sc s.toNat) - (Sc s2.toNat)) + (dxM (N s.toNat) (N s2.toNat)))) Sc t.toNat (((Sc s.toNat) - (Sc s2.toNat)) + (dxM (N s.toNat) (N s2.toNat)))), aI (xg x) 4 (a 5) 12 (up1 (laI ((((N s.toNat).natAbs) * 10 ^ (dxM (N s.toNat) (N s2.toNat)).toNat) / ((N s2.toNat).natAbs)) (((Sc s.toNat) - (Sc s2.toNat)) + (dxM (N s.toNat) (N s2.toNat)))) Hs t.toNat 1)] rfl 0 0 ⟨by omega, by omega⟩ [] rfl (Nat.le_of_ble_eq_true rfl) dX4_divideExactly_292 rfl (fun _ _ h => h.elim) (fun v Ws h => ?_)
              obtain ⟨rfl, hps_34, rfl⟩ := h
              show SW x [tmO (xg x) o a (va_up (va_up (va_up z 8 (dxP s s2 t Hs N)) 8 0) 8 3), aN (xg x) 0 (a 0) 2400 D1_23, aN (xg x) 0 (a 1) 10 M1_24, aL (xg x) (a 3) 12 (up1 (laI ((((N s.toNat).natAbs) * 10 ^ (dxM (N s.toNat) (N s2.toNat)).toNat) / ((N s2.toNat).natAbs)) (((Sc s.toNat) - (Sc s2.toNat)) + (dxM (N s.toNat) (N s2.toNat)))) N t.toNat (sgn (xrI (N s.toNat) (N s2.toNat)) ((((N s.toNat).natAbs) * 10 ^ (dxM (N s.toNat) (N s2.toNat)).toNat) / ((N s2.toNat).natAbs)))), aI (xg x) 0 (a 4) 12 (up1 (laI ((((N s.toNat).natAbs) * 10 ^ (dxM (N s.toNat) (N s2.toNat)).toNat) / ((N s2.toNat).natAbs)) (((Sc s.toNat) - (Sc s2.toNat)) + (dxM (N s.toNat) (N s2.toNat)))) Sc t.toNat (((Sc s.toNat) - (Sc s2.toNat)) + (dxM (N s.toNat) (N s2.toNat)))), aI (xg x) 4 (a 5) 12 (up1 (laI ((((N s.toNat).natAbs) * 10 ^ (dxM (N s.toNat) (N s2.toNat)).toNat) / ((N s2.toNat).natAbs)) (((Sc s.toNat) - (Sc s2.toNat)) + (dxM (N s.toNat) (N s2.toNat)))) Hs t.toNat 1)] _ _ _ _ [.int (jI 1)]
              refine sw_if_eq (n := 298) F (by decide) (tgt := 302) dX4_divideExactly_295 (by decide) rfl (fun c_295 => ?_) (fun c_295 => ?_)
              · exfalso; exact absurd c_295 (by decide)
              ·
                refine sw_iconst (n := 299) F (0) (by decide) dX4_divideExactly_298 rfl ?_
                refine sw_goto F (n := 308) dX4_divideExactly_299 (by decide) ?_
                have e0 : dxP s s2 t Hs N = 0 := by omega
                have l1 : laI ((N s.toNat).natAbs * 10 ^ (dxM (N s.toNat) (N s2.toNat)).toNat / (N s2.toNat).natAbs) (Sc s.toNat - Sc s2.toNat + dxM (N s.toNat) (N s2.toNat)) = 0 := by first | assumption | omega
                have e : cd2 3 (dxP s s2 t Hs N) (lrI (dxF (N s.toNat) (N s2.toNat)) (laI ((N s.toNat).natAbs * 10 ^ (dxM (N s.toNat) (N s2.toNat)).toNat / (N s2.toNat).natAbs) (Sc s.toNat - Sc s2.toNat + dxM (N s.toNat) (N s2.toNat)))) = 3 := cd2_rf e0 l1
                exact sw_iret F _ rfl (by first | rfl | exact jI_nz (by omega) | exact jI_nc (by omega)) dX4_divideExactly_308 (by rw [hPo]; exact ⟨D1_23, M1_24, (by rw [e]; rfl), (by exact v_31.mono (by simp)), (by rw [e]; simp only [up_88, up0_3, l1, up1_00, up_88])⟩)
            ·
              refine sw_iconst (n := 288) F (0) (by decide) dX4_divideExactly_287 rfl ?_
              refine sw_goto F (n := 292) dX4_divideExactly_288 (by decide) ?_
              refine sw_callV (n := 295) F (ct_X4_fails (g := xg x) (l := xl x) o a (va_up (va_up z 8 (dxP s s2 t Hs N)) 8 0) 0 (by first | omega | assumption)) (rcv_ob F 0 (ci := 3) rfl rfl) q3973 q3975 qs68 q120 q3976 nd_X4_fails rfl (by decide) [0, 1, 2, 3, 4, 5] rfl [aN (xg x) 0 (a 0) 2400 D1_23, aN (xg x) 0 (a 1) 10 M1_24, aL (xg x) (a 3) 12 (up1 (laI ((((N s.toNat).natAbs) * 10 ^ (dxM (N s.toNat) (N s2.toNat)).toNat) / ((N s2.toNat).natAbs)) (((Sc s.toNat) - (Sc s2.toNat)) + (dxM (N s.toNat) (N s2.toNat)))) N t.toNat (sgn (xrI (N s.toNat) (N s2.toNat)) ((((N s.toNat).natAbs) * 10 ^ (dxM (N s.toNat) (N s2.toNat)).toNat) / ((N s2.toNat).natAbs)))), aI (xg x) 0 (a 4) 12 (up1 (laI ((((N s.toNat).natAbs) * 10 ^ (dxM (N s.toNat) (N s2.toNat)).toNat) / ((N s2.toNat).natAbs)) (((Sc s.toNat) - (Sc s2.toNat)) + (dxM (N s.toNat) (N s2.toNat)))) Sc t.toNat (((Sc s.toNat) - (Sc s2.toNat)) + (dxM (N s.toNat) (N s2.toNat)))), aI (xg x) 4 (a 5) 12 (up1 (laI ((((N s.toNat).natAbs) * 10 ^ (dxM (N s.toNat) (N s2.toNat)).toNat) / ((N s2.toNat).natAbs)) (((Sc s.toNat) - (Sc s2.toNat)) + (dxM (N s.toNat) (N s2.toNat)))) Hs t.toNat 1)] rfl 0 0 ⟨by omega, by omega⟩ [] rfl (Nat.le_of_ble_eq_true rfl) dX4_divideExactly_292 rfl (fun _ _ h => h.elim) (fun v Ws h => ?_)
              obtain ⟨rfl, hps_35, rfl⟩ := h
              show SW x [tmO (xg x) o a (va_up (va_up (va_up z 8 (dxP s s2 t Hs N)) 8 0) 8 0), aN (xg x) 0 (a 0) 2400 D1_23, aN (xg x) 0 (a 1) 10 M1_24, aL (xg x) (a 3) 12 (up1 (laI ((((N s.toNat).natAbs) * 10 ^ (dxM (N s.toNat) (N s2.toNat)).toNat) / ((N s2.toNat).natAbs)) (((Sc s.toNat) - (Sc s2.toNat)) + (dxM (N s.toNat) (N s2.toNat)))) N t.toNat (sgn (xrI (N s.toNat) (N s2.toNat)) ((((N s.toNat).natAbs) * 10 ^ (dxM (N s.toNat) (N s2.toNat)).toNat) / ((N s2.toNat).natAbs)))), aI (xg x) 0 (a 4) 12 (up1 (laI ((((N s.toNat).natAbs) * 10 ^ (dxM (N s.toNat) (N s2.toNat)).toNat) / ((N s2.toNat).natAbs)) (((Sc s.toNat) - (Sc s2.toNat)) + (dxM (N s.toNat) (N s2.toNat)))) Sc t.toNat (((Sc s.toNat) - (Sc s2.toNat)) + (dxM (N s.toNat) (N s2.toNat)))), aI (xg x) 4 (a 5) 12 (up1 (laI ((((N s.toNat).natAbs) * 10 ^ (dxM (N s.toNat) (N s2.toNat)).toNat) / ((N s2.toNat).natAbs)) (((Sc s.toNat) - (Sc s2.toNat)) + (dxM (N s.toNat) (N s2.toNat)))) Hs t.toNat 1)] _ _ _ _ [.int (jI 0)]
              refine sw_if_eq (n := 298) F (by decide) (tgt := 302) dX4_divideExactly_295 (by decide) rfl (fun c_295 => ?_) (fun c_295 => ?_)
              ·
                refine sw_aload_n (n := 303) F 1 (some o) rfl rfl rfl dX4_divideExactly_302 rfl ?_
                refine sw_get (n := 306) F 0 rfl (k := 4) ⟨(RX4, TX4, 50), rfl, by decide, q3803, in_X4, Or.inl rfl⟩ (v := .ref (a 4)) rfl dX4_divideExactly_303 rfl ?_
                refine sw_iload_n (n := 307) F 4 rfl rfl dX4_divideExactly_306 rfl ?_
                refine sw_ialoadI (n := 308) F 4 rfl (fun _ => rfl) t.toNat (by omega) (by omega) dX4_divideExactly_307 rfl ?_
                have e0 : dxP s s2 t Hs N = 0 := by omega
                have l1 : laI ((N s.toNat).natAbs * 10 ^ (dxM (N s.toNat) (N s2.toNat)).toNat / (N s2.toNat).natAbs) (Sc s.toNat - Sc s2.toNat + dxM (N s.toNat) (N s2.toNat)) = 1 := by omega
                have e : cd2 3 (dxP s s2 t Hs N) (lrI (dxF (N s.toNat) (N s2.toNat)) (laI ((N s.toNat).natAbs * 10 ^ (dxM (N s.toNat) (N s2.toNat)).toNat / (N s2.toNat).natAbs) (Sc s.toNat - Sc s2.toNat + dxM (N s.toNat) (N s2.toNat)))) = 0 := cd2_rt e0 (by omega) (by rw [l1]; decide)
                exact sw_iret F _ rfl (by first | rfl | exact jI_nz (by omega) | exact jI_nc (by omega)) dX4_divideExactly_308 (by rw [hPo]; exact ⟨D1_23, M1_24, (by rw [e, if0_0]; first | rfl | (simp only [l1, up1_11, va_up_self])), (by exact v_31.mono (by simp)), (by rw [e]; simp only [up_88, up0_0, l1, up1_11, up_88])⟩)
              · exfalso; exact absurd c_295 (by decide)
          ·
            obtain rfl : p2 = 3 := by omega
            show SW x [tmO (xg x) o a (va_up (va_up z 8 (dxP s s2 t Hs N)) 8 3), aN (xg x) 0 (a 0) 2400 D, aN (xg x) 0 (a 1) 10 M, aL (xg x) (a 3) 12 N, aI (xg x) 0 (a 4) 12 Sc, aI (xg x) 4 (a 5) 12 Hs] _ _ _ _ []
            refine sw_iconst (n := 227) F (0) (by decide) dX4_divideExactly_226 rfl ?_
            have e0 : dxP s s2 t Hs N = 0 := by omega
            have e : cd2 3 (dxP s s2 t Hs N) (lrI (dxF (N s.toNat) (N s2.toNat)) (laI ((N s.toNat).natAbs * 10 ^ (dxM (N s.toNat) (N s2.toNat)).toNat / (N s2.toNat).natAbs) (Sc s.toNat - Sc s2.toNat + dxM (N s.toNat) (N s2.toNat)))) = 3 := cd2_r e0 (by omega)
            exact sw_iret F _ rfl (by first | rfl | exact jI_nz (by omega) | exact jI_nc (by omega)) dX4_divideExactly_227 (by rw [hPo]; exact ⟨D, M, (by rw [e]; rfl), (by exact (RV.rf hA).mono (S := []) (by simp)), (by rw [e]; simp only [up_88, up0_3, up_88])⟩)
        have K173 : ∀ N173 : Nat, ∀ (w : Int) (i : Nat), (w.natAbs = dxL (N s.toNat) (N s2.toNat) / 2 ^ dxT (N s.toNat) (N s2.toNat) / 5 ^ i) → (dxG (N s.toNat) (N s2.toNat) = i + fac 5 w.natAbs) → (w ≠ 0) → (-999999999999999999 ≤ w ∧ w ≤ 999999999999999999) → ((w.natAbs) < N173) → SW x [tmO (xg x) o a (va_up z 8 (dxP s s2 t Hs N)), aN (xg x) 0 (a 0) 2400 D, aN (xg x) 0 (a 1) 10 M, aL (xg x) (a 3) 12 N, aI (xg x) 0 (a 4) 12 Sc, aI (xg x) 4 (a 5) 12 Hs] 0 0 173 [(0, .ref o), (1, .int (jI (↑(s.toNat)))), (2, .int (jI (↑(s2.toNat)))), (3, .int (jI (↑(t.toNat)))), (4, .int (jI (xrI (N s.toNat) (N s2.toNat)))), (5, .int (jI ((Sc s.toNat) - (Sc s2.toNat)))), (6, .long (jL w)), (8, .int (jI (↑(dxT (N s.toNat) (N s2.toNat))))), (9, .int (jI (↑i)))] [] := by
          intro N173; induction N173 with
          | zero => intro w i hw hfc hw0 hwr hmu173; omega
          | succ N173 ih173 =>
            intro w i hw hfc hw0 hwr hmu173
            have hm5 := Int.mul_tdiv_add_tmod w 5
            have ht5 : (w.tdiv 5).natAbs = w.natAbs / 5 := td_na w 5
            have hr5 : (w.tmod 5).natAbs = w.natAbs % 5 := tm_na w 5
            refine sw_lload (n := 175) F 6 rfl dX4_divideExactly_173 rfl ?_
            refine sw_ldc2 (n := 178) F (5) q4148 (by decide) dX4_divideExactly_175 rfl ?_
            refine sw_lrem (n := 179) F (by omega) (by decide) (by decide) dX4_divideExactly_178 rfl ?_
            refine sw_lconst (n := 180) F 0 (by decide) dX4_divideExactly_179 rfl ?_
            refine sw_lcmp (n := 181) F (by omega) (by decide) dX4_divideExactly_180 rfl ?_
            refine sw_if_ne (n := 184) F (by omega) (tgt := 198) dX4_divideExactly_181 (by decide) rfl (fun c_181 => ?_) (fun c_181 => ?_)
            ·
              have c_181 : w.tmod 5 ≠ 0 := by revert c_181; (repeat' split) <;> omega
              have hf0 : fac 5 w.natAbs = 0 := fac_0 (by omega)
              have hgi : i = dxG (N s.toNat) (N s2.toNat) := by omega
              have hR : w.natAbs = dxR (N s.toNat) (N s2.toNat) := by rw [hw, hgi]; rfl
              refine sw_aload_n (n := 199) F 0 (some o) rfl rfl rfl dX4_divideExactly_198 rfl ?_
              refine sw_lload (n := 201) F 6 rfl dX4_divideExactly_199 rfl ?_
              refine sw_lconst (n := 202) F 1 (by decide) dX4_divideExactly_201 rfl ?_
              refine sw_lcmp (n := 203) F (by omega) (by decide) dX4_divideExactly_202 rfl ?_
              refine sw_if_eq (n := 206) F (by omega) (tgt := 215) dX4_divideExactly_203 (by decide) rfl (fun c_203 => ?_) (fun c_203 => ?_)
              ·
                have c_203 : w = 1 := by revert c_203; (repeat' split) <;> omega
                refine sw_iconst (n := 216) F (0) (by decide) dX4_divideExactly_215 rfl ?_
                refine sw_goto F (n := 220) dX4_divideExactly_216 (by decide) ?_
                refine sw_loc [0, 1, 2, 3, 4, 5, 7, 8] (L2 := [(0, .ref o), (1, .int (jI (↑(s.toNat)))), (2, .int (jI (↑(s2.toNat)))), (3, .int (jI (↑(t.toNat)))), (4, .int (jI (xrI (N s.toNat) (N s2.toNat)))), (5, .int (jI ((Sc s.toNat) - (Sc s2.toNat)))), (8, .int (jI (↑(dxT (N s.toNat) (N s2.toNat))))), (9, .int (jI (↑i)))]) rfl ?_
                rw [show (↑i : Int) = ↑(dxG (N s.toNat) (N s2.toNat)) by first | omega | (have hf9 : fac 2 w.natAbs = 0 := fac_0 (by omega); omega)]
                exact K220 0 (by (split at hfr) <;> omega)
              ·
                have c_203 : w ≠ 1 := by revert c_203; (repeat' split) <;> omega
                refine sw_lload (n := 208) F 6 rfl dX4_divideExactly_206 rfl ?_
                refine sw_ldc2 (n := 211) F (-1) q4149 (by decide) dX4_divideExactly_208 rfl ?_
                refine sw_lcmp (n := 212) F (by omega) (by decide) dX4_divideExactly_211 rfl ?_
                refine sw_if_ne (n := 215) F (by omega) (tgt := 219) dX4_divideExactly_212 (by decide) rfl (fun c_212 => ?_) (fun c_212 => ?_)
                ·
                  have c_212 : w ≠ -1 := by revert c_212; (repeat' split) <;> omega
                  refine sw_iconst (n := 220) F (3) (by decide) dX4_divideExactly_219 rfl ?_
                  refine sw_loc [0, 1, 2, 3, 4, 5, 7, 8] (L2 := [(0, .ref o), (1, .int (jI (↑(s.toNat)))), (2, .int (jI (↑(s2.toNat)))), (3, .int (jI (↑(t.toNat)))), (4, .int (jI (xrI (N s.toNat) (N s2.toNat)))), (5, .int (jI ((Sc s.toNat) - (Sc s2.toNat)))), (8, .int (jI (↑(dxT (N s.toNat) (N s2.toNat))))), (9, .int (jI (↑i)))]) rfl ?_
                  rw [show (↑i : Int) = ↑(dxG (N s.toNat) (N s2.toNat)) by first | omega | (have hf9 : fac 2 w.natAbs = 0 := fac_0 (by omega); omega)]
                  exact K220 3 (by (split at hfr) <;> omega)
                ·
                  have c_212 : w = -1 := by revert c_212; (repeat' split) <;> omega
                  refine sw_iconst (n := 216) F (0) (by decide) dX4_divideExactly_215 rfl ?_
                  refine sw_goto F (n := 220) dX4_divideExactly_216 (by decide) ?_
                  refine sw_loc [0, 1, 2, 3, 4, 5, 7, 8] (L2 := [(0, .ref o), (1, .int (jI (↑(s.toNat)))), (2, .int (jI (↑(s2.toNat)))), (3, .int (jI (↑(t.toNat)))), (4, .int (jI (xrI (N s.toNat) (N s2.toNat)))), (5, .int (jI ((Sc s.toNat) - (Sc s2.toNat)))), (8, .int (jI (↑(dxT (N s.toNat) (N s2.toNat))))), (9, .int (jI (↑i)))]) rfl ?_
                  rw [show (↑i : Int) = ↑(dxG (N s.toNat) (N s2.toNat)) by first | omega | (have hf9 : fac 2 w.natAbs = 0 := fac_0 (by omega); omega)]
                  exact K220 0 (by (split at hfr) <;> omega)
            ·
              have c_181 : w.tmod 5 = 0 := by revert c_181; (repeat' split) <;> omega
              have hf5 : fac 5 w.natAbs = fac 5 (w.natAbs / 5) + 1 := fac_s ⟨by decide, by omega, by omega⟩
              refine sw_lload (n := 186) F 6 rfl dX4_divideExactly_184 rfl ?_
              refine sw_ldc2 (n := 189) F (5) q4148 (by decide) dX4_divideExactly_186 rfl ?_
              refine sw_ldiv (n := 190) F (by omega) (by decide) (by decide) dX4_divideExactly_189 rfl ?_
              refine sw_lstore (n := 192) F (L2 := [(6, .long (jL (w.tdiv 5))), (0, .ref o), (1, .int (jI (↑(s.toNat)))), (2, .int (jI (↑(s2.toNat)))), (3, .int (jI (↑(t.toNat)))), (4, .int (jI (xrI (N s.toNat) (N s2.toNat)))), (5, .int (jI ((Sc s.toNat) - (Sc s2.toNat)))), (8, .int (jI (↑(dxT (N s.toNat) (N s2.toNat))))), (9, .int (jI (↑i)))]) rfl (by decide) dX4_divideExactly_190 rfl ?_
              refine sw_iinc (n := 195) F 8 (L2 := [(9, .int (jI (↑i + 1))), (6, .long (jL (w.tdiv 5))), (0, .ref o), (1, .int (jI (↑(s.toNat)))), (2, .int (jI (↑(s2.toNat)))), (3, .int (jI (↑(t.toNat)))), (4, .int (jI (xrI (N s.toNat) (N s2.toNat)))), (5, .int (jI ((Sc s.toNat) - (Sc s2.toNat)))), (8, .int (jI (↑(dxT (N s.toNat) (N s2.toNat)))))]) rfl rfl (by decide) dX4_divideExactly_192 rfl ?_
              refine sw_goto F (n := 173) dX4_divideExactly_195 (by decide) ?_
              refine sw_loc [2, 3, 4, 5, 6, 7, 1, 8, 0] (L2 := [(0, .ref o), (1, .int (jI (↑(s.toNat)))), (2, .int (jI (↑(s2.toNat)))), (3, .int (jI (↑(t.toNat)))), (4, .int (jI (xrI (N s.toNat) (N s2.toNat)))), (5, .int (jI ((Sc s.toNat) - (Sc s2.toNat)))), (6, .long (jL (w.tdiv 5))), (8, .int (jI (↑(dxT (N s.toNat) (N s2.toNat))))), (9, .int (jI (↑i + 1)))]) rfl ?_
              rw [show (↑i + 1 : Int) = ↑(i + 1) by first | omega | (have hf9 : fac 2 w.natAbs = 0 := fac_0 (by omega); omega)]
              exact ih173 (w.tdiv 5) (i + 1) (by first | (rw [ht2, hw]; exact div_pp _ _ _) | (rw [ht5, hw]; exact div_pp _ _ _) | (rw [htn, Nat.pow_zero, Nat.div_one] <;> rfl) | (have hf9 : fac 2 w.natAbs = 0 := fac_0 (by omega); rw [hw, show j = dxT (N s.toNat) (N s2.toNat) by omega, Nat.pow_zero, Nat.div_one])) (by first | omega | (rw [ht2]; omega) | (rw [ht5]; omega) | (rw [htn, Nat.zero_add] <;> rfl) | exact dxG_0 hfc (fac_0 (by omega)) hw) (by first | assumption | omega | (have : 0 < dxL (N s.toNat) (N s2.toNat) := hdx.2.2.1; have h8 : ((N s2.toNat).tdiv ↑(Int.gcd (N s.toNat) (N s2.toNat))).natAbs = dxL (N s.toNat) (N s2.toNat) := htn; omega)) (by first | assumption | omega | (have h8 : ((N s2.toNat).tdiv ↑(Int.gcd (N s.toNat) (N s2.toNat))).natAbs = dxL (N s.toNat) (N s2.toNat) := htn; have h9 : dxL (N s.toNat) (N s2.toNat) ≤ (N s2.toNat).natAbs := Nat.div_le_self _ _; omega)) (by omega)
        refine sw_aload_n (n := 119) F 2 (some o) rfl rfl rfl dX4_divideExactly_118 rfl ?_
        refine sw_get (n := 122) F 0 rfl (k := 3) ⟨(RX4, TX4, 50), rfl, by decide, q3802, in_X4, Or.inl rfl⟩ (v := .ref (a 3)) rfl dX4_divideExactly_119 rfl ?_
        refine sw_iload_n (n := 123) F 4 rfl rfl dX4_divideExactly_122 rfl ?_
        refine sw_laloadL (n := 124) F 3 rfl (fun _ => rfl) s2.toNat (by omega) (by omega) dX4_divideExactly_123 rfl ?_
        refine sw_aload_n (n := 125) F 2 (some o) rfl rfl rfl dX4_divideExactly_124 rfl ?_
        refine sw_get (n := 128) F 0 rfl (k := 3) ⟨(RX4, TX4, 50), rfl, by decide, q3802, in_X4, Or.inl rfl⟩ (v := .ref (a 3)) rfl dX4_divideExactly_125 rfl ?_
        refine sw_iload_n (n := 129) F 3 rfl rfl dX4_divideExactly_128 rfl ?_
        refine sw_laloadL (n := 130) F 3 rfl (fun _ => rfl) s.toNat (by omega) (by omega) dX4_divideExactly_129 rfl ?_
        refine sw_aload_n (n := 131) F 2 (some o) rfl rfl rfl dX4_divideExactly_130 rfl ?_
        refine sw_get (n := 134) F 0 rfl (k := 3) ⟨(RX4, TX4, 50), rfl, by decide, q3802, in_X4, Or.inl rfl⟩ (v := .ref (a 3)) rfl dX4_divideExactly_131 rfl ?_
        refine sw_iload_n (n := 135) F 4 rfl rfl dX4_divideExactly_134 rfl ?_
        refine sw_laloadL (n := 136) F 3 rfl (fun _ => rfl) s2.toNat (by omega) (by omega) dX4_divideExactly_135 rfl ?_
        refine sw_callS (n := 139) F (ct_X4_common (g := xg x) (l := xl x) (N s.toNat) (N s2.toNat) (by first | omega | assumption) (by first | omega | assumption)) q4144 q4145 q120 q4146 nd_X4_common rfl (by decide) [0, 1, 2, 3, 4, 5] rfl [tmO (xg x) o a (va_up z 8 (dxP s s2 t Hs N)), aN (xg x) 0 (a 0) 2400 D, aN (xg x) 0 (a 1) 10 M, aL (xg x) (a 3) 12 N, aI (xg x) 0 (a 4) 12 Sc, aI (xg x) 4 (a 5) 12 Hs] rfl 0 0 ⟨by omega, by omega⟩ [.long (jL (N s2.toNat))] rfl (Nat.le_of_ble_eq_true rfl) dX4_divideExactly_136 rfl (fun _ _ h => h.elim) (fun v Ws h => ?_)
        obtain ⟨rfl, rfl⟩ := h
        show SW x [tmO (xg x) o a (va_up z 8 (dxP s s2 t Hs N)), aN (xg x) 0 (a 0) 2400 D, aN (xg x) 0 (a 1) 10 M, aL (xg x) (a 3) 12 N, aI (xg x) 0 (a 4) 12 Sc, aI (xg x) 4 (a 5) 12 Hs] _ _ _ _ [.long (jL (↑(Int.gcd (N s.toNat) (N s2.toNat)))), .long (jL (N s2.toNat))]
        refine sw_ldiv (n := 140) F (by omega) (by omega) (by omega) dX4_divideExactly_139 rfl ?_
        refine sw_lstore (n := 142) F (L2 := [(6, .long (jL ((N s2.toNat).tdiv (↑(Int.gcd (N s.toNat) (N s2.toNat)))))), (5, .int (jI ((Sc s.toNat) - (Sc s2.toNat)))), (4, .int (jI (xrI (N s.toNat) (N s2.toNat)))), (0, .ref o), (1, .int (jI (↑(s.toNat)))), (2, .int (jI (↑(s2.toNat)))), (3, .int (jI (↑(t.toNat))))]) rfl (by decide) dX4_divideExactly_140 rfl ?_
        have htn := td_na (N s2.toNat) (Int.gcd (N s.toNat) (N s2.toNat))
        refine sw_iconst (n := 143) F (0) (by decide) dX4_divideExactly_142 rfl ?_
        refine sw_istore (n := 145) F (L2 := [(8, .int (jI 0)), (6, .long (jL ((N s2.toNat).tdiv (↑(Int.gcd (N s.toNat) (N s2.toNat)))))), (5, .int (jI ((Sc s.toNat) - (Sc s2.toNat)))), (4, .int (jI (xrI (N s.toNat) (N s2.toNat)))), (0, .ref o), (1, .int (jI (↑(s.toNat)))), (2, .int (jI (↑(s2.toNat)))), (3, .int (jI (↑(t.toNat))))]) rfl (by decide) dX4_divideExactly_143 rfl ?_
        refine sw_iconst (n := 146) F (0) (by decide) dX4_divideExactly_145 rfl ?_
        refine sw_istore (n := 148) F (L2 := [(9, .int (jI 0)), (8, .int (jI 0)), (6, .long (jL ((N s2.toNat).tdiv (↑(Int.gcd (N s.toNat) (N s2.toNat)))))), (5, .int (jI ((Sc s.toNat) - (Sc s2.toNat)))), (4, .int (jI (xrI (N s.toNat) (N s2.toNat)))), (0, .ref o), (1, .int (jI (↑(s.toNat)))), (2, .int (jI (↑(s2.toNat)))), (3, .int (jI (↑(t.toNat))))]) rfl (by decide) dX4_divideExactly_146 rfl ?_
        have K148 : ∀ N148 : Nat, ∀ (w : Int) (j : Nat), (w.natAbs = dxL (N s.toNat) (N s2.toNat) / 2 ^ j) → (dxT (N s.toNat) (N s2.toNat) = j + fac 2 w.natAbs) → (w ≠ 0) → (-999999999999999999 ≤ w ∧ w ≤ 999999999999999999) → ((w.natAbs) < N148) → SW x [tmO (xg x) o a (va_up z 8 (dxP s s2 t Hs N)), aN (xg x) 0 (a 0) 2400 D, aN (xg x) 0 (a 1) 10 M, aL (xg x) (a 3) 12 N, aI (xg x) 0 (a 4) 12 Sc, aI (xg x) 4 (a 5) 12 Hs] 0 0 148 [(0, .ref o), (1, .int (jI (↑(s.toNat)))), (2, .int (jI (↑(s2.toNat)))), (3, .int (jI (↑(t.toNat)))), (4, .int (jI (xrI (N s.toNat) (N s2.toNat)))), (5, .int (jI ((Sc s.toNat) - (Sc s2.toNat)))), (6, .long (jL w)), (8, .int (jI (↑j))), (9, .int (jI 0))] [] := by
          intro N148; induction N148 with
          | zero => intro w j hw hfc hw0 hwr hmu148; omega
          | succ N148 ih148 =>
            intro w j hw hfc hw0 hwr hmu148
            have hm2 := Int.mul_tdiv_add_tmod w 2
            have ht2 : (w.tdiv 2).natAbs = w.natAbs / 2 := td_na w 2
            have hr2 : (w.tmod 2).natAbs = w.natAbs % 2 := tm_na w 2
            refine sw_lload (n := 150) F 6 rfl dX4_divideExactly_148 rfl ?_
            refine sw_ldc2 (n := 153) F (2) q4147 (by decide) dX4_divideExactly_150 rfl ?_
            refine sw_lrem (n := 154) F (by omega) (by decide) (by decide) dX4_divideExactly_153 rfl ?_
            refine sw_lconst (n := 155) F 0 (by decide) dX4_divideExactly_154 rfl ?_
            refine sw_lcmp (n := 156) F (by omega) (by decide) dX4_divideExactly_155 rfl ?_
            refine sw_if_ne (n := 159) F (by omega) (tgt := 173) dX4_divideExactly_156 (by decide) rfl (fun c_156 => ?_) (fun c_156 => ?_)
            ·
              have c_156 : w.tmod 2 ≠ 0 := by revert c_156; (repeat' split) <;> omega
              rw [show (↑j : Int) = ↑(dxT (N s.toNat) (N s2.toNat)) by first | omega | (have hf9 : fac 2 w.natAbs = 0 := fac_0 (by omega); omega)]
              exact K173 _ w 0 (by first | (rw [ht2, hw]; exact div_pp _ _ _) | (rw [ht5, hw]; exact div_pp _ _ _) | (rw [htn, Nat.pow_zero, Nat.div_one] <;> rfl) | (have hf9 : fac 2 w.natAbs = 0 := fac_0 (by omega); rw [hw, show j = dxT (N s.toNat) (N s2.toNat) by omega, Nat.pow_zero, Nat.div_one])) (by first | omega | (rw [ht2]; omega) | (rw [ht5]; omega) | (rw [htn, Nat.zero_add] <;> rfl) | exact dxG_0 hfc (fac_0 (by omega)) hw) (by first | assumption | omega | (have : 0 < dxL (N s.toNat) (N s2.toNat) := hdx.2.2.1; have h8 : ((N s2.toNat).tdiv ↑(Int.gcd (N s.toNat) (N s2.toNat))).natAbs = dxL (N s.toNat) (N s2.toNat) := htn; omega)) (by first | assumption | omega | (have h8 : ((N s2.toNat).tdiv ↑(Int.gcd (N s.toNat) (N s2.toNat))).natAbs = dxL (N s.toNat) (N s2.toNat) := htn; have h9 : dxL (N s.toNat) (N s2.toNat) ≤ (N s2.toNat).natAbs := Nat.div_le_self _ _; omega)) (Nat.lt_succ_self _)
            ·
              have c_156 : w.tmod 2 = 0 := by revert c_156; (repeat' split) <;> omega
              have hf2 : fac 2 w.natAbs = fac 2 (w.natAbs / 2) + 1 := fac_s ⟨by decide, by omega, by omega⟩
              refine sw_lload (n := 161) F 6 rfl dX4_divideExactly_159 rfl ?_
              refine sw_ldc2 (n := 164) F (2) q4147 (by decide) dX4_divideExactly_161 rfl ?_
              refine sw_ldiv (n := 165) F (by omega) (by decide) (by decide) dX4_divideExactly_164 rfl ?_
              refine sw_lstore (n := 167) F (L2 := [(6, .long (jL (w.tdiv 2))), (0, .ref o), (1, .int (jI (↑(s.toNat)))), (2, .int (jI (↑(s2.toNat)))), (3, .int (jI (↑(t.toNat)))), (4, .int (jI (xrI (N s.toNat) (N s2.toNat)))), (5, .int (jI ((Sc s.toNat) - (Sc s2.toNat)))), (8, .int (jI (↑j))), (9, .int (jI 0))]) rfl (by decide) dX4_divideExactly_165 rfl ?_
              refine sw_iinc (n := 170) F 7 (L2 := [(8, .int (jI (↑j + 1))), (6, .long (jL (w.tdiv 2))), (0, .ref o), (1, .int (jI (↑(s.toNat)))), (2, .int (jI (↑(s2.toNat)))), (3, .int (jI (↑(t.toNat)))), (4, .int (jI (xrI (N s.toNat) (N s2.toNat)))), (5, .int (jI ((Sc s.toNat) - (Sc s2.toNat)))), (9, .int (jI 0))]) rfl rfl (by decide) dX4_divideExactly_167 rfl ?_
              refine sw_goto F (n := 148) dX4_divideExactly_170 (by decide) ?_
              refine sw_loc [2, 3, 4, 5, 6, 7, 1, 0, 8] (L2 := [(0, .ref o), (1, .int (jI (↑(s.toNat)))), (2, .int (jI (↑(s2.toNat)))), (3, .int (jI (↑(t.toNat)))), (4, .int (jI (xrI (N s.toNat) (N s2.toNat)))), (5, .int (jI ((Sc s.toNat) - (Sc s2.toNat)))), (6, .long (jL (w.tdiv 2))), (8, .int (jI (↑j + 1))), (9, .int (jI 0))]) rfl ?_
              rw [show (↑j + 1 : Int) = ↑(j + 1) by first | omega | (have hf9 : fac 2 w.natAbs = 0 := fac_0 (by omega); omega)]
              exact ih148 (w.tdiv 2) (j + 1) (by first | (rw [ht2, hw]; exact div_pp _ _ _) | (rw [ht5, hw]; exact div_pp _ _ _) | (rw [htn, Nat.pow_zero, Nat.div_one] <;> rfl) | (have hf9 : fac 2 w.natAbs = 0 := fac_0 (by omega); rw [hw, show j = dxT (N s.toNat) (N s2.toNat) by omega, Nat.pow_zero, Nat.div_one])) (by first | omega | (rw [ht2]; omega) | (rw [ht5]; omega) | (rw [htn, Nat.zero_add] <;> rfl) | exact dxG_0 hfc (fac_0 (by omega)) hw) (by first | assumption | omega | (have : 0 < dxL (N s.toNat) (N s2.toNat) := hdx.2.2.1; have h8 : ((N s2.toNat).tdiv ↑(Int.gcd (N s.toNat) (N s2.toNat))).natAbs = dxL (N s.toNat) (N s2.toNat) := htn; omega)) (by first | assumption | omega | (have h8 : ((N s2.toNat).tdiv ↑(Int.gcd (N s.toNat) (N s2.toNat))).natAbs = dxL (N s.toNat) (N s2.toNat) := htn; have h9 : dxL (N s.toNat) (N s2.toNat) ≤ (N s2.toNat).natAbs := Nat.div_le_self _ _; omega)) (by omega)
        refine sw_loc [5, 6, 7, 8, 4, 3, 2, 1, 0] (L2 := [(0, .ref o), (1, .int (jI (↑(s.toNat)))), (2, .int (jI (↑(s2.toNat)))), (3, .int (jI (↑(t.toNat)))), (4, .int (jI (xrI (N s.toNat) (N s2.toNat)))), (5, .int (jI ((Sc s.toNat) - (Sc s2.toNat)))), (6, .long (jL ((N s2.toNat).tdiv (↑(Int.gcd (N s.toNat) (N s2.toNat)))))), (8, .int (jI 0)), (9, .int (jI 0))]) rfl ?_
        exact K148 _ ((N s2.toNat).tdiv (↑(Int.gcd (N s.toNat) (N s2.toNat)))) 0 (by first | (rw [ht2, hw]; exact div_pp _ _ _) | (rw [ht5, hw]; exact div_pp _ _ _) | (rw [htn, Nat.pow_zero, Nat.div_one] <;> rfl) | (have hf9 : fac 2 w.natAbs = 0 := fac_0 (by omega); rw [hw, show j = dxT (N s.toNat) (N s2.toNat) by omega, Nat.pow_zero, Nat.div_one])) (by first | omega | (rw [ht2]; omega) | (rw [ht5]; omega) | (rw [htn, Nat.zero_add] <;> rfl) | exact dxG_0 hfc (fac_0 (by omega)) hw) (by first | assumption | omega | (have : 0 < dxL (N s.toNat) (N s2.toNat) := hdx.2.2.1; have h8 : ((N s2.toNat).tdiv ↑(Int.gcd (N s.toNat) (N s2.toNat))).natAbs = dxL (N s.toNat) (N s2.toNat) := htn; omega)) (by first | assumption | omega | (have h8 : ((N s2.toNat).tdiv ↑(Int.gcd (N s.toNat) (N s2.toNat))).natAbs = dxL (N s.toNat) (N s2.toNat) := htn; have h9 : dxL (N s.toNat) (N s2.toNat) ≤ (N s2.toNat).natAbs := Nat.div_le_self _ _; omega)) (Nat.lt_succ_self _)
      refine sw_get (n := 65) F 0 rfl (k := 3) ⟨(RX4, TX4, 50), rfl, by decide, q3802, in_X4, Or.inl rfl⟩ (v := .ref (a 3)) rfl dX4_divideExactly_62 rfl ?_
      refine sw_iload_n (n := 66) F 1 rfl rfl dX4_divideExactly_65 rfl ?_
      refine sw_laloadL (n := 67) F 3 rfl (fun _ => rfl) s.toNat (by omega) (by omega) dX4_divideExactly_66 rfl ?_
      refine sw_lconst (n := 68) F 0 (by decide) dX4_divideExactly_67 rfl ?_
      refine sw_lcmp (n := 69) F (by omega) (by decide) dX4_divideExactly_68 rfl ?_
      refine sw_if_ge (n := 72) F (by omega) (tgt := 76) dX4_divideExactly_69 (by decide) rfl (fun c_69 => ?_) (fun c_69 => ?_)
      ·
        have c_69 : N s.toNat ≥ 0 := by revert c_69; (repeat' split) <;> omega
        refine sw_iconst (n := 77) F (0) (by decide) dX4_divideExactly_76 rfl ?_
        refine sw_aload_n (n := 78) F 0 (some o) rfl rfl rfl dX4_divideExactly_77 rfl ?_
        refine sw_get (n := 81) F 0 rfl (k := 3) ⟨(RX4, TX4, 50), rfl, by decide, q3802, in_X4, Or.inl rfl⟩ (v := .ref (a 3)) rfl dX4_divideExactly_78 rfl ?_
        refine sw_iload_n (n := 82) F 2 rfl rfl dX4_divideExactly_81 rfl ?_
        refine sw_laloadL (n := 83) F 3 rfl (fun _ => rfl) s2.toNat (by omega) (by omega) dX4_divideExactly_82 rfl ?_
        refine sw_lconst (n := 84) F 0 (by decide) dX4_divideExactly_83 rfl ?_
        refine sw_lcmp (n := 85) F (by omega) (by decide) dX4_divideExactly_84 rfl ?_
        refine sw_if_ge (n := 88) F (by omega) (tgt := 92) dX4_divideExactly_85 (by decide) rfl (fun c_85 => ?_) (fun c_85 => ?_)
        ·
          have c_85 : N s2.toNat ≥ 0 := by revert c_85; (repeat' split) <;> omega
          refine sw_iconst (n := 93) F (0) (by decide) dX4_divideExactly_92 rfl ?_
          refine sw_icmp_eq (n := 96) F (by decide) (by decide) (tgt := 100) dX4_divideExactly_93 (by decide) rfl (fun c_93 => ?_) (fun c_93 => ?_)
          ·
            refine sw_iconst (n := 101) F (0) (by decide) dX4_divideExactly_100 rfl ?_
            exact K101 0 (by first | rw [xrI_0 (by omega)] | rw [xrI_1 (by omega)])
          · exfalso; exact absurd c_93 (by decide)
        ·
          have c_85 : N s2.toNat < 0 := by revert c_85; (repeat' split) <;> omega
          refine sw_iconst (n := 89) F (1) (by decide) dX4_divideExactly_88 rfl ?_
          refine sw_goto F (n := 93) dX4_divideExactly_89 (by decide) ?_
          refine sw_icmp_eq (n := 96) F (by decide) (by decide) (tgt := 100) dX4_divideExactly_93 (by decide) rfl (fun c_93 => ?_) (fun c_93 => ?_)
          · exfalso; exact absurd c_93 (by decide)
          ·
            refine sw_iconst (n := 97) F (1) (by decide) dX4_divideExactly_96 rfl ?_
            refine sw_goto F (n := 101) dX4_divideExactly_97 (by decide) ?_
            exact K101 1 (by first | rw [xrI_0 (by omega)] | rw [xrI_1 (by omega)])
      ·
        have c_69 : N s.toNat < 0 := by revert c_69; (repeat' split) <;> omega
        refine sw_iconst (n := 73) F (1) (by decide) dX4_divideExactly_72 rfl ?_
        refine sw_goto F (n := 77) dX4_divideExactly_73 (by decide) ?_
        refine sw_aload_n (n := 78) F 0 (some o) rfl rfl rfl dX4_divideExactly_77 rfl ?_
        refine sw_get (n := 81) F 0 rfl (k := 3) ⟨(RX4, TX4, 50), rfl, by decide, q3802, in_X4, Or.inl rfl⟩ (v := .ref (a 3)) rfl dX4_divideExactly_78 rfl ?_
        refine sw_iload_n (n := 82) F 2 rfl rfl dX4_divideExactly_81 rfl ?_
        refine sw_laloadL (n := 83) F 3 rfl (fun _ => rfl) s2.toNat (by omega) (by omega) dX4_divideExactly_82 rfl ?_
        refine sw_lconst (n := 84) F 0 (by decide) dX4_divideExactly_83 rfl ?_
        refine sw_lcmp (n := 85) F (by omega) (by decide) dX4_divideExactly_84 rfl ?_
        refine sw_if_ge (n := 88) F (by omega) (tgt := 92) dX4_divideExactly_85 (by decide) rfl (fun c_85 => ?_) (fun c_85 => ?_)
        ·
          have c_85 : N s2.toNat ≥ 0 := by revert c_85; (repeat' split) <;> omega
          refine sw_iconst (n := 93) F (0) (by decide) dX4_divideExactly_92 rfl ?_
          refine sw_icmp_eq (n := 96) F (by decide) (by decide) (tgt := 100) dX4_divideExactly_93 (by decide) rfl (fun c_93 => ?_) (fun c_93 => ?_)
          · exfalso; exact absurd c_93 (by decide)
          ·
            refine sw_iconst (n := 97) F (1) (by decide) dX4_divideExactly_96 rfl ?_
            refine sw_goto F (n := 101) dX4_divideExactly_97 (by decide) ?_
            exact K101 1 (by first | rw [xrI_0 (by omega)] | rw [xrI_1 (by omega)])
        ·
          have c_85 : N s2.toNat < 0 := by revert c_85; (repeat' split) <;> omega
          refine sw_iconst (n := 89) F (1) (by decide) dX4_divideExactly_88 rfl ?_
          refine sw_goto F (n := 93) dX4_divideExactly_89 (by decide) ?_
          refine sw_icmp_eq (n := 96) F (by decide) (by decide) (tgt := 100) dX4_divideExactly_93 (by decide) rfl (fun c_93 => ?_) (fun c_93 => ?_)
          ·
            refine sw_iconst (n := 101) F (0) (by decide) dX4_divideExactly_100 rfl ?_
            exact K101 0 (by first | rw [xrI_0 (by omega)] | rw [xrI_1 (by omega)])
          · exfalso; exact absurd c_93 (by decide)
    ·
      refine sw_iconst (n := 60) F (0) (by decide) dX4_divideExactly_59 rfl ?_
      have e0 : dxP s s2 t Hs N ≠ 0 := by omega
      have e : cd2 3 (dxP s s2 t Hs N) (lrI (dxF (N s.toNat) (N s2.toNat)) (laI ((N s.toNat).natAbs * 10 ^ (dxM (N s.toNat) (N s2.toNat)).toNat / (N s2.toNat).natAbs) (Sc s.toNat - Sc s2.toNat + dxM (N s.toNat) (N s2.toNat)))) = dxP s s2 t Hs N := cd2_n e0
      exact sw_iret F _ rfl (by first | rfl | exact jI_nz (by omega) | exact jI_nc (by omega)) dX4_divideExactly_60 (by rw [hPo]; exact ⟨D, M, (by first | rw [e, if0_n e0] | (rw [e]; exact congrArg _ (congrArg _ (if0_n e0)))), (by exact (RV.rf hA).mono (S := []) (by simp)), (by rw [e]; simp only [up0_n e0, up_88])⟩)
  refine sw_aload_n (n := 2) F 0 (some o) rfl rfl rfl dX4_divideExactly_1 rfl ?_
  refine sw_iload_n (n := 3) F 1 rfl rfl dX4_divideExactly_2 rfl ?_
  refine sw_iload_n (n := 4) F 2 rfl rfl dX4_divideExactly_3 rfl ?_
  refine sw_iload_n (n := 5) F 3 rfl rfl dX4_divideExactly_4 rfl ?_
  refine sw_callV (n := 8) F (ct_X4_noPair (g := xg x) (l := xl x) o a z s s2 t hs hs2 ht) (rcv_ob F 0 (ci := 3) rfl rfl) q4052 q4054 qs78 q120 q4055 nd_X4_noPair rfl (by decide) [0, 1, 2, 3, 4, 5] rfl [aN (xg x) 0 (a 0) 2400 D, aN (xg x) 0 (a 1) 10 M, aL (xg x) (a 3) 12 N, aI (xg x) 0 (a 4) 12 Sc, aI (xg x) 4 (a 5) 12 Hs] rfl 0 0 ⟨by omega, by omega⟩ [.ref o] rfl (Nat.le_of_ble_eq_true rfl) dX4_divideExactly_5 rfl (fun _ _ h => h.elim) (fun v Ws h => ?_)
  obtain ⟨rfl, hnp_36, rfl⟩ := h
  show SW x [tmO (xg x) o a z, aN (xg x) 0 (a 0) 2400 D, aN (xg x) 0 (a 1) 10 M, aL (xg x) (a 3) 12 N, aI (xg x) 0 (a 4) 12 Sc, aI (xg x) 4 (a 5) 12 Hs] _ _ _ _ [.int (jI (npI s s2 t)), .ref o]
  refine sw_if_le (n := 11) F (by omega) (tgt := 15) dX4_divideExactly_8 (by decide) rfl (fun c_8 => ?_) (fun c_8 => ?_)
  ·
    refine sw_aload_n (n := 16) F 0 (some o) rfl rfl rfl dX4_divideExactly_15 rfl ?_
    refine sw_get (n := 19) F 0 rfl (k := 5) ⟨(RX4, TX4, 50), rfl, by decide, q3804, in_X4, Or.inl rfl⟩ (v := .ref (a 5)) rfl dX4_divideExactly_16 rfl ?_
    refine sw_iload_n (n := 20) F 1 rfl rfl dX4_divideExactly_19 rfl ?_
    refine sw_zaloadI (n := 21) F 5 rfl (fun _ => rfl) ((s : Int).toNat) (by omega) (by omega) dX4_divideExactly_20 rfl ?_
    refine sw_if_eq (n := 24) F (by omega) (tgt := 33) dX4_divideExactly_21 (by decide) rfl (fun c_21 => ?_) (fun c_21 => ?_)
    ·
      refine sw_iconst (n := 34) F (2) (by decide) dX4_divideExactly_33 rfl ?_
      refine sw_goto F (n := 53) dX4_divideExactly_34 (by decide) ?_
      exact K53 2 (by unfold dxP; (repeat' split) <;> omega)
    ·
      refine sw_aload_n (n := 25) F 0 (some o) rfl rfl rfl dX4_divideExactly_24 rfl ?_
      refine sw_get (n := 28) F 0 rfl (k := 5) ⟨(RX4, TX4, 50), rfl, by decide, q3804, in_X4, Or.inl rfl⟩ (v := .ref (a 5)) rfl dX4_divideExactly_25 rfl ?_
      refine sw_iload_n (n := 29) F 2 rfl rfl dX4_divideExactly_28 rfl ?_
      refine sw_zaloadI (n := 30) F 5 rfl (fun _ => rfl) ((s2 : Int).toNat) (by omega) (by omega) dX4_divideExactly_29 rfl ?_
      refine sw_if_ne (n := 33) F (by omega) (tgt := 37) dX4_divideExactly_30 (by decide) rfl (fun c_30 => ?_) (fun c_30 => ?_)
      ·
        refine sw_aload_n (n := 38) F 0 (some o) rfl rfl rfl dX4_divideExactly_37 rfl ?_
        refine sw_get (n := 41) F 0 rfl (k := 3) ⟨(RX4, TX4, 50), rfl, by decide, q3802, in_X4, Or.inl rfl⟩ (v := .ref (a 3)) rfl dX4_divideExactly_38 rfl ?_
        refine sw_iload_n (n := 42) F 2 rfl rfl dX4_divideExactly_41 rfl ?_
        refine sw_laloadL (n := 43) F 3 rfl (fun _ => rfl) ((s2 : Int).toNat) (by omega) (by omega) dX4_divideExactly_42 rfl ?_
        refine sw_lconst (n := 44) F 0 (by decide) dX4_divideExactly_43 rfl ?_
        refine sw_lcmp (n := 45) F (by omega) (by decide) dX4_divideExactly_44 rfl ?_
        refine sw_if_ne (n := 48) F (by omega) (tgt := 52) dX4_divideExactly_45 (by decide) rfl (fun c_45 => ?_) (fun c_45 => ?_)
        ·
          have c_45 : N ((s2 : Int).toNat) ≠ 0 := by revert c_45; (repeat' split) <;> omega
          refine sw_iconst (n := 53) F (0) (by decide) dX4_divideExactly_52 rfl ?_
          exact K53 0 (by unfold dxP; (repeat' split) <;> omega)
        ·
          have c_45 : N ((s2 : Int).toNat) = 0 := by revert c_45; (repeat' split) <;> omega
          refine sw_iconst (n := 49) F (3) (by decide) dX4_divideExactly_48 rfl ?_
          refine sw_goto F (n := 53) dX4_divideExactly_49 (by decide) ?_
          exact K53 3 (by unfold dxP; (repeat' split) <;> omega)
      ·
        refine sw_iconst (n := 34) F (2) (by decide) dX4_divideExactly_33 rfl ?_
        refine sw_goto F (n := 53) dX4_divideExactly_34 (by decide) ?_
        exact K53 2 (by unfold dxP; (repeat' split) <;> omega)
  ·
    refine sw_iconst (n := 12) F (1) (by decide) dX4_divideExactly_11 rfl ?_
    refine sw_goto F (n := 53) dX4_divideExactly_12 (by decide) ?_
    exact K53 1 (by unfold dxP; (repeat' split) <;> omega)
