def fac (p n : Nat) : Nat := if h : 1 < p ∧ 0 < n ∧ n % p = 0 then fac p (n / p) + 1 else 0
termination_by n
decreasing_by exact Nat.div_lt_self h.2.1 h.1
theorem fac_s {p n : Nat} (h : 1 < p ∧ 0 < n ∧ n % p = 0) : fac p n = fac p (n / p) + 1 := by rw [fac, dif_pos h]
theorem fac_0 {p n : Nat} (h : ¬(1 < p ∧ 0 < n ∧ n % p = 0)) : fac p n = 0 := by rw [fac, dif_neg h]
theorem fac_le {p : Nat} : ∀ n, 0 < n → p ^ fac p n ≤ n := by
  intro n
  induction n using Nat.strongRecOn with
  | _ n ih =>
    intro h
    by_cases c : 1 < p ∧ 0 < n ∧ n % p = 0
    · rw [fac_s c, Nat.pow_succ]
      have h1 := Nat.div_lt_self c.2.1 c.1
      have h2 : n / p * p = n := Nat.div_mul_cancel (Nat.dvd_of_mod_eq_zero c.2.2)
      have h3 : 0 < n / p := Nat.pos_of_ne_zero (fun e => by rw [e] at h2; omega)
      have h4 := Nat.mul_le_mul_right p (ih _ h1 h3)
      omega
    · rw [fac_0 c, Nat.pow_zero]; exact h
theorem fac_lt {p n k : Nat} (hp : 1 < p) (h0 : 0 < n) (h : n < p ^ k) : fac p n < k :=
  (Nat.pow_lt_pow_iff_right hp).mp (Nat.lt_of_le_of_lt (fac_le n h0) h)
theorem fac_j {v : Int} {j x : Nat} (hv : -999999999999999999 ≤ v ∧ v ≤ 999999999999999999) (h : v ≠ 0 → fac 10 v.natAbs = j + x) (h0 : v = 0 → j = 0) : j ≤ 18 := by
  by_cases e : v = 0
  · rw [h0 e]; omega
  · have h1 := fac_lt (p := 10) (k := 18) (by decide) (show 0 < v.natAbs by omega) (abs_18 hv)
    have h2 := h e
    omega
def stV (v : Int) : Int := sgn (bl v) (v.natAbs / 10 ^ fac 10 v.natAbs)
theorem stV_0 {v : Int} (h : v = 0) : stV v = 0 := by subst h; simp [stV, sgn, bl]
theorem stV_at {v : Int} {j : Nat} (h : fac 10 v.natAbs = j) : (stV v).natAbs = v.natAbs / 10 ^ j := by unfold stV; rw [sgn_na, h]
theorem stV_sg (v : Int) : (v < 0 → stV v ≤ 0) ∧ (0 ≤ v → 0 ≤ stV v) := by
  unfold stV bl
  generalize v.natAbs / 10 ^ fac 10 v.natAbs = m
  unfold sgn
  constructor <;> intro h <;> (repeat' split) <;> omega
def tnV (N : Nat → Int) (i : Nat) (c : Int) : Int := if c = 45 then -(N i) else if c = 97 then ((N i).natAbs : Int) else stV (N i)
def tnS (N Sc : Nat → Int) (i : Nat) (c : Int) : Int := if c = 115 then (if N i = 0 then 0 else Sc i - (fac 10 (N i).natAbs : Int)) else Sc i
theorem tn_a {N : Nat → Int} {i : Nat} {c w : Int} (hc : c = 115) (hv : N i = 0) (hw : w = 0) : w.natAbs = (tnV N i c).natAbs := by
  unfold tnV; rw [if_neg (by omega), if_neg (by omega), stV_0 hv, hw]
theorem tn_b {N : Nat → Int} {i j : Nat} {c w : Int} (hc : c = 115) (hf : fac 10 (N i).natAbs = j) (hw : w.natAbs = (N i).natAbs / 10 ^ j) : w.natAbs = (tnV N i c).natAbs := by
  unfold tnV; rw [if_neg (by omega), if_neg (by omega), stV_at hf, hw]
theorem ts_a {N Sc : Nat → Int} {i : Nat} {c : Int} (hc : c = 115) (hv : N i = 0) : 0 = tnS N Sc i c := by unfold tnS; rw [if_pos hc, if_pos hv]
theorem ts_b {N Sc : Nat → Int} {i j : Nat} {c : Int} (hc : c = 115) (hv : N i ≠ 0) (hf : fac 10 (N i).natAbs = j) : Sc i - (j : Int) = tnS N Sc i c := by unfold tnS; rw [if_pos hc, if_neg hv, hf]
theorem ts_c {N Sc : Nat → Int} {i : Nat} {c : Int} (hc : c ≠ 115) : Sc i = tnS N Sc i c := by unfold tnS; rw [if_neg hc]
theorem td_na (w : Int) (n : Nat) : (w.tdiv n).natAbs = w.natAbs / n := by rw [Int.natAbs_tdiv]; rfl
theorem tm_na (w : Int) (n : Nat) : (w.tmod n).natAbs = w.natAbs % n := by rw [Int.natAbs_tmod]; rfl
theorem fac_end {v w : Int} {j : Nat} (hfc : v ≠ 0 → fac 10 v.natAbs = j + fac 10 w.natAbs) (hv : v ≠ 0) (hw : w.natAbs % 10 ≠ 0) : fac 10 v.natAbs = j := by
  have h := hfc hv
  rw [fac_0 (n := w.natAbs) (by omega)] at h
  exact h
theorem div_ps (a j : Nat) : a / 10 ^ j / 10 = a / 10 ^ (j + 1) := by rw [Nat.pow_succ, Nat.div_div_eq_div_mul]
def tnP (s c t : Int) (H : Nat → Int) : Int := if s < 0 ∨ 11 < s ∨ t < 0 ∨ 11 < t then 1 else if ¬(c = 45 ∨ c = 97 ∨ c = 115) then 2 else if H s.toNat = 0 then 3 else 0
theorem tnP_c (s c t : Int) (H : Nat → Int) : (tnP s c t H = 1 ∧ (s < 0 ∨ 11 < s ∨ t < 0 ∨ 11 < t)) ∨ (tnP s c t H = 2 ∧ ¬(s < 0 ∨ 11 < s ∨ t < 0 ∨ 11 < t) ∧ (¬(c = 45 ∨ c = 97 ∨ c = 115))) ∨ (tnP s c t H = 3 ∧ ¬(s < 0 ∨ 11 < s ∨ t < 0 ∨ 11 < t) ∧ ¬(¬(c = 45 ∨ c = 97 ∨ c = 115)) ∧ (H s.toNat = 0)) ∨ (tnP s c t H = 0 ∧ ¬(s < 0 ∨ 11 < s ∨ t < 0 ∨ 11 < t) ∧ ¬(¬(c = 45 ∨ c = 97 ∨ c = 115)) ∧ ¬(H s.toNat = 0)) := by
  unfold tnP; (repeat' split) <;> omega
theorem nd_X4_turn : yX4_turn.cls ≠ "java/lang/invoke/MethodHandle" ∧ yX4_turn.cls ≠ "java/lang/invoke/VarHandle" ∧ (parseMethodDescriptor yX4_turn.desc).map (fun d => d.parameters.length) = some 3 := by decide +kernel
set_option maxRecDepth 100000 in
set_option maxHeartbeats 16000000 in
theorem ct_X4_turn {g : GG} {l : Launch} (o : Nat) (a : Nat → Nat) (z : Nat → Int) (D : Nat → Nat) (M : Nat → Nat) (N : Nat → Int) (Sc : Nat → Int) (Hs : Nat → Int) (s : Int) (c : Int) (t : Int) (hs : -2147483648 ≤ s ∧ s ≤ 2147483647) (hc : 0 ≤ c ∧ c ≤ 65535) (ht : -2147483648 ≤ t ∧ t ≤ 2147483647) (hA : Dok D M) (hN : NB N) (hSc : SB Sc) (hB : HB Hs) : Ct g l yX4_turn (ws_ yX4_turn cX4_turn 9 (Option.some Jvm.ClassFile.FieldType.int)) 4 82 0 0 [.ref o, .int (jI s), .int (jI c), .int (jI t)] [tmO g o a z, aN g 0 (a 0) 2400 D, aN g 0 (a 1) 10 M, aL g (a 3) 12 N, aI g 0 (a 4) 12 Sc, aI g 4 (a 5) 12 Hs] (fun v9 Ws9 => ∃ D1 : Nat → Nat, ∃ M1 : Nat → Nat, v9 = some (.int (jI (if0 (cd2 4 (tnP s c t Hs) (laI (tnV N s.toNat c).natAbs (tnS N Sc s.toNat c))) (tnS N Sc s.toNat c)))) ∧ (RV [4] D M D1 M1) ∧ Ws9 = [tmO g o a (va_up z 8 (cd2 4 (tnP s c t Hs) (laI (tnV N s.toNat c).natAbs (tnS N Sc s.toNat c)))), aN g 0 (a 0) 2400 D1, aN g 0 (a 1) 10 M1, aL g (a 3) 12 (up0 (cd2 4 (tnP s c t Hs) (laI (tnV N s.toNat c).natAbs (tnS N Sc s.toNat c))) N t.toNat (tnV N s.toNat c)), aI g 0 (a 4) 12 (up0 (cd2 4 (tnP s c t Hs) (laI (tnV N s.toNat c).natAbs (tnS N Sc s.toNat c))) Sc t.toNat (tnS N Sc s.toNat c)), aI g 4 (a 5) 12 (up0 (cd2 4 (tnP s c t Hs) (laI (tnV N s.toNat c).natAbs (tnS N Sc s.toNat c))) Hs t.toNat 1)]) (nox) := by
  refine Ct.of (cc := cX4_turn) (nL := 9) (ret := (Option.some Jvm.ClassFile.FieldType.int)) (by decide) rfl (Nat.le_of_ble_eq_true rfl) ?_
  intro x hg hl hPo hPx hmc hms F
  subst hg; subst hl
  refine SW.cast (L' := [(0, .ref o), (1, .int (jI s)), (2, .int (jI c)), (3, .int (jI t))]) ?_ rfl rfl rfl
  have hq1 := hB s.toNat
  have hn := hN s.toNat
  have hss := hSc s.toNat
  refine sw_iload_n (n := 1) F 2 rfl rfl dX4_turn_0 rfl ?_
  have K67 : ∀ (p : Int), (p = tnP s c t Hs) → SW x [tmO (xg x) o a z, aN (xg x) 0 (a 0) 2400 D, aN (xg x) 0 (a 1) 10 M, aL (xg x) (a 3) 12 N, aI (xg x) 0 (a 4) 12 Sc, aI (xg x) 4 (a 5) 12 Hs] 0 0 67 [(0, .ref o), (1, .int (jI s)), (2, .int (jI c)), (3, .int (jI t))] [.int (jI p), .ref o] := by
    intro p hpc
    subst hpc
    have hcs := tnP_c s c t Hs
    refine sw_callV (n := 70) F (ct_X4_fails (g := xg x) (l := xl x) o a z (tnP s c t Hs) (by first | assumption | omega)) (rcv_ob F 0 (ci := 3) rfl rfl) q3973 q3975 qs68 q120 q3976 nd_X4_fails rfl (by decide) [0, 1, 2, 3, 4, 5] rfl [aN (xg x) 0 (a 0) 2400 D, aN (xg x) 0 (a 1) 10 M, aL (xg x) (a 3) 12 N, aI (xg x) 0 (a 4) 12 Sc, aI (xg x) 4 (a 5) 12 Hs] rfl 0 0 ⟨by omega, by omega⟩ [] rfl (Nat.le_of_ble_eq_true rfl) dX4_turn_67 rfl (fun _ _ h => h.elim) (fun v Ws h => ?_)
    obtain ⟨rfl, hps_1, rfl⟩ := h
    show SW x [tmO (xg x) o a (va_up z 8 (tnP s c t Hs)), aN (xg x) 0 (a 0) 2400 D, aN (xg x) 0 (a 1) 10 M, aL (xg x) (a 3) 12 N, aI (xg x) 0 (a 4) 12 Sc, aI (xg x) 4 (a 5) 12 Hs] _ _ _ _ [.int (jI (psI (tnP s c t Hs)))]
    refine sw_if_eq (n := 73) F (by omega) (tgt := 75) dX4_turn_70 (by decide) rfl (fun c_70 => ?_) (fun c_70 => ?_)
    ·
      refine SW.cast (L' := [(0, .ref o), (1, .int (jI (↑(s.toNat)))), (2, .int (jI c)), (3, .int (jI (↑(t.toNat))))]) ?_ rfl (by rw [Int.toNat_of_nonneg (show 0 ≤ s by omega), Int.toNat_of_nonneg (show 0 ≤ t by omega)]) rfl
      have hst := stV_sg (N s.toNat)
      refine sw_aload_n (n := 76) F 0 (some o) rfl rfl rfl dX4_turn_75 rfl ?_
      have K139 : ∀ (w : Int) (k : Int), (w.natAbs = (tnV N s.toNat c).natAbs) → (k = tnS N Sc s.toNat c) → ((0 < w ↔ 0 < N s.toNat) ∧ (w < 0 ↔ N s.toNat < 0)) → (-999999999999999999 ≤ w ∧ w ≤ 999999999999999999) → (-100 ≤ k ∧ k ≤ 100) → SW x [tmO (xg x) o a (va_up z 8 (tnP s c t Hs)), aN (xg x) 0 (a 0) 2400 D, aN (xg x) 0 (a 1) 10 M, aL (xg x) (a 3) 12 N, aI (xg x) 0 (a 4) 12 Sc, aI (xg x) 4 (a 5) 12 Hs] 0 0 139 [(0, .ref o), (1, .int (jI (↑(s.toNat)))), (2, .int (jI c)), (3, .int (jI (↑(t.toNat)))), (5, .long (jL w)), (7, .int (jI k))] [] := by
        intro w k hwa hks hsg hwr hkr
        refine sw_iload_n (n := 140) F 2 rfl rfl dX4_turn_139 rfl ?_
        have K178 : ∀ (q : Int), (sgn q w.natAbs = tnV N s.toNat c) → (q = 0 ∨ q = 1) → SW x [tmO (xg x) o a (va_up z 8 (tnP s c t Hs)), aN (xg x) 0 (a 0) 2400 D, aN (xg x) 0 (a 1) 10 M, aL (xg x) (a 3) 12 N, aI (xg x) 0 (a 4) 12 Sc, aI (xg x) 4 (a 5) 12 Hs] 0 0 178 [(0, .ref o), (1, .int (jI (↑(s.toNat)))), (2, .int (jI c)), (3, .int (jI (↑(t.toNat)))), (5, .long (jL w)), (7, .int (jI k))] [.int (jI q)] := by
          intro q hqv hq01
          refine sw_istore (n := 180) F (L2 := [(8, .int (jI q)), (0, .ref o), (1, .int (jI (↑(s.toNat)))), (2, .int (jI c)), (3, .int (jI (↑(t.toNat)))), (5, .long (jL w)), (7, .int (jI k))]) rfl (by decide) dX4_turn_178 rfl ?_
          have ev : tnV N s.toNat c = sgn q w.natAbs := hqv.symm
          have es : tnS N Sc s.toNat c = k := hks.symm
          have ea : (tnV N s.toNat c).natAbs = w.natAbs := by rw [ev, sgn_na]
          refine sw_aload_n (n := 181) F 1 (some o) rfl rfl rfl dX4_turn_180 rfl ?_
          refine sw_iconst (n := 182) F (4) (by decide) dX4_turn_181 rfl ?_
          refine sw_lload (n := 184) F 5 rfl dX4_turn_182 rfl ?_
          refine sw_callV (n := 187) F (ct_X4_lets (g := xg x) (l := xl x) o a (va_up z 8 (tnP s c t Hs)) D M 4 w (by first | assumption | omega) hA (by first | assumption | omega)) (rcv_ob F 0 (ci := 3) rfl rfl) q4004 q4006 qs71 q120 q4007 nd_X4_lets rfl (by decide) [0, 1, 2, 3, 4, 5] rfl [aL (xg x) (a 3) 12 N, aI (xg x) 0 (a 4) 12 Sc, aI (xg x) 4 (a 5) 12 Hs] rfl 0 0 ⟨by omega, by omega⟩ [] rfl (Nat.le_of_ble_eq_true rfl) dX4_turn_184 rfl (fun _ _ h => h.elim) (fun v Ws h => ?_)
          obtain ⟨D1_2, M1_3, rfl, hU_4, rfl⟩ := h
          show SW x [tmO (xg x) o a (va_up z 8 (tnP s c t Hs)), aN (xg x) 0 (a 0) 2400 D1_2, aN (xg x) 0 (a 1) 10 M1_3, aL (xg x) (a 3) 12 N, aI (xg x) 0 (a 4) 12 Sc, aI (xg x) 4 (a 5) 12 Hs] _ _ _ _ []
          have a_5 := hU_4.1
          have r_6 : rok D1_2 M1_3 4 w.natAbs := hU_4.2.2.2
          have v_7 := hU_4.rv
          refine sw_aload_n (n := 188) F 1 (some o) rfl rfl rfl dX4_turn_187 rfl ?_
          refine sw_aload_n (n := 189) F 1 (some o) rfl rfl rfl dX4_turn_188 rfl ?_
          refine sw_iload_n (n := 190) F 4 rfl rfl dX4_turn_189 rfl ?_
          refine sw_iconst (n := 191) F (4) (by decide) dX4_turn_190 rfl ?_
          refine sw_iload (n := 193) F 0 rfl dX4_turn_191 rfl ?_
          refine sw_iload (n := 195) F 6 rfl dX4_turn_193 rfl ?_
          refine sw_callV (n := 198) F (ct_X4_lays (g := xg x) (l := xl x) o a (va_up z 8 (tnP s c t Hs)) D1_2 M1_3 N Sc Hs t.toNat 4 w.natAbs q k (by first | assumption | omega) (by first | assumption | omega) a_5 r_6 hq01 (by first | assumption | omega)) (rcv_ob F 0 (ci := 3) rfl rfl) q4020 q4022 qs75 q120 q4023 nd_X4_lays rfl (by decide) [0, 1, 2, 3, 4, 5] rfl [] rfl 0 0 ⟨by omega, by omega⟩ [.ref o] rfl (Nat.le_of_ble_eq_true rfl) dX4_turn_195 rfl (fun _ _ h => h.elim) (fun v Ws h => ?_)
          obtain ⟨rfl, hl_8, rfl⟩ := h
          show SW x [tmO (xg x) o a (va_up z 8 (tnP s c t Hs)), aN (xg x) 0 (a 0) 2400 D1_2, aN (xg x) 0 (a 1) 10 M1_3, aL (xg x) (a 3) 12 (up1 (laI w.natAbs k) N t.toNat (sgn q w.natAbs)), aI (xg x) 0 (a 4) 12 (up1 (laI w.natAbs k) Sc t.toNat k), aI (xg x) 4 (a 5) 12 (up1 (laI w.natAbs k) Hs t.toNat 1)] _ _ _ _ [.int (jI (laI w.natAbs k)), .ref o]
          have la_9 := laI_cases w.natAbs k
          refine sw_if_eq (n := 201) F (by omega) (tgt := 205) dX4_turn_198 (by decide) rfl (fun c_198 => ?_) (fun c_198 => ?_)
          ·
            refine sw_iconst (n := 206) F (4) (by decide) dX4_turn_205 rfl ?_
            refine sw_callV (n := 209) F (ct_X4_fails (g := xg x) (l := xl x) o a (va_up z 8 (tnP s c t Hs)) 4 (by first | assumption | omega)) (rcv_ob F 0 (ci := 3) rfl rfl) q3973 q3975 qs68 q120 q3976 nd_X4_fails rfl (by decide) [0, 1, 2, 3, 4, 5] rfl [aN (xg x) 0 (a 0) 2400 D1_2, aN (xg x) 0 (a 1) 10 M1_3, aL (xg x) (a 3) 12 (up1 (laI w.natAbs k) N t.toNat (sgn q w.natAbs)), aI (xg x) 0 (a 4) 12 (up1 (laI w.natAbs k) Sc t.toNat k), aI (xg x) 4 (a 5) 12 (up1 (laI w.natAbs k) Hs t.toNat 1)] rfl 0 0 ⟨by omega, by omega⟩ [] rfl (Nat.le_of_ble_eq_true rfl) dX4_turn_206 rfl (fun _ _ h => h.elim) (fun v Ws h => ?_)
            obtain ⟨rfl, hps_10, rfl⟩ := h
            show SW x [tmO (xg x) o a (va_up (va_up z 8 (tnP s c t Hs)) 8 4), aN (xg x) 0 (a 0) 2400 D1_2, aN (xg x) 0 (a 1) 10 M1_3, aL (xg x) (a 3) 12 (up1 (laI w.natAbs k) N t.toNat (sgn q w.natAbs)), aI (xg x) 0 (a 4) 12 (up1 (laI w.natAbs k) Sc t.toNat k), aI (xg x) 4 (a 5) 12 (up1 (laI w.natAbs k) Hs t.toNat 1)] _ _ _ _ [.int (jI 1)]
            refine sw_if_eq (n := 212) F (by decide) (tgt := 216) dX4_turn_209 (by decide) rfl (fun c_209 => ?_) (fun c_209 => ?_)
            · exfalso; exact absurd c_209 (by decide)
            ·
              refine sw_iconst (n := 213) F (0) (by decide) dX4_turn_212 rfl ?_
              refine sw_goto F (n := 222) dX4_turn_213 (by decide) ?_
              have e0 : tnP s c t Hs = 0 := by omega
              have l1 : laI (tnV N s.toNat c).natAbs (tnS N Sc s.toNat c) = 0 := by rw [ea, es]; first | assumption | omega
              have e : cd2 4 (tnP s c t Hs) (laI (tnV N s.toNat c).natAbs (tnS N Sc s.toNat c)) = 4 := cd2_f e0 l1
              rw [ea, es] at l1
              exact sw_iret F _ rfl (by first | rfl | exact jI_nz (by omega) | exact jI_nc (by omega)) dX4_turn_222 (by rw [hPo]; exact ⟨D1_2, M1_3, (by rw [e]; rfl), (by exact v_7.mono (by simp)), (by rw [e]; simp only [up0_4, l1, up1_00, ev, es, up_88])⟩)
          ·
            refine sw_iconst (n := 202) F (0) (by decide) dX4_turn_201 rfl ?_
            refine sw_goto F (n := 206) dX4_turn_202 (by decide) ?_
            refine sw_callV (n := 209) F (ct_X4_fails (g := xg x) (l := xl x) o a (va_up z 8 (tnP s c t Hs)) 0 (by first | assumption | omega)) (rcv_ob F 0 (ci := 3) rfl rfl) q3973 q3975 qs68 q120 q3976 nd_X4_fails rfl (by decide) [0, 1, 2, 3, 4, 5] rfl [aN (xg x) 0 (a 0) 2400 D1_2, aN (xg x) 0 (a 1) 10 M1_3, aL (xg x) (a 3) 12 (up1 (laI w.natAbs k) N t.toNat (sgn q w.natAbs)), aI (xg x) 0 (a 4) 12 (up1 (laI w.natAbs k) Sc t.toNat k), aI (xg x) 4 (a 5) 12 (up1 (laI w.natAbs k) Hs t.toNat 1)] rfl 0 0 ⟨by omega, by omega⟩ [] rfl (Nat.le_of_ble_eq_true rfl) dX4_turn_206 rfl (fun _ _ h => h.elim) (fun v Ws h => ?_)
            obtain ⟨rfl, hps_11, rfl⟩ := h
            show SW x [tmO (xg x) o a (va_up (va_up z 8 (tnP s c t Hs)) 8 0), aN (xg x) 0 (a 0) 2400 D1_2, aN (xg x) 0 (a 1) 10 M1_3, aL (xg x) (a 3) 12 (up1 (laI w.natAbs k) N t.toNat (sgn q w.natAbs)), aI (xg x) 0 (a 4) 12 (up1 (laI w.natAbs k) Sc t.toNat k), aI (xg x) 4 (a 5) 12 (up1 (laI w.natAbs k) Hs t.toNat 1)] _ _ _ _ [.int (jI 0)]
            refine sw_if_eq (n := 212) F (by decide) (tgt := 216) dX4_turn_209 (by decide) rfl (fun c_209 => ?_) (fun c_209 => ?_)
            ·
              refine sw_aload_n (n := 217) F 1 (some o) rfl rfl rfl dX4_turn_216 rfl ?_
              refine sw_get (n := 220) F 0 rfl (k := 4) ⟨(RX4, TX4, 50), rfl, by decide, q3803, in_X4, Or.inl rfl⟩ (v := .ref (a 4)) rfl dX4_turn_217 rfl ?_
              refine sw_iload_n (n := 221) F 4 rfl rfl dX4_turn_220 rfl ?_
              refine sw_ialoadI (n := 222) F 4 rfl (fun _ => rfl) t.toNat (by omega) (by omega) dX4_turn_221 rfl ?_
              have e0 : tnP s c t Hs = 0 := by omega
              have l1 : laI (tnV N s.toNat c).natAbs (tnS N Sc s.toNat c) = 1 := by rw [ea, es]; omega
              have e : cd2 4 (tnP s c t Hs) (laI (tnV N s.toNat c).natAbs (tnS N Sc s.toNat c)) = 0 := cd2_t e0 (by rw [l1]; decide)
              rw [ea, es] at l1
              exact sw_iret F _ rfl (by first | rfl | exact jI_nz (by omega) | exact jI_nc (by omega)) dX4_turn_222 (by rw [hPo]; exact ⟨D1_2, M1_3, (by rw [e, if0_0]; first | rfl | (simp only [l1, up1_11, va_up_self, ev, es])), (by exact v_7.mono (by simp)), (by rw [e]; simp only [up0_0, l1, up1_11, ev, es, up_88])⟩)
            · exfalso; exact absurd c_209 (by decide)
        refine sw_bipush (n := 142) F (45) (by decide) dX4_turn_140 rfl ?_
        refine sw_icmp_ne (n := 145) F (by omega) (by decide) (tgt := 160) dX4_turn_142 (by decide) rfl (fun c_142 => ?_) (fun c_142 => ?_)
        ·
          refine sw_iload_n (n := 161) F 2 rfl rfl dX4_turn_160 rfl ?_
          refine sw_bipush (n := 163) F (115) (by decide) dX4_turn_161 rfl ?_
          refine sw_icmp_ne (n := 166) F (by omega) (by decide) (tgt := 177) dX4_turn_163 (by decide) rfl (fun c_163 => ?_) (fun c_163 => ?_)
          ·
            refine sw_iconst (n := 178) F (0) (by decide) dX4_turn_177 rfl ?_
            exact K178 0 (by unfold tnV at hwa ⊢; unfold sgn; (repeat' split at hwa) <;> (repeat' split) <;> omega) (by decide)
          ·
            refine sw_lload (n := 168) F 4 rfl dX4_turn_166 rfl ?_
            refine sw_lconst (n := 169) F 0 (by decide) dX4_turn_168 rfl ?_
            refine sw_lcmp (n := 170) F (by omega) (by decide) dX4_turn_169 rfl ?_
            refine sw_if_ge (n := 173) F (by omega) (tgt := 177) dX4_turn_170 (by decide) rfl (fun c_170 => ?_) (fun c_170 => ?_)
            ·
              have c_170 : w ≥ 0 := by revert c_170; (repeat' split) <;> omega
              refine sw_iconst (n := 178) F (0) (by decide) dX4_turn_177 rfl ?_
              exact K178 0 (by unfold tnV at hwa ⊢; unfold sgn; (repeat' split at hwa) <;> (repeat' split) <;> omega) (by decide)
            ·
              have c_170 : w < 0 := by revert c_170; (repeat' split) <;> omega
              refine sw_iconst (n := 174) F (1) (by decide) dX4_turn_173 rfl ?_
              refine sw_goto F (n := 178) dX4_turn_174 (by decide) ?_
              exact K178 1 (by unfold tnV at hwa ⊢; unfold sgn; (repeat' split at hwa) <;> (repeat' split) <;> omega) (by decide)
        ·
          refine sw_lload (n := 147) F 4 rfl dX4_turn_145 rfl ?_
          refine sw_lconst (n := 148) F 0 (by decide) dX4_turn_147 rfl ?_
          refine sw_lcmp (n := 149) F (by omega) (by decide) dX4_turn_148 rfl ?_
          refine sw_if_le (n := 152) F (by omega) (tgt := 156) dX4_turn_149 (by decide) rfl (fun c_149 => ?_) (fun c_149 => ?_)
          ·
            have c_149 : w ≤ 0 := by revert c_149; (repeat' split) <;> omega
            refine sw_iconst (n := 157) F (0) (by decide) dX4_turn_156 rfl ?_
            refine sw_goto F (n := 178) dX4_turn_157 (by decide) ?_
            exact K178 0 (by unfold tnV at hwa ⊢; unfold sgn; (repeat' split at hwa) <;> (repeat' split) <;> omega) (by decide)
          ·
            have c_149 : w > 0 := by revert c_149; (repeat' split) <;> omega
            refine sw_iconst (n := 153) F (1) (by decide) dX4_turn_152 rfl ?_
            refine sw_goto F (n := 178) dX4_turn_153 (by decide) ?_
            exact K178 1 (by unfold tnV at hwa ⊢; unfold sgn; (repeat' split at hwa) <;> (repeat' split) <;> omega) (by decide)
      refine sw_get (n := 79) F 0 rfl (k := 3) ⟨(RX4, TX4, 50), rfl, by decide, q3802, in_X4, Or.inl rfl⟩ (v := .ref (a 3)) rfl dX4_turn_76 rfl ?_
      refine sw_iload_n (n := 80) F 1 rfl rfl dX4_turn_79 rfl ?_
      refine sw_laloadL (n := 81) F 3 rfl (fun _ => rfl) s.toNat (by omega) (by omega) dX4_turn_80 rfl ?_
      refine sw_lstore (n := 83) F (L2 := [(5, .long (jL (N s.toNat))), (0, .ref o), (1, .int (jI (↑(s.toNat)))), (2, .int (jI c)), (3, .int (jI (↑(t.toNat))))]) rfl (by decide) dX4_turn_81 rfl ?_
      refine sw_aload_n (n := 84) F 1 (some o) rfl rfl rfl dX4_turn_83 rfl ?_
      refine sw_get (n := 87) F 0 rfl (k := 4) ⟨(RX4, TX4, 50), rfl, by decide, q3803, in_X4, Or.inl rfl⟩ (v := .ref (a 4)) rfl dX4_turn_84 rfl ?_
      refine sw_iload_n (n := 88) F 2 rfl rfl dX4_turn_87 rfl ?_
      refine sw_ialoadI (n := 89) F 4 rfl (fun _ => rfl) s.toNat (by omega) (by omega) dX4_turn_88 rfl ?_
      refine sw_istore (n := 91) F (L2 := [(7, .int (jI (Sc s.toNat))), (5, .long (jL (N s.toNat))), (0, .ref o), (1, .int (jI (↑(s.toNat)))), (2, .int (jI c)), (3, .int (jI (↑(t.toNat))))]) rfl (by decide) dX4_turn_89 rfl ?_
      refine sw_iload_n (n := 92) F 4 rfl rfl dX4_turn_91 rfl ?_
      refine sw_bipush (n := 94) F (115) (by decide) dX4_turn_92 rfl ?_
      refine sw_icmp_ne (n := 97) F (by omega) (by decide) (tgt := 139) dX4_turn_94 (by decide) rfl (fun c_94 => ?_) (fun c_94 => ?_)
      ·
        refine sw_loc [2, 3, 4, 5, 1, 0] (L2 := [(0, .ref o), (1, .int (jI (↑(s.toNat)))), (2, .int (jI c)), (3, .int (jI (↑(t.toNat)))), (5, .long (jL (N s.toNat))), (7, .int (jI (Sc s.toNat)))]) rfl ?_
        exact K139 (N s.toNat) (Sc s.toNat) (by first | omega | exact tn_a (by omega) (by omega) (by omega) | exact tn_b (by omega) (fac_end hfc (by omega) (by omega)) hw | (unfold tnV; (repeat' split) <;> omega)) (by first | omega | exact ts_a (by omega) (by omega) | exact ts_b (by omega) (by omega) (fac_end hfc (by omega) (by omega)) | exact ts_c (by omega)) (by first | exact hsg | omega | exact ⟨Iff.rfl, Iff.rfl⟩) (by first | assumption | omega) (by first | assumption | omega)
      ·
        have K97 : ∀ N97 : Nat, ∀ (w : Int) (j : Nat), (w.natAbs = (N s.toNat).natAbs / 10 ^ j) → ((0 < w ↔ 0 < N s.toNat) ∧ (w < 0 ↔ N s.toNat < 0)) → (N s.toNat ≠ 0 → fac 10 (N s.toNat).natAbs = j + fac 10 w.natAbs) → (N s.toNat = 0 → j = 0) → (-999999999999999999 ≤ w ∧ w ≤ 999999999999999999) → ((w.natAbs) < N97) → SW x [tmO (xg x) o a (va_up z 8 (tnP s c t Hs)), aN (xg x) 0 (a 0) 2400 D, aN (xg x) 0 (a 1) 10 M, aL (xg x) (a 3) 12 N, aI (xg x) 0 (a 4) 12 Sc, aI (xg x) 4 (a 5) 12 Hs] 0 0 97 [(0, .ref o), (1, .int (jI (↑(s.toNat)))), (2, .int (jI c)), (3, .int (jI (↑(t.toNat)))), (5, .long (jL w)), (7, .int (jI (Sc s.toNat - ↑j)))] [] := by
          intro N97; induction N97 with
          | zero => intro w j hw hsg hfc hj0 hwr hmu97; omega
          | succ N97 ih97 =>
            intro w j hw hsg hfc hj0 hwr hmu97
            have hj18 := fac_j hn hfc hj0
            refine sw_lload (n := 99) F 4 rfl dX4_turn_97 rfl ?_
            refine sw_lconst (n := 100) F 0 (by decide) dX4_turn_99 rfl ?_
            refine sw_lcmp (n := 101) F (by omega) (by decide) dX4_turn_100 rfl ?_
            refine sw_if_eq (n := 104) F (by omega) (tgt := 129) dX4_turn_101 (by decide) rfl (fun c_101 => ?_) (fun c_101 => ?_)
            ·
              have c_101 : w = 0 := by revert c_101; (repeat' split) <;> omega
              refine sw_lload (n := 131) F 4 rfl dX4_turn_129 rfl ?_
              refine sw_lconst (n := 132) F 0 (by decide) dX4_turn_131 rfl ?_
              refine sw_lcmp (n := 133) F (by omega) (by decide) dX4_turn_132 rfl ?_
              refine sw_if_ne (n := 136) F (by omega) (tgt := 139) dX4_turn_133 (by decide) rfl (fun c_133 => ?_) (fun c_133 => ?_)
              ·
                have c_133 : w ≠ 0 := by revert c_133; (repeat' split) <;> omega
                exact K139 w (Sc s.toNat - ↑j) (by first | omega | exact tn_a (by omega) (by omega) (by omega) | exact tn_b (by omega) (fac_end hfc (by omega) (by omega)) hw | (unfold tnV; (repeat' split) <;> omega)) (by first | omega | exact ts_a (by omega) (by omega) | exact ts_b (by omega) (by omega) (fac_end hfc (by omega) (by omega)) | exact ts_c (by omega)) (by first | exact hsg | omega | exact ⟨Iff.rfl, Iff.rfl⟩) hwr (by first | assumption | omega)
              ·
                have c_133 : w = 0 := by revert c_133; (repeat' split) <;> omega
                refine sw_iconst (n := 137) F (0) (by decide) dX4_turn_136 rfl ?_
                refine sw_istore (n := 139) F (L2 := [(7, .int (jI 0)), (0, .ref o), (1, .int (jI (↑(s.toNat)))), (2, .int (jI c)), (3, .int (jI (↑(t.toNat)))), (5, .long (jL w))]) rfl (by decide) dX4_turn_137 rfl ?_
                refine sw_loc [1, 2, 3, 4, 5, 0] (L2 := [(0, .ref o), (1, .int (jI (↑(s.toNat)))), (2, .int (jI c)), (3, .int (jI (↑(t.toNat)))), (5, .long (jL w)), (7, .int (jI 0))]) rfl ?_
                exact K139 w 0 (by first | omega | exact tn_a (by omega) (by omega) (by omega) | exact tn_b (by omega) (fac_end hfc (by omega) (by omega)) hw | (unfold tnV; (repeat' split) <;> omega)) (by first | omega | exact ts_a (by omega) (by omega) | exact ts_b (by omega) (by omega) (fac_end hfc (by omega) (by omega)) | exact ts_c (by omega)) (by first | exact hsg | omega | exact ⟨Iff.rfl, Iff.rfl⟩) hwr (by first | assumption | omega)
            ·
              have c_101 : w ≠ 0 := by revert c_101; (repeat' split) <;> omega
              have ht10 : (w.tmod 10).natAbs = w.natAbs % 10 := tm_na w 10
              have hm10 := Int.mul_tdiv_add_tmod w 10
              have hr10 := td_rng (v := w)
              refine sw_lload (n := 106) F 4 rfl dX4_turn_104 rfl ?_
              refine sw_ldc2 (n := 109) F (10) q3980 (by decide) dX4_turn_106 rfl ?_
              refine sw_lrem (n := 110) F (by omega) (by decide) (by decide) dX4_turn_109 rfl ?_
              refine sw_lconst (n := 111) F 0 (by decide) dX4_turn_110 rfl ?_
              refine sw_lcmp (n := 112) F (by omega) (by decide) dX4_turn_111 rfl ?_
              refine sw_if_ne (n := 115) F (by omega) (tgt := 129) dX4_turn_112 (by decide) rfl (fun c_112 => ?_) (fun c_112 => ?_)
              ·
                have c_112 : w.tmod 10 ≠ 0 := by revert c_112; (repeat' split) <;> omega
                refine sw_lload (n := 131) F 4 rfl dX4_turn_129 rfl ?_
                refine sw_lconst (n := 132) F 0 (by decide) dX4_turn_131 rfl ?_
                refine sw_lcmp (n := 133) F (by omega) (by decide) dX4_turn_132 rfl ?_
                refine sw_if_ne (n := 136) F (by omega) (tgt := 139) dX4_turn_133 (by decide) rfl (fun c_133 => ?_) (fun c_133 => ?_)
                ·
                  have c_133 : w ≠ 0 := by revert c_133; (repeat' split) <;> omega
                  exact K139 w (Sc s.toNat - ↑j) (by first | omega | exact tn_a (by omega) (by omega) (by omega) | exact tn_b (by omega) (fac_end hfc (by omega) (by omega)) hw | (unfold tnV; (repeat' split) <;> omega)) (by first | omega | exact ts_a (by omega) (by omega) | exact ts_b (by omega) (by omega) (fac_end hfc (by omega) (by omega)) | exact ts_c (by omega)) (by first | exact hsg | omega | exact ⟨Iff.rfl, Iff.rfl⟩) hwr (by first | assumption | omega)
                ·
                  have c_133 : w = 0 := by revert c_133; (repeat' split) <;> omega
                  refine sw_iconst (n := 137) F (0) (by decide) dX4_turn_136 rfl ?_
                  refine sw_istore (n := 139) F (L2 := [(7, .int (jI 0)), (0, .ref o), (1, .int (jI (↑(s.toNat)))), (2, .int (jI c)), (3, .int (jI (↑(t.toNat)))), (5, .long (jL w))]) rfl (by decide) dX4_turn_137 rfl ?_
                  refine sw_loc [1, 2, 3, 4, 5, 0] (L2 := [(0, .ref o), (1, .int (jI (↑(s.toNat)))), (2, .int (jI c)), (3, .int (jI (↑(t.toNat)))), (5, .long (jL w)), (7, .int (jI 0))]) rfl ?_
                  exact K139 w 0 (by first | omega | exact tn_a (by omega) (by omega) (by omega) | exact tn_b (by omega) (fac_end hfc (by omega) (by omega)) hw | (unfold tnV; (repeat' split) <;> omega)) (by first | omega | exact ts_a (by omega) (by omega) | exact ts_b (by omega) (by omega) (fac_end hfc (by omega) (by omega)) | exact ts_c (by omega)) (by first | exact hsg | omega | exact ⟨Iff.rfl, Iff.rfl⟩) hwr (by first | assumption | omega)
              ·
                have c_112 : w.tmod 10 = 0 := by revert c_112; (repeat' split) <;> omega
                have hz10 : w.natAbs % 10 = 0 := by omega
                have hf10 : fac 10 w.natAbs = fac 10 (w.natAbs / 10) + 1 := fac_s ⟨by decide, by omega, hz10⟩
                refine sw_lload (n := 117) F 4 rfl dX4_turn_115 rfl ?_
                refine sw_ldc2 (n := 120) F (10) q3980 (by decide) dX4_turn_117 rfl ?_
                refine sw_ldiv (n := 121) F (by omega) (by decide) (by decide) dX4_turn_120 rfl ?_
                refine sw_lstore (n := 123) F (L2 := [(5, .long (jL (w.tdiv 10))), (0, .ref o), (1, .int (jI (↑(s.toNat)))), (2, .int (jI c)), (3, .int (jI (↑(t.toNat)))), (7, .int (jI (Sc s.toNat - ↑j)))]) rfl (by decide) dX4_turn_121 rfl ?_
                refine sw_iinc (n := 126) F 5 (L2 := [(7, .int (jI (Sc s.toNat - ↑j + (-1)))), (5, .long (jL (w.tdiv 10))), (0, .ref o), (1, .int (jI (↑(s.toNat)))), (2, .int (jI c)), (3, .int (jI (↑(t.toNat))))]) rfl rfl (by decide) dX4_turn_123 rfl ?_
                refine sw_goto F (n := 97) dX4_turn_126 (by decide) ?_
                refine sw_loc [2, 3, 4, 5, 1, 0] (L2 := [(0, .ref o), (1, .int (jI (↑(s.toNat)))), (2, .int (jI c)), (3, .int (jI (↑(t.toNat)))), (5, .long (jL (w.tdiv 10))), (7, .int (jI (Sc s.toNat - ↑j + (-1))))]) rfl ?_
                rw [show (Sc s.toNat - ↑j + (-1) : Int) = Sc s.toNat - ↑(j + 1) by omega]
                exact ih97 (w.tdiv 10) (j + 1) (by first | (rw [hr10, hw]; exact div_ps _ _) | rw [Nat.pow_zero, Nat.div_one]) (by first | exact hsg | omega | exact ⟨Iff.rfl, Iff.rfl⟩) (by first | (intro _; omega) | (intro hv0; have := hfc hv0; rw [hr10]; omega)) (by first | (intro _; rfl) | (intro hv0; omega)) (by first | assumption | omega) (by omega)
        refine sw_loc [2, 3, 4, 5, 1, 0] (L2 := [(0, .ref o), (1, .int (jI (↑(s.toNat)))), (2, .int (jI c)), (3, .int (jI (↑(t.toNat)))), (5, .long (jL (N s.toNat))), (7, .int (jI (Sc s.toNat)))]) rfl ?_
        rw [show (Sc s.toNat : Int) = Sc s.toNat - 0 by omega]
        exact K97 _ (N s.toNat) 0 (by first | (rw [Nat.pow_zero, Nat.div_one]) | (rw [hr10, hw]; exact div_ps _ _)) (by first | exact hsg | omega | exact ⟨Iff.rfl, Iff.rfl⟩) (by first | (intro _; omega) | (intro hv0; have := hfc hv0; rw [hr10]; omega)) (by first | (intro _; rfl) | (intro hv0; omega)) (by first | assumption | omega) (Nat.lt_succ_self _)
    ·
      refine sw_iconst (n := 74) F (0) (by decide) dX4_turn_73 rfl ?_
      have e0 : tnP s c t Hs ≠ 0 := by omega
      have e : cd2 4 (tnP s c t Hs) (laI (tnV N s.toNat c).natAbs (tnS N Sc s.toNat c)) = tnP s c t Hs := cd2_n e0
      exact sw_iret F _ rfl (by first | rfl | exact jI_nz (by omega) | exact jI_nc (by omega)) dX4_turn_74 (by rw [hPo]; exact ⟨D, M, (by first | rw [e, if0_n e0] | (rw [e]; exact congrArg _ (congrArg _ (if0_n e0)))), (by exact (RV.rf hA).mono (S := []) (by simp)), (by rw [e]; simp only [up0_n e0, up_88])⟩)
  refine sw_bipush (n := 3) F (45) (by decide) dX4_turn_1 rfl ?_
  refine sw_icmp_eq (n := 6) F (by omega) (by decide) (tgt := 18) dX4_turn_3 (by decide) rfl (fun c_3 => ?_) (fun c_3 => ?_)
  ·
    refine sw_iconst (n := 19) F (1) (by decide) dX4_turn_18 rfl ?_
    refine sw_goto F (n := 23) dX4_turn_19 (by decide) ?_
    refine sw_istore (n := 25) F (L2 := [(4, .int (jI 1)), (0, .ref o), (1, .int (jI s)), (2, .int (jI c)), (3, .int (jI t))]) rfl (by decide) dX4_turn_23 rfl ?_
    refine sw_aload_n (n := 26) F 1 (some o) rfl rfl rfl dX4_turn_25 rfl ?_
    refine sw_iload_n (n := 27) F 2 rfl rfl dX4_turn_26 rfl ?_
    refine sw_callS (n := 30) F (ct_X4_isShelf (g := xg x) (l := xl x) s hs) q3959 q3960 q120 q3961 nd_X4_isShelf rfl (by decide) [0, 1, 2, 3, 4, 5] rfl [tmO (xg x) o a z, aN (xg x) 0 (a 0) 2400 D, aN (xg x) 0 (a 1) 10 M, aL (xg x) (a 3) 12 N, aI (xg x) 0 (a 4) 12 Sc, aI (xg x) 4 (a 5) 12 Hs] rfl 0 0 ⟨by omega, by omega⟩ [.ref o] rfl (Nat.le_of_ble_eq_true rfl) dX4_turn_27 rfl (fun _ _ h => h.elim) (fun v Ws h => ?_)
    obtain ⟨rfl, hs_12, rfl⟩ := h
    show SW x [tmO (xg x) o a z, aN (xg x) 0 (a 0) 2400 D, aN (xg x) 0 (a 1) 10 M, aL (xg x) (a 3) 12 N, aI (xg x) 0 (a 4) 12 Sc, aI (xg x) 4 (a 5) 12 Hs] _ _ _ _ [.int (jI (inI s 0 11)), .ref o]
    refine sw_if_eq (n := 33) F (by omega) (tgt := 40) dX4_turn_30 (by decide) rfl (fun c_30 => ?_) (fun c_30 => ?_)
    ·
      refine sw_iconst (n := 41) F (1) (by decide) dX4_turn_40 rfl ?_
      refine sw_goto F (n := 67) dX4_turn_41 (by decide) ?_
      refine sw_loc [1, 2, 3, 4] (L2 := [(0, .ref o), (1, .int (jI s)), (2, .int (jI c)), (3, .int (jI t))]) rfl ?_
      exact K67 1 (by unfold tnP; (repeat' split) <;> omega)
    ·
      refine sw_iload_n (n := 34) F 4 rfl rfl dX4_turn_33 rfl ?_
      refine sw_callS (n := 37) F (ct_X4_isShelf (g := xg x) (l := xl x) t ht) q3959 q3960 q120 q3961 nd_X4_isShelf rfl (by decide) [0, 1, 2, 3, 4, 5] rfl [tmO (xg x) o a z, aN (xg x) 0 (a 0) 2400 D, aN (xg x) 0 (a 1) 10 M, aL (xg x) (a 3) 12 N, aI (xg x) 0 (a 4) 12 Sc, aI (xg x) 4 (a 5) 12 Hs] rfl 0 0 ⟨by omega, by omega⟩ [.ref o] rfl (Nat.le_of_ble_eq_true rfl) dX4_turn_34 rfl (fun _ _ h => h.elim) (fun v Ws h => ?_)
      obtain ⟨rfl, hs_13, rfl⟩ := h
      show SW x [tmO (xg x) o a z, aN (xg x) 0 (a 0) 2400 D, aN (xg x) 0 (a 1) 10 M, aL (xg x) (a 3) 12 N, aI (xg x) 0 (a 4) 12 Sc, aI (xg x) 4 (a 5) 12 Hs] _ _ _ _ [.int (jI (inI t 0 11)), .ref o]
      refine sw_if_ne (n := 40) F (by omega) (tgt := 44) dX4_turn_37 (by decide) rfl (fun c_37 => ?_) (fun c_37 => ?_)
      ·
        refine sw_iload (n := 46) F 0 rfl dX4_turn_44 rfl ?_
        refine sw_if_ne (n := 49) F (by decide) (tgt := 53) dX4_turn_46 (by decide) rfl (fun c_46 => ?_) (fun c_46 => ?_)
        ·
          refine sw_aload_n (n := 54) F 1 (some o) rfl rfl rfl dX4_turn_53 rfl ?_
          refine sw_get (n := 57) F 0 rfl (k := 5) ⟨(RX4, TX4, 50), rfl, by decide, q3804, in_X4, Or.inl rfl⟩ (v := .ref (a 5)) rfl dX4_turn_54 rfl ?_
          refine sw_iload_n (n := 58) F 2 rfl rfl dX4_turn_57 rfl ?_
          refine sw_zaloadI (n := 59) F 5 rfl (fun _ => rfl) ((s : Int).toNat) (by omega) (by omega) dX4_turn_58 rfl ?_
          refine sw_if_ne (n := 62) F (by omega) (tgt := 66) dX4_turn_59 (by decide) rfl (fun c_59 => ?_) (fun c_59 => ?_)
          ·
            refine sw_iconst (n := 67) F (0) (by decide) dX4_turn_66 rfl ?_
            refine sw_loc [1, 2, 3, 4] (L2 := [(0, .ref o), (1, .int (jI s)), (2, .int (jI c)), (3, .int (jI t))]) rfl ?_
            exact K67 0 (by unfold tnP; (repeat' split) <;> omega)
          ·
            refine sw_iconst (n := 63) F (3) (by decide) dX4_turn_62 rfl ?_
            refine sw_goto F (n := 67) dX4_turn_63 (by decide) ?_
            refine sw_loc [1, 2, 3, 4] (L2 := [(0, .ref o), (1, .int (jI s)), (2, .int (jI c)), (3, .int (jI t))]) rfl ?_
            exact K67 3 (by unfold tnP; (repeat' split) <;> omega)
        · exfalso; exact absurd c_46 (by decide)
      ·
        refine sw_iconst (n := 41) F (1) (by decide) dX4_turn_40 rfl ?_
        refine sw_goto F (n := 67) dX4_turn_41 (by decide) ?_
        refine sw_loc [1, 2, 3, 4] (L2 := [(0, .ref o), (1, .int (jI s)), (2, .int (jI c)), (3, .int (jI t))]) rfl ?_
        exact K67 1 (by unfold tnP; (repeat' split) <;> omega)
  ·
    refine sw_iload_n (n := 7) F 2 rfl rfl dX4_turn_6 rfl ?_
    refine sw_bipush (n := 9) F (97) (by decide) dX4_turn_7 rfl ?_
    refine sw_icmp_eq (n := 12) F (by omega) (by decide) (tgt := 18) dX4_turn_9 (by decide) rfl (fun c_9 => ?_) (fun c_9 => ?_)
    ·
      refine sw_iconst (n := 19) F (1) (by decide) dX4_turn_18 rfl ?_
      refine sw_goto F (n := 23) dX4_turn_19 (by decide) ?_
      refine sw_istore (n := 25) F (L2 := [(4, .int (jI 1)), (0, .ref o), (1, .int (jI s)), (2, .int (jI c)), (3, .int (jI t))]) rfl (by decide) dX4_turn_23 rfl ?_
      refine sw_aload_n (n := 26) F 1 (some o) rfl rfl rfl dX4_turn_25 rfl ?_
      refine sw_iload_n (n := 27) F 2 rfl rfl dX4_turn_26 rfl ?_
      refine sw_callS (n := 30) F (ct_X4_isShelf (g := xg x) (l := xl x) s hs) q3959 q3960 q120 q3961 nd_X4_isShelf rfl (by decide) [0, 1, 2, 3, 4, 5] rfl [tmO (xg x) o a z, aN (xg x) 0 (a 0) 2400 D, aN (xg x) 0 (a 1) 10 M, aL (xg x) (a 3) 12 N, aI (xg x) 0 (a 4) 12 Sc, aI (xg x) 4 (a 5) 12 Hs] rfl 0 0 ⟨by omega, by omega⟩ [.ref o] rfl (Nat.le_of_ble_eq_true rfl) dX4_turn_27 rfl (fun _ _ h => h.elim) (fun v Ws h => ?_)
      obtain ⟨rfl, hs_14, rfl⟩ := h
      show SW x [tmO (xg x) o a z, aN (xg x) 0 (a 0) 2400 D, aN (xg x) 0 (a 1) 10 M, aL (xg x) (a 3) 12 N, aI (xg x) 0 (a 4) 12 Sc, aI (xg x) 4 (a 5) 12 Hs] _ _ _ _ [.int (jI (inI s 0 11)), .ref o]
      refine sw_if_eq (n := 33) F (by omega) (tgt := 40) dX4_turn_30 (by decide) rfl (fun c_30 => ?_) (fun c_30 => ?_)
      ·
        refine sw_iconst (n := 41) F (1) (by decide) dX4_turn_40 rfl ?_
        refine sw_goto F (n := 67) dX4_turn_41 (by decide) ?_
        refine sw_loc [1, 2, 3, 4] (L2 := [(0, .ref o), (1, .int (jI s)), (2, .int (jI c)), (3, .int (jI t))]) rfl ?_
        exact K67 1 (by unfold tnP; (repeat' split) <;> omega)
      ·
        refine sw_iload_n (n := 34) F 4 rfl rfl dX4_turn_33 rfl ?_
        refine sw_callS (n := 37) F (ct_X4_isShelf (g := xg x) (l := xl x) t ht) q3959 q3960 q120 q3961 nd_X4_isShelf rfl (by decide) [0, 1, 2, 3, 4, 5] rfl [tmO (xg x) o a z, aN (xg x) 0 (a 0) 2400 D, aN (xg x) 0 (a 1) 10 M, aL (xg x) (a 3) 12 N, aI (xg x) 0 (a 4) 12 Sc, aI (xg x) 4 (a 5) 12 Hs] rfl 0 0 ⟨by omega, by omega⟩ [.ref o] rfl (Nat.le_of_ble_eq_true rfl) dX4_turn_34 rfl (fun _ _ h => h.elim) (fun v Ws h => ?_)
        obtain ⟨rfl, hs_15, rfl⟩ := h
        show SW x [tmO (xg x) o a z, aN (xg x) 0 (a 0) 2400 D, aN (xg x) 0 (a 1) 10 M, aL (xg x) (a 3) 12 N, aI (xg x) 0 (a 4) 12 Sc, aI (xg x) 4 (a 5) 12 Hs] _ _ _ _ [.int (jI (inI t 0 11)), .ref o]
        refine sw_if_ne (n := 40) F (by omega) (tgt := 44) dX4_turn_37 (by decide) rfl (fun c_37 => ?_) (fun c_37 => ?_)
        ·
          refine sw_iload (n := 46) F 0 rfl dX4_turn_44 rfl ?_
          refine sw_if_ne (n := 49) F (by decide) (tgt := 53) dX4_turn_46 (by decide) rfl (fun c_46 => ?_) (fun c_46 => ?_)
          ·
            refine sw_aload_n (n := 54) F 1 (some o) rfl rfl rfl dX4_turn_53 rfl ?_
            refine sw_get (n := 57) F 0 rfl (k := 5) ⟨(RX4, TX4, 50), rfl, by decide, q3804, in_X4, Or.inl rfl⟩ (v := .ref (a 5)) rfl dX4_turn_54 rfl ?_
            refine sw_iload_n (n := 58) F 2 rfl rfl dX4_turn_57 rfl ?_
            refine sw_zaloadI (n := 59) F 5 rfl (fun _ => rfl) ((s : Int).toNat) (by omega) (by omega) dX4_turn_58 rfl ?_
            refine sw_if_ne (n := 62) F (by omega) (tgt := 66) dX4_turn_59 (by decide) rfl (fun c_59 => ?_) (fun c_59 => ?_)
            ·
              refine sw_iconst (n := 67) F (0) (by decide) dX4_turn_66 rfl ?_
              refine sw_loc [1, 2, 3, 4] (L2 := [(0, .ref o), (1, .int (jI s)), (2, .int (jI c)), (3, .int (jI t))]) rfl ?_
              exact K67 0 (by unfold tnP; (repeat' split) <;> omega)
            ·
              refine sw_iconst (n := 63) F (3) (by decide) dX4_turn_62 rfl ?_
              refine sw_goto F (n := 67) dX4_turn_63 (by decide) ?_
              refine sw_loc [1, 2, 3, 4] (L2 := [(0, .ref o), (1, .int (jI s)), (2, .int (jI c)), (3, .int (jI t))]) rfl ?_
              exact K67 3 (by unfold tnP; (repeat' split) <;> omega)
          · exfalso; exact absurd c_46 (by decide)
        ·
          refine sw_iconst (n := 41) F (1) (by decide) dX4_turn_40 rfl ?_
          refine sw_goto F (n := 67) dX4_turn_41 (by decide) ?_
          refine sw_loc [1, 2, 3, 4] (L2 := [(0, .ref o), (1, .int (jI s)), (2, .int (jI c)), (3, .int (jI t))]) rfl ?_
          exact K67 1 (by unfold tnP; (repeat' split) <;> omega)
    ·
      refine sw_iload_n (n := 13) F 2 rfl rfl dX4_turn_12 rfl ?_
      refine sw_bipush (n := 15) F (115) (by decide) dX4_turn_13 rfl ?_
      refine sw_icmp_ne (n := 18) F (by omega) (by decide) (tgt := 22) dX4_turn_15 (by decide) rfl (fun c_15 => ?_) (fun c_15 => ?_)
      ·
        refine sw_iconst (n := 23) F (0) (by decide) dX4_turn_22 rfl ?_
        refine sw_istore (n := 25) F (L2 := [(4, .int (jI 0)), (0, .ref o), (1, .int (jI s)), (2, .int (jI c)), (3, .int (jI t))]) rfl (by decide) dX4_turn_23 rfl ?_
        refine sw_aload_n (n := 26) F 1 (some o) rfl rfl rfl dX4_turn_25 rfl ?_
        refine sw_iload_n (n := 27) F 2 rfl rfl dX4_turn_26 rfl ?_
        refine sw_callS (n := 30) F (ct_X4_isShelf (g := xg x) (l := xl x) s hs) q3959 q3960 q120 q3961 nd_X4_isShelf rfl (by decide) [0, 1, 2, 3, 4, 5] rfl [tmO (xg x) o a z, aN (xg x) 0 (a 0) 2400 D, aN (xg x) 0 (a 1) 10 M, aL (xg x) (a 3) 12 N, aI (xg x) 0 (a 4) 12 Sc, aI (xg x) 4 (a 5) 12 Hs] rfl 0 0 ⟨by omega, by omega⟩ [.ref o] rfl (Nat.le_of_ble_eq_true rfl) dX4_turn_27 rfl (fun _ _ h => h.elim) (fun v Ws h => ?_)
        obtain ⟨rfl, hs_16, rfl⟩ := h
        show SW x [tmO (xg x) o a z, aN (xg x) 0 (a 0) 2400 D, aN (xg x) 0 (a 1) 10 M, aL (xg x) (a 3) 12 N, aI (xg x) 0 (a 4) 12 Sc, aI (xg x) 4 (a 5) 12 Hs] _ _ _ _ [.int (jI (inI s 0 11)), .ref o]
        refine sw_if_eq (n := 33) F (by omega) (tgt := 40) dX4_turn_30 (by decide) rfl (fun c_30 => ?_) (fun c_30 => ?_)
        ·
          refine sw_iconst (n := 41) F (1) (by decide) dX4_turn_40 rfl ?_
          refine sw_goto F (n := 67) dX4_turn_41 (by decide) ?_
          refine sw_loc [1, 2, 3, 4] (L2 := [(0, .ref o), (1, .int (jI s)), (2, .int (jI c)), (3, .int (jI t))]) rfl ?_
          exact K67 1 (by unfold tnP; (repeat' split) <;> omega)
        ·
          refine sw_iload_n (n := 34) F 4 rfl rfl dX4_turn_33 rfl ?_
          refine sw_callS (n := 37) F (ct_X4_isShelf (g := xg x) (l := xl x) t ht) q3959 q3960 q120 q3961 nd_X4_isShelf rfl (by decide) [0, 1, 2, 3, 4, 5] rfl [tmO (xg x) o a z, aN (xg x) 0 (a 0) 2400 D, aN (xg x) 0 (a 1) 10 M, aL (xg x) (a 3) 12 N, aI (xg x) 0 (a 4) 12 Sc, aI (xg x) 4 (a 5) 12 Hs] rfl 0 0 ⟨by omega, by omega⟩ [.ref o] rfl (Nat.le_of_ble_eq_true rfl) dX4_turn_34 rfl (fun _ _ h => h.elim) (fun v Ws h => ?_)
          obtain ⟨rfl, hs_17, rfl⟩ := h
          show SW x [tmO (xg x) o a z, aN (xg x) 0 (a 0) 2400 D, aN (xg x) 0 (a 1) 10 M, aL (xg x) (a 3) 12 N, aI (xg x) 0 (a 4) 12 Sc, aI (xg x) 4 (a 5) 12 Hs] _ _ _ _ [.int (jI (inI t 0 11)), .ref o]
          refine sw_if_ne (n := 40) F (by omega) (tgt := 44) dX4_turn_37 (by decide) rfl (fun c_37 => ?_) (fun c_37 => ?_)
          ·
            refine sw_iload (n := 46) F 0 rfl dX4_turn_44 rfl ?_
            refine sw_if_ne (n := 49) F (by decide) (tgt := 53) dX4_turn_46 (by decide) rfl (fun c_46 => ?_) (fun c_46 => ?_)
            · exfalso; exact absurd c_46 (by decide)
            ·
              refine sw_iconst (n := 50) F (2) (by decide) dX4_turn_49 rfl ?_
              refine sw_goto F (n := 67) dX4_turn_50 (by decide) ?_
              refine sw_loc [1, 2, 3, 4] (L2 := [(0, .ref o), (1, .int (jI s)), (2, .int (jI c)), (3, .int (jI t))]) rfl ?_
              exact K67 2 (by unfold tnP; (repeat' split) <;> omega)
          ·
            refine sw_iconst (n := 41) F (1) (by decide) dX4_turn_40 rfl ?_
            refine sw_goto F (n := 67) dX4_turn_41 (by decide) ?_
            refine sw_loc [1, 2, 3, 4] (L2 := [(0, .ref o), (1, .int (jI s)), (2, .int (jI c)), (3, .int (jI t))]) rfl ?_
            exact K67 1 (by unfold tnP; (repeat' split) <;> omega)
      ·
        refine sw_iconst (n := 19) F (1) (by decide) dX4_turn_18 rfl ?_
        refine sw_goto F (n := 23) dX4_turn_19 (by decide) ?_
        refine sw_istore (n := 25) F (L2 := [(4, .int (jI 1)), (0, .ref o), (1, .int (jI s)), (2, .int (jI c)), (3, .int (jI t))]) rfl (by decide) dX4_turn_23 rfl ?_
        refine sw_aload_n (n := 26) F 1 (some o) rfl rfl rfl dX4_turn_25 rfl ?_
        refine sw_iload_n (n := 27) F 2 rfl rfl dX4_turn_26 rfl ?_
        refine sw_callS (n := 30) F (ct_X4_isShelf (g := xg x) (l := xl x) s hs) q3959 q3960 q120 q3961 nd_X4_isShelf rfl (by decide) [0, 1, 2, 3, 4, 5] rfl [tmO (xg x) o a z, aN (xg x) 0 (a 0) 2400 D, aN (xg x) 0 (a 1) 10 M, aL (xg x) (a 3) 12 N, aI (xg x) 0 (a 4) 12 Sc, aI (xg x) 4 (a 5) 12 Hs] rfl 0 0 ⟨by omega, by omega⟩ [.ref o] rfl (Nat.le_of_ble_eq_true rfl) dX4_turn_27 rfl (fun _ _ h => h.elim) (fun v Ws h => ?_)
        obtain ⟨rfl, hs_18, rfl⟩ := h
        show SW x [tmO (xg x) o a z, aN (xg x) 0 (a 0) 2400 D, aN (xg x) 0 (a 1) 10 M, aL (xg x) (a 3) 12 N, aI (xg x) 0 (a 4) 12 Sc, aI (xg x) 4 (a 5) 12 Hs] _ _ _ _ [.int (jI (inI s 0 11)), .ref o]
        refine sw_if_eq (n := 33) F (by omega) (tgt := 40) dX4_turn_30 (by decide) rfl (fun c_30 => ?_) (fun c_30 => ?_)
        ·
          refine sw_iconst (n := 41) F (1) (by decide) dX4_turn_40 rfl ?_
          refine sw_goto F (n := 67) dX4_turn_41 (by decide) ?_
          refine sw_loc [1, 2, 3, 4] (L2 := [(0, .ref o), (1, .int (jI s)), (2, .int (jI c)), (3, .int (jI t))]) rfl ?_
          exact K67 1 (by unfold tnP; (repeat' split) <;> omega)
        ·
          refine sw_iload_n (n := 34) F 4 rfl rfl dX4_turn_33 rfl ?_
          refine sw_callS (n := 37) F (ct_X4_isShelf (g := xg x) (l := xl x) t ht) q3959 q3960 q120 q3961 nd_X4_isShelf rfl (by decide) [0, 1, 2, 3, 4, 5] rfl [tmO (xg x) o a z, aN (xg x) 0 (a 0) 2400 D, aN (xg x) 0 (a 1) 10 M, aL (xg x) (a 3) 12 N, aI (xg x) 0 (a 4) 12 Sc, aI (xg x) 4 (a 5) 12 Hs] rfl 0 0 ⟨by omega, by omega⟩ [.ref o] rfl (Nat.le_of_ble_eq_true rfl) dX4_turn_34 rfl (fun _ _ h => h.elim) (fun v Ws h => ?_)
          obtain ⟨rfl, hs_19, rfl⟩ := h
          show SW x [tmO (xg x) o a z, aN (xg x) 0 (a 0) 2400 D, aN (xg x) 0 (a 1) 10 M, aL (xg x) (a 3) 12 N, aI (xg x) 0 (a 4) 12 Sc, aI (xg x) 4 (a 5) 12 Hs] _ _ _ _ [.int (jI (inI t 0 11)), .ref o]
          refine sw_if_ne (n := 40) F (by omega) (tgt := 44) dX4_turn_37 (by decide) rfl (fun c_37 => ?_) (fun c_37 => ?_)
          ·
            refine sw_iload (n := 46) F 0 rfl dX4_turn_44 rfl ?_
            refine sw_if_ne (n := 49) F (by decide) (tgt := 53) dX4_turn_46 (by decide) rfl (fun c_46 => ?_) (fun c_46 => ?_)
            ·
              refine sw_aload_n (n := 54) F 1 (some o) rfl rfl rfl dX4_turn_53 rfl ?_
              refine sw_get (n := 57) F 0 rfl (k := 5) ⟨(RX4, TX4, 50), rfl, by decide, q3804, in_X4, Or.inl rfl⟩ (v := .ref (a 5)) rfl dX4_turn_54 rfl ?_
              refine sw_iload_n (n := 58) F 2 rfl rfl dX4_turn_57 rfl ?_
              refine sw_zaloadI (n := 59) F 5 rfl (fun _ => rfl) ((s : Int).toNat) (by omega) (by omega) dX4_turn_58 rfl ?_
              refine sw_if_ne (n := 62) F (by omega) (tgt := 66) dX4_turn_59 (by decide) rfl (fun c_59 => ?_) (fun c_59 => ?_)
              ·
                refine sw_iconst (n := 67) F (0) (by decide) dX4_turn_66 rfl ?_
                refine sw_loc [1, 2, 3, 4] (L2 := [(0, .ref o), (1, .int (jI s)), (2, .int (jI c)), (3, .int (jI t))]) rfl ?_
                exact K67 0 (by unfold tnP; (repeat' split) <;> omega)
              ·
                refine sw_iconst (n := 63) F (3) (by decide) dX4_turn_62 rfl ?_
                refine sw_goto F (n := 67) dX4_turn_63 (by decide) ?_
                refine sw_loc [1, 2, 3, 4] (L2 := [(0, .ref o), (1, .int (jI s)), (2, .int (jI c)), (3, .int (jI t))]) rfl ?_
                exact K67 3 (by unfold tnP; (repeat' split) <;> omega)
            · exfalso; exact absurd c_46 (by decide)
          ·
            refine sw_iconst (n := 41) F (1) (by decide) dX4_turn_40 rfl ?_
            refine sw_goto F (n := 67) dX4_turn_41 (by decide) ?_
            refine sw_loc [1, 2, 3, 4] (L2 := [(0, .ref o), (1, .int (jI s)), (2, .int (jI c)), (3, .int (jI t))]) rfl ?_
            exact K67 1 (by unfold tnP; (repeat' split) <;> omega)
