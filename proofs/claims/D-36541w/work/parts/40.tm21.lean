theorem nx_dig {s c : Int} (h : nxI s c = 2 ∨ nxI s c = 6) : 48 ≤ c ∧ c ≤ 57 := by unfold nxI at h; (repeat' split at h) <;> omega
theorem nx_8 {s c : Int} (h : 8 ≤ nxI s c) : (48 ≤ c ∧ c ≤ 57) ∧ (((s = 5 ∨ s = 7) ∧ nxI s c = 8) ∨ (s = 8 ∧ nxI s c = 9) ∨ (s = 9 ∧ nxI s c = 10)) := by unfold nxI at h ⊢; (repeat' split at h) <;> (repeat' split) <;> omega
theorem nx_lo {s c : Int} (h0 : 0 ≤ nxI s c) (h : nxI s c < 8) : 0 ≤ s ∧ s < 8 := by unfold nxI at h h0; (repeat' split at h) <;> omega
def rdN (T : Nat → Int) : Nat → Nat
  | 0 => 0
  | k + 1 => if (stx T (k + 1) = 2 ∨ stx T (k + 1) = 6) ∧ T k ≠ 46 then rdN T k * 10 + (T k - 48).toNat else rdN T k
def rdP (T : Nat → Int) : Nat → Int
  | 0 => 0
  | k + 1 => if (stx T (k + 1) = 2 ∨ stx T (k + 1) = 6) ∧ T k ≠ 46 then rdP T k + (if stx T (k + 1) = 6 then 1 else 0) else rdP T k
def rdE (T : Nat → Int) : Nat → Int
  | 0 => 0
  | k + 1 => if 8 ≤ stx T (k + 1) then 10 * rdE T k + T k - 48 else rdE T k
def rdG (T : Nat → Int) : Nat → Int
  | 0 => 1
  | k + 1 => if stx T (k + 1) = 7 ∧ T k = 45 then -1 else rdG T k
def rdX (T : Nat → Int) (n : Nat) : Int := rdP T n - rdG T n * rdE T n
def rdM (T : Nat → Int) : Int := if T 0 = 45 then 1 else 0
theorem stx_s (T : Nat → Int) (k : Nat) : stx T (k + 1) = nxI (stx T k) (T k) := rfl
theorem stx_rng (T : Nat → Int) : ∀ k, -1 ≤ stx T k ∧ stx T k ≤ 10 := by
  intro k
  induction k with
  | zero => show -1 ≤ (0 : Int) ∧ (0 : Int) ≤ 10; omega
  | succ k ih => exact nxI_rng ih
theorem rdN_lt (T : Nat → Int) : ∀ k, rdN T k < 10 ^ k := by
  intro k
  induction k with
  | zero => exact Nat.one_pos
  | succ k ih =>
    rw [Nat.pow_succ]
    simp only [rdN]
    split
    · rename_i h
      have h1 := nx_dig (s := stx T k) (c := T k) (by rw [← stx_s]; exact h.1)
      omega
    · omega
theorem rdP_rng (T : Nat → Int) : ∀ k, 0 ≤ rdP T k ∧ rdP T k ≤ k := by
  intro k
  induction k with
  | zero => show 0 ≤ (0 : Int) ∧ (0 : Int) ≤ ((0 : Nat) : Int); omega
  | succ k ih => simp only [rdP]; (repeat' split) <;> omega
theorem rdG_pm (T : Nat → Int) : ∀ k, rdG T k = 1 ∨ rdG T k = -1 := by
  intro k
  induction k with
  | zero => exact Or.inl rfl
  | succ k ih => simp only [rdG]; split <;> omega
theorem rdE_ok (T : Nat → Int) : ∀ k, 0 ≤ rdE T k ∧ rdE T k ≤ 999 ∧ (0 ≤ stx T k → stx T k < 8 → rdE T k = 0) ∧ (stx T k = 8 → rdE T k ≤ 9) ∧ (stx T k = 9 → rdE T k ≤ 99) := by
  intro k
  induction k with
  | zero => show 0 ≤ (0 : Int) ∧ (0 : Int) ≤ 999 ∧ (_ → _ → (0 : Int) = 0) ∧ (_ → (0 : Int) ≤ 9) ∧ (_ → (0 : Int) ≤ 99); omega
  | succ k ih =>
    obtain ⟨h1, h2, h3, h4, h5⟩ := ih
    have hs := stx_s T k
    simp only [rdE]
    by_cases c : 8 ≤ stx T (k + 1)
    · rw [if_pos c]
      have hx := nx_8 (s := stx T k) (c := T k) (by rw [← hs]; exact c)
      rw [← hs] at hx
      omega
    · rw [if_neg c]
      refine ⟨h1, h2, fun q1 q2 => ?_, fun q => by omega, fun q => by omega⟩
      have hx := nx_lo (s := stx T k) (c := T k) (by rw [← hs]; exact q1) (by rw [← hs]; exact q2)
      exact h3 hx.1 hx.2
theorem rdX_rng (T : Nat → Int) (n : Nat) (h : n ≤ 24) : -1100 ≤ rdX T n ∧ rdX T n ≤ 1100 := by
  unfold rdX
  have h1 := rdP_rng T n; have h2 := rdE_ok T n
  rcases rdG_pm T n with e | e <;> rw [e] <;> omega
theorem rd_big {n k : Nat} (h : n < 10 ^ k) (hk : k ≤ 24) : n * 10 + 9 < big := by
  have h1 : 10 ^ k ≤ 10 ^ 24 := Nat.pow_le_pow_right (by decide) hk
  have h2 : 10 ^ 24 * 10 + 10 ≤ big := Nat.le_of_ble_eq_true rfl
  omega
theorem ftF_rng (T : Nat → Int) : ∀ k : Nat, -1 ≤ ftF T k ∧ ftF T k ≤ k := by
  intro k
  induction k with
  | zero => show -1 ≤ (-1 : Int) ∧ (-1 : Int) ≤ ((0 : Nat) : Int); omega
  | succ k ih => simp only [ftF]; (repeat' split) <;> omega
theorem ftI_rng (T : Nat → Int) (n : Nat) : -1 ≤ ftI T n ∧ ftI T n ≤ n := by
  have := ftF_rng T n; unfold ftI; (repeat' split) <;> omega
def rrP (s f : Int) : Int := if s < 0 ∨ 11 < s then 1 else if 0 ≤ f then 2 else 0
theorem rrP_c (s f : Int) : (rrP s f = 1 ∧ (s < 0 ∨ 11 < s)) ∨ (rrP s f = 2 ∧ ¬(s < 0 ∨ 11 < s) ∧ (0 ≤ f)) ∨ (rrP s f = 0 ∧ ¬(s < 0 ∨ 11 < s) ∧ ¬(0 ≤ f)) := by
  unfold rrP; (repeat' split) <;> omega
theorem nd_X4_read : yX4_read.cls ≠ "java/lang/invoke/MethodHandle" ∧ yX4_read.cls ≠ "java/lang/invoke/VarHandle" ∧ (parseMethodDescriptor yX4_read.desc).map (fun d => d.parameters.length) = some 1 := by decide +kernel
set_option maxRecDepth 100000 in
set_option maxHeartbeats 16000000 in
theorem ct_X4_read {g : GG} {l : Launch} (o : Nat) (a : Nat → Nat) (z : Nat → Int) (D : Nat → Nat) (M : Nat → Nat) (N : Nat → Int) (Sc : Nat → Int) (Hs : Nat → Int) (T : Nat → Int) (s : Int) (hs : -2147483648 ≤ s ∧ s ≤ 2147483647) (hT : TB T) (hz7 : 0 ≤ z 7 ∧ z 7 ≤ 24) (hA : Dok D M) : Ct g l yX4_read (ws_ yX4_read cX4_read 7 (Option.some Jvm.ClassFile.FieldType.int)) 4 82 0 0 [.ref o, .int (jI s)] [tmO g o a z, aN g 0 (a 0) 2400 D, aN g 0 (a 1) 10 M, aL g (a 3) 12 N, aI g 0 (a 4) 12 Sc, aI g 4 (a 5) 12 Hs, aI g 2 (a 6) 24 T] (fun v9 Ws9 => ∃ D1 : Nat → Nat, ∃ M1 : Nat → Nat, v9 = some (.int (jI (if0 (cd2 3 (rrP s (ftI T (z 7).toNat)) (laI (rdN T (z 7).toNat) (rdX T (z 7).toNat))) (rdX T (z 7).toNat)))) ∧ (RV [4, 5] D M D1 M1) ∧ Ws9 = [tmO g o a (va_up (up0 (cd2 3 (rrP s (ftI T (z 7).toNat)) (laI (rdN T (z 7).toNat) (rdX T (z 7).toNat))) z 7 0) 8 (cd2 3 (rrP s (ftI T (z 7).toNat)) (laI (rdN T (z 7).toNat) (rdX T (z 7).toNat)))), aN g 0 (a 0) 2400 D1, aN g 0 (a 1) 10 M1, aL g (a 3) 12 (up0 (cd2 3 (rrP s (ftI T (z 7).toNat)) (laI (rdN T (z 7).toNat) (rdX T (z 7).toNat))) N s.toNat (sgn (rdM T) (rdN T (z 7).toNat))), aI g 0 (a 4) 12 (up0 (cd2 3 (rrP s (ftI T (z 7).toNat)) (laI (rdN T (z 7).toNat) (rdX T (z 7).toNat))) Sc s.toNat (rdX T (z 7).toNat)), aI g 4 (a 5) 12 (up0 (cd2 3 (rrP s (ftI T (z 7).toNat)) (laI (rdN T (z 7).toNat) (rdX T (z 7).toNat))) Hs s.toNat 1), aI g 2 (a 6) 24 T]) (nox) := by
  refine Ct.of (cc := cX4_read) (nL := 7) (ret := (Option.some Jvm.ClassFile.FieldType.int)) (by decide) rfl (Nat.le_of_ble_eq_true rfl) ?_
  intro x hg hl hPo hPx hmc hms F
  subst hg; subst hl
  refine SW.cast (L' := [(0, .ref o), (1, .int (jI s))]) ?_ rfl rfl rfl
  refine sw_aload_n (n := 1) F 0 (some o) rfl rfl rfl dX4_read_0 rfl ?_
  have K24 : ∀ (p : Int), (p = rrP s (ftI T (z 7).toNat)) → SW x [tmO (xg x) o a z, aN (xg x) 0 (a 0) 2400 D, aN (xg x) 0 (a 1) 10 M, aL (xg x) (a 3) 12 N, aI (xg x) 0 (a 4) 12 Sc, aI (xg x) 4 (a 5) 12 Hs, aI (xg x) 2 (a 6) 24 T] 0 0 24 [(0, .ref o), (1, .int (jI s))] [.int (jI p), .ref o] := by
    intro p hpc
    subst hpc
    have hcs := rrP_c s (ftI T (z 7).toNat)
    refine sw_callV (n := 27) F (ct_X4_fails (g := xg x) (l := xl x) o a z (rrP s (ftI T (z 7).toNat)) (by first | omega | assumption)) (rcv_ob F 0 (ci := 3) rfl rfl) q3973 q3975 qs68 q120 q3976 nd_X4_fails rfl (by decide) [0, 1, 2, 3, 4, 5, 6] rfl [aN (xg x) 0 (a 0) 2400 D, aN (xg x) 0 (a 1) 10 M, aL (xg x) (a 3) 12 N, aI (xg x) 0 (a 4) 12 Sc, aI (xg x) 4 (a 5) 12 Hs, aI (xg x) 2 (a 6) 24 T] rfl 0 0 ⟨by omega, by omega⟩ [] rfl (Nat.le_of_ble_eq_true rfl) dX4_read_24 rfl (fun _ _ h => h.elim) (fun v Ws h => ?_)
    obtain ⟨rfl, hps_1, rfl⟩ := h
    show SW x [tmO (xg x) o a (va_up z 8 (rrP s (ftI T (z 7).toNat))), aN (xg x) 0 (a 0) 2400 D, aN (xg x) 0 (a 1) 10 M, aL (xg x) (a 3) 12 N, aI (xg x) 0 (a 4) 12 Sc, aI (xg x) 4 (a 5) 12 Hs, aI (xg x) 2 (a 6) 24 T] _ _ _ _ [.int (jI (psI (rrP s (ftI T (z 7).toNat))))]
    refine sw_if_eq (n := 30) F (by omega) (tgt := 32) dX4_read_27 (by decide) rfl (fun c_27 => ?_) (fun c_27 => ?_)
    ·
      refine SW.cast (L' := [(0, .ref o), (1, .int (jI (↑(s.toNat))))]) ?_ rfl (by rw [Int.toNat_of_nonneg (show 0 ≤ s by omega)]) rfl
      refine sw_aload_n (n := 33) F 0 (some o) rfl rfl rfl dX4_read_32 rfl ?_
      refine sw_get (n := 36) F 0 rfl (k := 1) ⟨(RX4, TX4, 50), rfl, by decide, q3800, in_X4, Or.inl rfl⟩ (v := .ref (a 1)) rfl dX4_read_33 rfl ?_
      refine sw_iconst (n := 37) F (4) (by decide) dX4_read_36 rfl ?_
      refine sw_iconst (n := 38) F (0) (by decide) dX4_read_37 rfl ?_
      refine sw_iastoreN (n := 39) F 2 rfl (fun _ => rfl) 4 rfl (by omega) 0 (by first | omega | rfl) [tmO (xg x) o a (va_up z 8 (rrP s (ftI T (z 7).toNat))), aN (xg x) 0 (a 0) 2400 D, aN (xg x) 0 (a 1) 10 (va_up M 4 0), aL (xg x) (a 3) 12 N, aI (xg x) 0 (a 4) 12 Sc, aI (xg x) 4 (a 5) 12 Hs, aI (xg x) 2 (a 6) 24 T] (by rfl) dX4_read_38 rfl ?_
      refine sw_iconst (n := 40) F (0) (by decide) dX4_read_39 rfl ?_
      refine sw_istore_n (n := 41) F (L2 := [(2, .int (jI 0)), (0, .ref o), (1, .int (jI (↑(s.toNat))))]) rfl (by decide) rfl dX4_read_40 rfl ?_
      refine sw_iconst (n := 42) F (0) (by decide) dX4_read_41 rfl ?_
      refine sw_istore_n (n := 43) F (L2 := [(3, .int (jI 0)), (2, .int (jI 0)), (0, .ref o), (1, .int (jI (↑(s.toNat))))]) rfl (by decide) rfl dX4_read_42 rfl ?_
      refine sw_iconst (n := 44) F (1) (by decide) dX4_read_43 rfl ?_
      refine sw_istore (n := 46) F (L2 := [(4, .int (jI 1)), (3, .int (jI 0)), (2, .int (jI 0)), (0, .ref o), (1, .int (jI (↑(s.toNat))))]) rfl (by decide) dX4_read_44 rfl ?_
      refine sw_iconst (n := 47) F (0) (by decide) dX4_read_46 rfl ?_
      refine sw_istore (n := 49) F (L2 := [(5, .int (jI 0)), (4, .int (jI 1)), (3, .int (jI 0)), (2, .int (jI 0)), (0, .ref o), (1, .int (jI (↑(s.toNat))))]) rfl (by decide) dX4_read_47 rfl ?_
      refine sw_iconst (n := 50) F (0) (by decide) dX4_read_49 rfl ?_
      refine sw_istore (n := 52) F (L2 := [(6, .int (jI 0)), (5, .int (jI 0)), (4, .int (jI 1)), (3, .int (jI 0)), (2, .int (jI 0)), (0, .ref o), (1, .int (jI (↑(s.toNat))))]) rfl (by decide) dX4_read_50 rfl ?_
      have K52 : ∀ N52 : Nat, ∀ (D1 : Nat → Nat) (M1 : Nat → Nat) (k : Nat), (RV [4, 5] D M D1 M1) → (rok D1 M1 4 (rdN T k)) → ((k : Int) ≤ z 7) → ((24 - k) < N52) → SW x [tmO (xg x) o a (va_up z 8 (rrP s (ftI T (z 7).toNat))), aN (xg x) 0 (a 0) 2400 D1, aN (xg x) 0 (a 1) 10 M1, aL (xg x) (a 3) 12 N, aI (xg x) 0 (a 4) 12 Sc, aI (xg x) 4 (a 5) 12 Hs, aI (xg x) 2 (a 6) 24 T] 0 0 52 [(0, .ref o), (1, .int (jI (↑(s.toNat)))), (2, .int (jI (rdP T k))), (3, .int (jI (rdE T k))), (4, .int (jI (rdG T k))), (5, .int (jI (stx T k))), (6, .int (jI (↑k)))] [] := by
        intro N52; induction N52 with
        | zero => intro D1 M1 k hRV hrk hk hmu52; omega
        | succ N52 ih52 =>
          intro D1 M1 k hRV hrk hk hmu52
          have hA1 := hRV.1
          refine sw_iload (n := 54) F 6 rfl dX4_read_52 rfl ?_
          refine sw_aload_n (n := 55) F 0 (some o) rfl rfl rfl dX4_read_54 rfl ?_
          refine sw_get (n := 58) F 0 rfl (k := 7) ⟨(RX4, TX4, 50), rfl, by decide, q3806, in_X4, Or.inl rfl⟩ (v := .int (jI (z 7))) rfl dX4_read_55 rfl ?_
          refine sw_icmp_ge (n := 61) F (by omega) (by omega) (tgt := 194) dX4_read_58 (by decide) rfl (fun c_58 => ?_) (fun c_58 => ?_)
          ·
            obtain rfl : k = (z 7).toNat := by omega
            have ht0 := hT 0
            have hxr := rdX_rng T (z 7).toNat (by omega)
            refine sw_aload_n (n := 195) F 0 (some o) rfl rfl rfl dX4_read_194 rfl ?_
            refine sw_aload_n (n := 196) F 0 (some o) rfl rfl rfl dX4_read_195 rfl ?_
            refine sw_iload_n (n := 197) F 1 rfl rfl dX4_read_196 rfl ?_
            refine sw_iconst (n := 198) F (4) (by decide) dX4_read_197 rfl ?_
            refine sw_aload_n (n := 199) F 0 (some o) rfl rfl rfl dX4_read_198 rfl ?_
            refine sw_get (n := 202) F 0 rfl (k := 6) ⟨(RX4, TX4, 50), rfl, by decide, q3805, in_X4, Or.inl rfl⟩ (v := .ref (a 6)) rfl dX4_read_199 rfl ?_
            refine sw_iconst (n := 203) F (0) (by decide) dX4_read_202 rfl ?_
            refine sw_caloadI (n := 204) F 6 rfl (fun _ => rfl) 0 rfl (by omega) dX4_read_203 rfl ?_
            refine sw_bipush (n := 206) F (45) (by decide) dX4_read_204 rfl ?_
            refine sw_icmp_ne (n := 209) F (by omega) (by decide) (tgt := 213) dX4_read_206 (by decide) rfl (fun c_206 => ?_) (fun c_206 => ?_)
            ·
              have ev : rdM T = 0 := if_neg (by omega)
              refine sw_iconst (n := 214) F (0) (by decide) dX4_read_213 rfl ?_
              refine sw_iload_n (n := 215) F 2 rfl rfl dX4_read_214 rfl ?_
              refine sw_iload (n := 217) F 4 rfl dX4_read_215 rfl ?_
              refine sw_iload_n (n := 218) F 3 rfl rfl dX4_read_217 rfl ?_
              refine sw_imul (n := 219) F dX4_read_218 rfl ?_
              refine sw_isub (n := 220) F dX4_read_219 rfl ?_
              show SW x _ _ _ _ _ [.int (jI (rdX T (z 7).toNat)), .int (jI 0), .int (jI 4), .int (jI (↑(s.toNat))), .ref o, .ref o]
              refine sw_callV (n := 223) F (ct_X4_lays (g := xg x) (l := xl x) o a (va_up z 8 (rrP s (ftI T (z 7).toNat))) D1 M1 N Sc Hs s.toNat 4 (rdN T ((z 7).toNat)) 0 (rdX T (z 7).toNat) (by first | omega | assumption) (by first | omega | assumption) (by first | assumption | omega) hrk (by first | omega | assumption) (by first | omega | assumption)) (rcv_ob F 0 (ci := 3) rfl rfl) q4020 q4022 qs75 q120 q4023 nd_X4_lays rfl (by decide) [0, 1, 2, 3, 4, 5, 6] rfl [aI (xg x) 2 (a 6) 24 T] rfl 0 0 ⟨by omega, by omega⟩ [.ref o] rfl (Nat.le_of_ble_eq_true rfl) dX4_read_220 rfl (fun _ _ h => h.elim) (fun v Ws h => ?_)
              obtain ⟨rfl, hl_2, rfl⟩ := h
              show SW x [tmO (xg x) o a (va_up z 8 (rrP s (ftI T (z 7).toNat))), aN (xg x) 0 (a 0) 2400 D1, aN (xg x) 0 (a 1) 10 M1, aL (xg x) (a 3) 12 (up1 (laI (rdN T ((z 7).toNat)) (rdX T (z 7).toNat)) N s.toNat (sgn 0 (rdN T ((z 7).toNat)))), aI (xg x) 0 (a 4) 12 (up1 (laI (rdN T ((z 7).toNat)) (rdX T (z 7).toNat)) Sc s.toNat (rdX T (z 7).toNat)), aI (xg x) 4 (a 5) 12 (up1 (laI (rdN T ((z 7).toNat)) (rdX T (z 7).toNat)) Hs s.toNat 1), aI (xg x) 2 (a 6) 24 T] _ _ _ _ [.int (jI (laI (rdN T ((z 7).toNat)) (rdX T (z 7).toNat))), .ref o]
              have la_3 := laI_cases (rdN T ((z 7).toNat)) (rdX T (z 7).toNat)
              refine sw_if_eq (n := 226) F (by omega) (tgt := 230) dX4_read_223 (by decide) rfl (fun c_223 => ?_) (fun c_223 => ?_)
              ·
                refine sw_iconst (n := 231) F (3) (by decide) dX4_read_230 rfl ?_
                refine sw_callV (n := 234) F (ct_X4_fails (g := xg x) (l := xl x) o a (va_up z 8 (rrP s (ftI T (z 7).toNat))) 3 (by first | omega | assumption)) (rcv_ob F 0 (ci := 3) rfl rfl) q3973 q3975 qs68 q120 q3976 nd_X4_fails rfl (by decide) [0, 1, 2, 3, 4, 5, 6] rfl [aN (xg x) 0 (a 0) 2400 D1, aN (xg x) 0 (a 1) 10 M1, aL (xg x) (a 3) 12 (up1 (laI (rdN T ((z 7).toNat)) (rdX T (z 7).toNat)) N s.toNat (sgn 0 (rdN T ((z 7).toNat)))), aI (xg x) 0 (a 4) 12 (up1 (laI (rdN T ((z 7).toNat)) (rdX T (z 7).toNat)) Sc s.toNat (rdX T (z 7).toNat)), aI (xg x) 4 (a 5) 12 (up1 (laI (rdN T ((z 7).toNat)) (rdX T (z 7).toNat)) Hs s.toNat 1), aI (xg x) 2 (a 6) 24 T] rfl 0 0 ⟨by omega, by omega⟩ [] rfl (Nat.le_of_ble_eq_true rfl) dX4_read_231 rfl (fun _ _ h => h.elim) (fun v Ws h => ?_)
                obtain ⟨rfl, hps_4, rfl⟩ := h
                show SW x [tmO (xg x) o a (va_up (va_up z 8 (rrP s (ftI T (z 7).toNat))) 8 3), aN (xg x) 0 (a 0) 2400 D1, aN (xg x) 0 (a 1) 10 M1, aL (xg x) (a 3) 12 (up1 (laI (rdN T ((z 7).toNat)) (rdX T (z 7).toNat)) N s.toNat (sgn 0 (rdN T ((z 7).toNat)))), aI (xg x) 0 (a 4) 12 (up1 (laI (rdN T ((z 7).toNat)) (rdX T (z 7).toNat)) Sc s.toNat (rdX T (z 7).toNat)), aI (xg x) 4 (a 5) 12 (up1 (laI (rdN T ((z 7).toNat)) (rdX T (z 7).toNat)) Hs s.toNat 1), aI (xg x) 2 (a 6) 24 T] _ _ _ _ [.int (jI 1)]
                refine sw_if_eq (n := 237) F (by decide) (tgt := 239) dX4_read_234 (by decide) rfl (fun c_234 => ?_) (fun c_234 => ?_)
                · exfalso; exact absurd c_234 (by decide)
                ·
                  refine sw_iconst (n := 238) F (0) (by decide) dX4_read_237 rfl ?_
                  have e0 : rrP s (ftI T (z 7).toNat) = 0 := by omega
                  have l1 : laI (rdN T (z 7).toNat) (rdX T (z 7).toNat) = 0 := by first | assumption | omega
                  have e : cd2 3 (rrP s (ftI T (z 7).toNat)) (laI (rdN T (z 7).toNat) (rdX T (z 7).toNat)) = 3 := cd2_f e0 l1
                  exact sw_iret F _ rfl (by first | rfl | exact jI_nz (by omega) | exact jI_nc (by omega)) dX4_read_238 (by rw [hPo]; exact ⟨D1, M1, (by rw [e]; rfl), (by exact hRV.mono (by simp)), (by rw [e]; simp only [up0_3, l1, up1_00, ev, up_88])⟩)
              ·
                refine sw_iconst (n := 227) F (0) (by decide) dX4_read_226 rfl ?_
                refine sw_goto F (n := 231) dX4_read_227 (by decide) ?_
                refine sw_callV (n := 234) F (ct_X4_fails (g := xg x) (l := xl x) o a (va_up z 8 (rrP s (ftI T (z 7).toNat))) 0 (by first | omega | assumption)) (rcv_ob F 0 (ci := 3) rfl rfl) q3973 q3975 qs68 q120 q3976 nd_X4_fails rfl (by decide) [0, 1, 2, 3, 4, 5, 6] rfl [aN (xg x) 0 (a 0) 2400 D1, aN (xg x) 0 (a 1) 10 M1, aL (xg x) (a 3) 12 (up1 (laI (rdN T ((z 7).toNat)) (rdX T (z 7).toNat)) N s.toNat (sgn 0 (rdN T ((z 7).toNat)))), aI (xg x) 0 (a 4) 12 (up1 (laI (rdN T ((z 7).toNat)) (rdX T (z 7).toNat)) Sc s.toNat (rdX T (z 7).toNat)), aI (xg x) 4 (a 5) 12 (up1 (laI (rdN T ((z 7).toNat)) (rdX T (z 7).toNat)) Hs s.toNat 1), aI (xg x) 2 (a 6) 24 T] rfl 0 0 ⟨by omega, by omega⟩ [] rfl (Nat.le_of_ble_eq_true rfl) dX4_read_231 rfl (fun _ _ h => h.elim) (fun v Ws h => ?_)
                obtain ⟨rfl, hps_5, rfl⟩ := h
                show SW x [tmO (xg x) o a (va_up (va_up z 8 (rrP s (ftI T (z 7).toNat))) 8 0), aN (xg x) 0 (a 0) 2400 D1, aN (xg x) 0 (a 1) 10 M1, aL (xg x) (a 3) 12 (up1 (laI (rdN T ((z 7).toNat)) (rdX T (z 7).toNat)) N s.toNat (sgn 0 (rdN T ((z 7).toNat)))), aI (xg x) 0 (a 4) 12 (up1 (laI (rdN T ((z 7).toNat)) (rdX T (z 7).toNat)) Sc s.toNat (rdX T (z 7).toNat)), aI (xg x) 4 (a 5) 12 (up1 (laI (rdN T ((z 7).toNat)) (rdX T (z 7).toNat)) Hs s.toNat 1), aI (xg x) 2 (a 6) 24 T] _ _ _ _ [.int (jI 0)]
                refine sw_if_eq (n := 237) F (by decide) (tgt := 239) dX4_read_234 (by decide) rfl (fun c_234 => ?_) (fun c_234 => ?_)
                ·
                  refine sw_aload_n (n := 240) F 0 (some o) rfl rfl rfl dX4_read_239 rfl ?_
                  refine sw_iconst (n := 241) F (0) (by decide) dX4_read_240 rfl ?_
                  refine sw_put (n := 244) F 0 rfl (k := 7) ⟨(RX4, TX4, 50), rfl, by decide, q3806, in_X4, Or.inl rfl⟩ .int ⟨(RX4, TX4, 50), rfl, rfl, tyX4_ok 7 (by decide), nmX4, tyX4, tyX4_ok⟩ rfl rfl (Nat.le_of_ble_eq_true rfl) (fs' := tmF a (va_up (va_up z 7 0) 8 0)) rfl [tmO (xg x) o a (va_up (va_up z 7 0) 8 0), aN (xg x) 0 (a 0) 2400 D1, aN (xg x) 0 (a 1) 10 M1, aL (xg x) (a 3) 12 (up1 (laI (rdN T ((z 7).toNat)) (rdX T (z 7).toNat)) N s.toNat (sgn 0 (rdN T ((z 7).toNat)))), aI (xg x) 0 (a 4) 12 (up1 (laI (rdN T ((z 7).toNat)) (rdX T (z 7).toNat)) Sc s.toNat (rdX T (z 7).toNat)), aI (xg x) 4 (a 5) 12 (up1 (laI (rdN T ((z 7).toNat)) (rdX T (z 7).toNat)) Hs s.toNat 1), aI (xg x) 2 (a 6) 24 T] rfl dX4_read_241 rfl ?_
                  refine sw_aload_n (n := 245) F 0 (some o) rfl rfl rfl dX4_read_244 rfl ?_
                  refine sw_get (n := 248) F 0 rfl (k := 4) ⟨(RX4, TX4, 50), rfl, by decide, q3803, in_X4, Or.inl rfl⟩ (v := .ref (a 4)) rfl dX4_read_245 rfl ?_
                  refine sw_iload_n (n := 249) F 1 rfl rfl dX4_read_248 rfl ?_
                  refine sw_ialoadI (n := 250) F 4 rfl (fun _ => rfl) s.toNat (by omega) (by omega) dX4_read_249 rfl ?_
                  have e0 : rrP s (ftI T (z 7).toNat) = 0 := by omega
                  have l1 : laI (rdN T (z 7).toNat) (rdX T (z 7).toNat) = 1 := by omega
                  have e : cd2 3 (rrP s (ftI T (z 7).toNat)) (laI (rdN T (z 7).toNat) (rdX T (z 7).toNat)) = 0 := cd2_t e0 (by rw [l1]; decide)
                  exact sw_iret F _ rfl (by first | rfl | exact jI_nz (by omega) | exact jI_nc (by omega)) dX4_read_250 (by rw [hPo]; exact ⟨D1, M1, (by rw [e, if0_0]; first | rfl | (simp only [l1, up1_11, va_up_self, ev])), (by exact hRV.mono (by simp)), (by rw [e]; simp only [up0_0, l1, up1_11, ev, up_88])⟩)
                · exfalso; exact absurd c_234 (by decide)
            ·
              have ev : rdM T = 1 := if_pos (by omega)
              refine sw_iconst (n := 210) F (1) (by decide) dX4_read_209 rfl ?_
              refine sw_goto F (n := 214) dX4_read_210 (by decide) ?_
              refine sw_iload_n (n := 215) F 2 rfl rfl dX4_read_214 rfl ?_
              refine sw_iload (n := 217) F 4 rfl dX4_read_215 rfl ?_
              refine sw_iload_n (n := 218) F 3 rfl rfl dX4_read_217 rfl ?_
              refine sw_imul (n := 219) F dX4_read_218 rfl ?_
              refine sw_isub (n := 220) F dX4_read_219 rfl ?_
              show SW x _ _ _ _ _ [.int (jI (rdX T (z 7).toNat)), .int (jI 1), .int (jI 4), .int (jI (↑(s.toNat))), .ref o, .ref o]
              refine sw_callV (n := 223) F (ct_X4_lays (g := xg x) (l := xl x) o a (va_up z 8 (rrP s (ftI T (z 7).toNat))) D1 M1 N Sc Hs s.toNat 4 (rdN T ((z 7).toNat)) 1 (rdX T (z 7).toNat) (by first | omega | assumption) (by first | omega | assumption) (by first | assumption | omega) hrk (by first | omega | assumption) (by first | omega | assumption)) (rcv_ob F 0 (ci := 3) rfl rfl) q4020 q4022 qs75 q120 q4023 nd_X4_lays rfl (by decide) [0, 1, 2, 3, 4, 5, 6] rfl [aI (xg x) 2 (a 6) 24 T] rfl 0 0 ⟨by omega, by omega⟩ [.ref o] rfl (Nat.le_of_ble_eq_true rfl) dX4_read_220 rfl (fun _ _ h => h.elim) (fun v Ws h => ?_)
              obtain ⟨rfl, hl_6, rfl⟩ := h
              show SW x [tmO (xg x) o a (va_up z 8 (rrP s (ftI T (z 7).toNat))), aN (xg x) 0 (a 0) 2400 D1, aN (xg x) 0 (a 1) 10 M1, aL (xg x) (a 3) 12 (up1 (laI (rdN T ((z 7).toNat)) (rdX T (z 7).toNat)) N s.toNat (sgn 1 (rdN T ((z 7).toNat)))), aI (xg x) 0 (a 4) 12 (up1 (laI (rdN T ((z 7).toNat)) (rdX T (z 7).toNat)) Sc s.toNat (rdX T (z 7).toNat)), aI (xg x) 4 (a 5) 12 (up1 (laI (rdN T ((z 7).toNat)) (rdX T (z 7).toNat)) Hs s.toNat 1), aI (xg x) 2 (a 6) 24 T] _ _ _ _ [.int (jI (laI (rdN T ((z 7).toNat)) (rdX T (z 7).toNat))), .ref o]
              have la_7 := laI_cases (rdN T ((z 7).toNat)) (rdX T (z 7).toNat)
              refine sw_if_eq (n := 226) F (by omega) (tgt := 230) dX4_read_223 (by decide) rfl (fun c_223 => ?_) (fun c_223 => ?_)
              ·
                refine sw_iconst (n := 231) F (3) (by decide) dX4_read_230 rfl ?_
                refine sw_callV (n := 234) F (ct_X4_fails (g := xg x) (l := xl x) o a (va_up z 8 (rrP s (ftI T (z 7).toNat))) 3 (by first | omega | assumption)) (rcv_ob F 0 (ci := 3) rfl rfl) q3973 q3975 qs68 q120 q3976 nd_X4_fails rfl (by decide) [0, 1, 2, 3, 4, 5, 6] rfl [aN (xg x) 0 (a 0) 2400 D1, aN (xg x) 0 (a 1) 10 M1, aL (xg x) (a 3) 12 (up1 (laI (rdN T ((z 7).toNat)) (rdX T (z 7).toNat)) N s.toNat (sgn 1 (rdN T ((z 7).toNat)))), aI (xg x) 0 (a 4) 12 (up1 (laI (rdN T ((z 7).toNat)) (rdX T (z 7).toNat)) Sc s.toNat (rdX T (z 7).toNat)), aI (xg x) 4 (a 5) 12 (up1 (laI (rdN T ((z 7).toNat)) (rdX T (z 7).toNat)) Hs s.toNat 1), aI (xg x) 2 (a 6) 24 T] rfl 0 0 ⟨by omega, by omega⟩ [] rfl (Nat.le_of_ble_eq_true rfl) dX4_read_231 rfl (fun _ _ h => h.elim) (fun v Ws h => ?_)
                obtain ⟨rfl, hps_8, rfl⟩ := h
                show SW x [tmO (xg x) o a (va_up (va_up z 8 (rrP s (ftI T (z 7).toNat))) 8 3), aN (xg x) 0 (a 0) 2400 D1, aN (xg x) 0 (a 1) 10 M1, aL (xg x) (a 3) 12 (up1 (laI (rdN T ((z 7).toNat)) (rdX T (z 7).toNat)) N s.toNat (sgn 1 (rdN T ((z 7).toNat)))), aI (xg x) 0 (a 4) 12 (up1 (laI (rdN T ((z 7).toNat)) (rdX T (z 7).toNat)) Sc s.toNat (rdX T (z 7).toNat)), aI (xg x) 4 (a 5) 12 (up1 (laI (rdN T ((z 7).toNat)) (rdX T (z 7).toNat)) Hs s.toNat 1), aI (xg x) 2 (a 6) 24 T] _ _ _ _ [.int (jI 1)]
                refine sw_if_eq (n := 237) F (by decide) (tgt := 239) dX4_read_234 (by decide) rfl (fun c_234 => ?_) (fun c_234 => ?_)
                · exfalso; exact absurd c_234 (by decide)
                ·
                  refine sw_iconst (n := 238) F (0) (by decide) dX4_read_237 rfl ?_
                  have e0 : rrP s (ftI T (z 7).toNat) = 0 := by omega
                  have l1 : laI (rdN T (z 7).toNat) (rdX T (z 7).toNat) = 0 := by first | assumption | omega
                  have e : cd2 3 (rrP s (ftI T (z 7).toNat)) (laI (rdN T (z 7).toNat) (rdX T (z 7).toNat)) = 3 := cd2_f e0 l1
                  exact sw_iret F _ rfl (by first | rfl | exact jI_nz (by omega) | exact jI_nc (by omega)) dX4_read_238 (by rw [hPo]; exact ⟨D1, M1, (by rw [e]; rfl), (by exact hRV.mono (by simp)), (by rw [e]; simp only [up0_3, l1, up1_00, ev, up_88])⟩)
              ·
                refine sw_iconst (n := 227) F (0) (by decide) dX4_read_226 rfl ?_
                refine sw_goto F (n := 231) dX4_read_227 (by decide) ?_
                refine sw_callV (n := 234) F (ct_X4_fails (g := xg x) (l := xl x) o a (va_up z 8 (rrP s (ftI T (z 7).toNat))) 0 (by first | omega | assumption)) (rcv_ob F 0 (ci := 3) rfl rfl) q3973 q3975 qs68 q120 q3976 nd_X4_fails rfl (by decide) [0, 1, 2, 3, 4, 5, 6] rfl [aN (xg x) 0 (a 0) 2400 D1, aN (xg x) 0 (a 1) 10 M1, aL (xg x) (a 3) 12 (up1 (laI (rdN T ((z 7).toNat)) (rdX T (z 7).toNat)) N s.toNat (sgn 1 (rdN T ((z 7).toNat)))), aI (xg x) 0 (a 4) 12 (up1 (laI (rdN T ((z 7).toNat)) (rdX T (z 7).toNat)) Sc s.toNat (rdX T (z 7).toNat)), aI (xg x) 4 (a 5) 12 (up1 (laI (rdN T ((z 7).toNat)) (rdX T (z 7).toNat)) Hs s.toNat 1), aI (xg x) 2 (a 6) 24 T] rfl 0 0 ⟨by omega, by omega⟩ [] rfl (Nat.le_of_ble_eq_true rfl) dX4_read_231 rfl (fun _ _ h => h.elim) (fun v Ws h => ?_)
                obtain ⟨rfl, hps_9, rfl⟩ := h
                show SW x [tmO (xg x) o a (va_up (va_up z 8 (rrP s (ftI T (z 7).toNat))) 8 0), aN (xg x) 0 (a 0) 2400 D1, aN (xg x) 0 (a 1) 10 M1, aL (xg x) (a 3) 12 (up1 (laI (rdN T ((z 7).toNat)) (rdX T (z 7).toNat)) N s.toNat (sgn 1 (rdN T ((z 7).toNat)))), aI (xg x) 0 (a 4) 12 (up1 (laI (rdN T ((z 7).toNat)) (rdX T (z 7).toNat)) Sc s.toNat (rdX T (z 7).toNat)), aI (xg x) 4 (a 5) 12 (up1 (laI (rdN T ((z 7).toNat)) (rdX T (z 7).toNat)) Hs s.toNat 1), aI (xg x) 2 (a 6) 24 T] _ _ _ _ [.int (jI 0)]
                refine sw_if_eq (n := 237) F (by decide) (tgt := 239) dX4_read_234 (by decide) rfl (fun c_234 => ?_) (fun c_234 => ?_)
                ·
                  refine sw_aload_n (n := 240) F 0 (some o) rfl rfl rfl dX4_read_239 rfl ?_
                  refine sw_iconst (n := 241) F (0) (by decide) dX4_read_240 rfl ?_
                  refine sw_put (n := 244) F 0 rfl (k := 7) ⟨(RX4, TX4, 50), rfl, by decide, q3806, in_X4, Or.inl rfl⟩ .int ⟨(RX4, TX4, 50), rfl, rfl, tyX4_ok 7 (by decide), nmX4, tyX4, tyX4_ok⟩ rfl rfl (Nat.le_of_ble_eq_true rfl) (fs' := tmF a (va_up (va_up z 7 0) 8 0)) rfl [tmO (xg x) o a (va_up (va_up z 7 0) 8 0), aN (xg x) 0 (a 0) 2400 D1, aN (xg x) 0 (a 1) 10 M1, aL (xg x) (a 3) 12 (up1 (laI (rdN T ((z 7).toNat)) (rdX T (z 7).toNat)) N s.toNat (sgn 1 (rdN T ((z 7).toNat)))), aI (xg x) 0 (a 4) 12 (up1 (laI (rdN T ((z 7).toNat)) (rdX T (z 7).toNat)) Sc s.toNat (rdX T (z 7).toNat)), aI (xg x) 4 (a 5) 12 (up1 (laI (rdN T ((z 7).toNat)) (rdX T (z 7).toNat)) Hs s.toNat 1), aI (xg x) 2 (a 6) 24 T] rfl dX4_read_241 rfl ?_
                  refine sw_aload_n (n := 245) F 0 (some o) rfl rfl rfl dX4_read_244 rfl ?_
                  refine sw_get (n := 248) F 0 rfl (k := 4) ⟨(RX4, TX4, 50), rfl, by decide, q3803, in_X4, Or.inl rfl⟩ (v := .ref (a 4)) rfl dX4_read_245 rfl ?_
                  refine sw_iload_n (n := 249) F 1 rfl rfl dX4_read_248 rfl ?_
                  refine sw_ialoadI (n := 250) F 4 rfl (fun _ => rfl) s.toNat (by omega) (by omega) dX4_read_249 rfl ?_
                  have e0 : rrP s (ftI T (z 7).toNat) = 0 := by omega
                  have l1 : laI (rdN T (z 7).toNat) (rdX T (z 7).toNat) = 1 := by omega
                  have e : cd2 3 (rrP s (ftI T (z 7).toNat)) (laI (rdN T (z 7).toNat) (rdX T (z 7).toNat)) = 0 := cd2_t e0 (by rw [l1]; decide)
                  exact sw_iret F _ rfl (by first | rfl | exact jI_nz (by omega) | exact jI_nc (by omega)) dX4_read_250 (by rw [hPo]; exact ⟨D1, M1, (by rw [e, if0_0]; first | rfl | (simp only [l1, up1_11, va_up_self, ev])), (by exact hRV.mono (by simp)), (by rw [e]; simp only [up0_0, l1, up1_11, ev, up_88])⟩)
                · exfalso; exact absurd c_234 (by decide)
          ·
            have htk := hT k
            have hsr := stx_rng T k
            have hsr1 := stx_rng T (k + 1)
            refine sw_iload (n := 63) F 5 rfl dX4_read_61 rfl ?_
            refine sw_aload_n (n := 64) F 0 (some o) rfl rfl rfl dX4_read_63 rfl ?_
            refine sw_get (n := 67) F 0 rfl (k := 6) ⟨(RX4, TX4, 50), rfl, by decide, q3805, in_X4, Or.inl rfl⟩ (v := .ref (a 6)) rfl dX4_read_64 rfl ?_
            refine sw_iload (n := 69) F 6 rfl dX4_read_67 rfl ?_
            refine sw_caloadI (n := 70) F 6 rfl (fun _ => rfl) k rfl (by omega) dX4_read_69 rfl ?_
            refine sw_callS (n := 73) F (ct_X4_next (g := xg x) (l := xl x) (stx T k) (T k) (by first | omega | assumption) (by first | omega | assumption)) q3993 q3994 q120 q3995 nd_X4_next rfl (by decide) [0, 1, 2, 3, 4, 5, 6] rfl [tmO (xg x) o a (va_up z 8 (rrP s (ftI T (z 7).toNat))), aN (xg x) 0 (a 0) 2400 D1, aN (xg x) 0 (a 1) 10 M1, aL (xg x) (a 3) 12 N, aI (xg x) 0 (a 4) 12 Sc, aI (xg x) 4 (a 5) 12 Hs, aI (xg x) 2 (a 6) 24 T] rfl 0 0 ⟨by omega, by omega⟩ [] rfl (Nat.le_of_ble_eq_true rfl) dX4_read_70 rfl (fun _ _ h => h.elim) (fun v Ws h => ?_)
            obtain ⟨rfl, rfl⟩ := h
            show SW x [tmO (xg x) o a (va_up z 8 (rrP s (ftI T (z 7).toNat))), aN (xg x) 0 (a 0) 2400 D1, aN (xg x) 0 (a 1) 10 M1, aL (xg x) (a 3) 12 N, aI (xg x) 0 (a 4) 12 Sc, aI (xg x) 4 (a 5) 12 Hs, aI (xg x) 2 (a 6) 24 T] _ _ _ _ [.int (jI (nxI (stx T k) (T k)))]
            show SW x _ _ _ _ _ [.int (jI (stx T (k + 1)))]
            refine sw_istore (n := 75) F (L2 := [(5, .int (jI (stx T (k + 1)))), (0, .ref o), (1, .int (jI (↑(s.toNat)))), (2, .int (jI (rdP T k))), (3, .int (jI (rdE T k))), (4, .int (jI (rdG T k))), (6, .int (jI (↑k)))]) rfl (by decide) dX4_read_73 rfl ?_
            have K188 : ∀ (D2 : Nat → Nat) (M2 : Nat → Nat), (RV [4, 5] D M D2 M2) → (rok D2 M2 4 (rdN T (k + 1))) → SW x [tmO (xg x) o a (va_up z 8 (rrP s (ftI T (z 7).toNat))), aN (xg x) 0 (a 0) 2400 D2, aN (xg x) 0 (a 1) 10 M2, aL (xg x) (a 3) 12 N, aI (xg x) 0 (a 4) 12 Sc, aI (xg x) 4 (a 5) 12 Hs, aI (xg x) 2 (a 6) 24 T] 0 0 188 [(0, .ref o), (1, .int (jI (↑(s.toNat)))), (2, .int (jI (rdP T (k + 1)))), (3, .int (jI (rdE T (k + 1)))), (4, .int (jI (rdG T (k + 1)))), (5, .int (jI (stx T (k + 1)))), (6, .int (jI (↑k)))] [] := by
              intro D2 M2 hRV2 hrk2
              refine sw_iinc (n := 191) F 6 (L2 := [(6, .int (jI (↑k + 1))), (0, .ref o), (1, .int (jI (↑(s.toNat)))), (2, .int (jI (rdP T (k + 1)))), (3, .int (jI (rdE T (k + 1)))), (4, .int (jI (rdG T (k + 1)))), (5, .int (jI (stx T (k + 1))))]) rfl rfl (by decide) dX4_read_188 rfl ?_
              refine sw_goto F (n := 52) dX4_read_191 (by decide) ?_
              refine sw_loc [1, 2, 3, 4, 5, 6, 0] (L2 := [(0, .ref o), (1, .int (jI (↑(s.toNat)))), (2, .int (jI (rdP T (k + 1)))), (3, .int (jI (rdE T (k + 1)))), (4, .int (jI (rdG T (k + 1)))), (5, .int (jI (stx T (k + 1)))), (6, .int (jI (↑k + 1)))]) rfl ?_
              rw [show (↑k + 1 : Int) = ↑(k + 1) by first | omega | (simp only [rdP]; (repeat' split) <;> omega) | (simp only [rdE]; (repeat' split) <;> omega) | (simp only [rdG]; (repeat' split) <;> omega)]
              exact ih52 D2 M2 (k + 1) (by first | assumption | exact up_rv hA (by omega) |>.mono (by simp)) (by first | assumption | exact rok_0) (by omega) (by omega)
            have K166 : ∀ (D2 : Nat → Nat) (M2 : Nat → Nat), (RV [4, 5] D M D2 M2) → (rok D2 M2 4 (rdN T (k + 1))) → SW x [tmO (xg x) o a (va_up z 8 (rrP s (ftI T (z 7).toNat))), aN (xg x) 0 (a 0) 2400 D2, aN (xg x) 0 (a 1) 10 M2, aL (xg x) (a 3) 12 N, aI (xg x) 0 (a 4) 12 Sc, aI (xg x) 4 (a 5) 12 Hs, aI (xg x) 2 (a 6) 24 T] 0 0 166 [(0, .ref o), (1, .int (jI (↑(s.toNat)))), (2, .int (jI (rdP T (k + 1)))), (3, .int (jI (rdE T (k + 1)))), (4, .int (jI (rdG T k))), (5, .int (jI (stx T (k + 1)))), (6, .int (jI (↑k)))] [] := by
              intro D2 M2 hRV2 hrk2
              refine sw_iload (n := 168) F 5 rfl dX4_read_166 rfl ?_
              refine sw_bipush (n := 170) F (7) (by decide) dX4_read_168 rfl ?_
              refine sw_icmp_ne (n := 173) F (by omega) (by decide) (tgt := 188) dX4_read_170 (by decide) rfl (fun c_170 => ?_) (fun c_170 => ?_)
              ·
                rw [show (rdG T k : Int) = rdG T (k + 1) by first | omega | (simp only [rdP]; (repeat' split) <;> omega) | (simp only [rdE]; (repeat' split) <;> omega) | (simp only [rdG]; (repeat' split) <;> omega)]
                exact K188 D2 M2 hRV2 (by first | assumption | (rw [show rdN T (k + 1) = rdN T k by simp only [rdN]; rw [if_neg (by omega)]]; assumption) | (rw [show rdN T (k + 1) = rdN T k * 10 ^ 1 + (T k - 48).natAbs by simp only [rdN]; rw [if_pos ⟨by omega, by omega⟩]; omega]; assumption))
              ·
                refine sw_aload_n (n := 174) F 0 (some o) rfl rfl rfl dX4_read_173 rfl ?_
                refine sw_get (n := 177) F 0 rfl (k := 6) ⟨(RX4, TX4, 50), rfl, by decide, q3805, in_X4, Or.inl rfl⟩ (v := .ref (a 6)) rfl dX4_read_174 rfl ?_
                refine sw_iload (n := 179) F 6 rfl dX4_read_177 rfl ?_
                refine sw_caloadI (n := 180) F 6 rfl (fun _ => rfl) k rfl (by omega) dX4_read_179 rfl ?_
                refine sw_bipush (n := 182) F (45) (by decide) dX4_read_180 rfl ?_
                refine sw_icmp_ne (n := 185) F (by omega) (by decide) (tgt := 188) dX4_read_182 (by decide) rfl (fun c_182 => ?_) (fun c_182 => ?_)
                ·
                  rw [show (rdG T k : Int) = rdG T (k + 1) by first | omega | (simp only [rdP]; (repeat' split) <;> omega) | (simp only [rdE]; (repeat' split) <;> omega) | (simp only [rdG]; (repeat' split) <;> omega)]
                  exact K188 D2 M2 hRV2 (by first | assumption | (rw [show rdN T (k + 1) = rdN T k by simp only [rdN]; rw [if_neg (by omega)]]; assumption) | (rw [show rdN T (k + 1) = rdN T k * 10 ^ 1 + (T k - 48).natAbs by simp only [rdN]; rw [if_pos ⟨by omega, by omega⟩]; omega]; assumption))
                ·
                  refine sw_iconst (n := 186) F (-1) (by decide) dX4_read_185 rfl ?_
                  refine sw_istore (n := 188) F (L2 := [(4, .int (jI (-1))), (0, .ref o), (1, .int (jI (↑(s.toNat)))), (2, .int (jI (rdP T (k + 1)))), (3, .int (jI (rdE T (k + 1)))), (5, .int (jI (stx T (k + 1)))), (6, .int (jI (↑k)))]) rfl (by decide) dX4_read_186 rfl ?_
                  refine sw_loc [1, 2, 3, 4, 0, 5, 6] (L2 := [(0, .ref o), (1, .int (jI (↑(s.toNat)))), (2, .int (jI (rdP T (k + 1)))), (3, .int (jI (rdE T (k + 1)))), (4, .int (jI (-1))), (5, .int (jI (stx T (k + 1)))), (6, .int (jI (↑k)))]) rfl ?_
                  rw [show (-1 : Int) = rdG T (k + 1) by first | omega | (simp only [rdP]; (repeat' split) <;> omega) | (simp only [rdE]; (repeat' split) <;> omega) | (simp only [rdG]; (repeat' split) <;> omega)]
                  exact K188 D2 M2 hRV2 (by first | assumption | (rw [show rdN T (k + 1) = rdN T k by simp only [rdN]; rw [if_neg (by omega)]]; assumption) | (rw [show rdN T (k + 1) = rdN T k * 10 ^ 1 + (T k - 48).natAbs by simp only [rdN]; rw [if_pos ⟨by omega, by omega⟩]; omega]; assumption))
            have K143 : ∀ (D2 : Nat → Nat) (M2 : Nat → Nat), (RV [4, 5] D M D2 M2) → (rok D2 M2 4 (rdN T (k + 1))) → SW x [tmO (xg x) o a (va_up z 8 (rrP s (ftI T (z 7).toNat))), aN (xg x) 0 (a 0) 2400 D2, aN (xg x) 0 (a 1) 10 M2, aL (xg x) (a 3) 12 N, aI (xg x) 0 (a 4) 12 Sc, aI (xg x) 4 (a 5) 12 Hs, aI (xg x) 2 (a 6) 24 T] 0 0 143 [(0, .ref o), (1, .int (jI (↑(s.toNat)))), (2, .int (jI (rdP T (k + 1)))), (3, .int (jI (rdE T k))), (4, .int (jI (rdG T k))), (5, .int (jI (stx T (k + 1)))), (6, .int (jI (↑k)))] [] := by
              intro D2 M2 hRV2 hrk2
              refine sw_iload (n := 145) F 5 rfl dX4_read_143 rfl ?_
              refine sw_bipush (n := 147) F (8) (by decide) dX4_read_145 rfl ?_
              refine sw_icmp_lt (n := 150) F (by omega) (by decide) (tgt := 166) dX4_read_147 (by decide) rfl (fun c_147 => ?_) (fun c_147 => ?_)
              ·
                rw [show (rdE T k : Int) = rdE T (k + 1) by first | omega | (simp only [rdP]; (repeat' split) <;> omega) | (simp only [rdE]; (repeat' split) <;> omega) | (simp only [rdG]; (repeat' split) <;> omega)]
                exact K166 D2 M2 hRV2 (by first | assumption | (rw [show rdN T (k + 1) = rdN T k by simp only [rdN]; rw [if_neg (by omega)]]; assumption) | (rw [show rdN T (k + 1) = rdN T k * 10 ^ 1 + (T k - 48).natAbs by simp only [rdN]; rw [if_pos ⟨by omega, by omega⟩]; omega]; assumption))
              ·
                refine sw_bipush (n := 152) F (10) (by decide) dX4_read_150 rfl ?_
                refine sw_iload_n (n := 153) F 3 rfl rfl dX4_read_152 rfl ?_
                refine sw_imul (n := 154) F dX4_read_153 rfl ?_
                refine sw_aload_n (n := 155) F 0 (some o) rfl rfl rfl dX4_read_154 rfl ?_
                refine sw_get (n := 158) F 0 rfl (k := 6) ⟨(RX4, TX4, 50), rfl, by decide, q3805, in_X4, Or.inl rfl⟩ (v := .ref (a 6)) rfl dX4_read_155 rfl ?_
                refine sw_iload (n := 160) F 6 rfl dX4_read_158 rfl ?_
                refine sw_caloadI (n := 161) F 6 rfl (fun _ => rfl) k rfl (by omega) dX4_read_160 rfl ?_
                refine sw_iadd (n := 162) F dX4_read_161 rfl ?_
                refine sw_bipush (n := 164) F (48) (by decide) dX4_read_162 rfl ?_
                refine sw_isub (n := 165) F dX4_read_164 rfl ?_
                refine sw_istore_n (n := 166) F (L2 := [(3, .int (jI (((10 * (rdE T k)) + (T k)) - 48))), (0, .ref o), (1, .int (jI (↑(s.toNat)))), (2, .int (jI (rdP T (k + 1)))), (4, .int (jI (rdG T k))), (5, .int (jI (stx T (k + 1)))), (6, .int (jI (↑k)))]) rfl (by decide) rfl dX4_read_165 rfl ?_
                refine sw_loc [1, 2, 3, 0, 4, 5, 6] (L2 := [(0, .ref o), (1, .int (jI (↑(s.toNat)))), (2, .int (jI (rdP T (k + 1)))), (3, .int (jI (((10 * (rdE T k)) + (T k)) - 48))), (4, .int (jI (rdG T k))), (5, .int (jI (stx T (k + 1)))), (6, .int (jI (↑k)))]) rfl ?_
                rw [show (((10 * (rdE T k)) + (T k)) - 48 : Int) = rdE T (k + 1) by first | omega | (simp only [rdP]; (repeat' split) <;> omega) | (simp only [rdE]; (repeat' split) <;> omega) | (simp only [rdG]; (repeat' split) <;> omega)]
                exact K166 D2 M2 hRV2 (by first | assumption | (rw [show rdN T (k + 1) = rdN T k by simp only [rdN]; rw [if_neg (by omega)]]; assumption) | (rw [show rdN T (k + 1) = rdN T k * 10 ^ 1 + (T k - 48).natAbs by simp only [rdN]; rw [if_pos ⟨by omega, by omega⟩]; omega]; assumption))
            refine sw_iload (n := 77) F 0 rfl dX4_read_75 rfl ?_
            refine sw_iconst (n := 78) F (2) (by decide) dX4_read_77 rfl ?_
            refine sw_icmp_eq (n := 81) F (by omega) (by decide) (tgt := 88) dX4_read_78 (by decide) rfl (fun c_78 => ?_) (fun c_78 => ?_)
            ·
              have hdg := nx_dig (s := stx T k) (c := T k) (by rw [← stx_s]; omega)
              refine sw_aload_n (n := 89) F 1 (some o) rfl rfl rfl dX4_read_88 rfl ?_
              refine sw_get (n := 92) F 0 rfl (k := 6) ⟨(RX4, TX4, 50), rfl, by decide, q3805, in_X4, Or.inl rfl⟩ (v := .ref (a 6)) rfl dX4_read_89 rfl ?_
              refine sw_iload (n := 94) F 6 rfl dX4_read_92 rfl ?_
              refine sw_caloadI (n := 95) F 6 rfl (fun _ => rfl) k rfl (by omega) dX4_read_94 rfl ?_
              refine sw_bipush (n := 97) F (46) (by decide) dX4_read_95 rfl ?_
              refine sw_icmp_eq (n := 100) F (by omega) (by decide) (tgt := 143) dX4_read_97 (by decide) rfl (fun c_97 => ?_) (fun c_97 => ?_)
              ·
                refine sw_loc [1, 2, 3, 4, 5, 0, 6] (L2 := [(0, .ref o), (1, .int (jI (↑(s.toNat)))), (2, .int (jI (rdP T k))), (3, .int (jI (rdE T k))), (4, .int (jI (rdG T k))), (5, .int (jI (stx T (k + 1)))), (6, .int (jI (↑k)))]) rfl ?_
                rw [show (rdP T k : Int) = rdP T (k + 1) by first | omega | (simp only [rdP]; (repeat' split) <;> omega) | (simp only [rdE]; (repeat' split) <;> omega) | (simp only [rdG]; (repeat' split) <;> omega)]
                exact K143 D1 M1 hRV (by first | assumption | (rw [show rdN T (k + 1) = rdN T k by simp only [rdN]; rw [if_neg (by omega)]]; assumption) | (rw [show rdN T (k + 1) = rdN T k * 10 ^ 1 + (T k - 48).natAbs by simp only [rdN]; rw [if_pos ⟨by omega, by omega⟩]; omega]; assumption))
              ·
                have hnl := rd_big (rdN_lt T k) (by omega)
                refine sw_aload_n (n := 101) F 1 (some o) rfl rfl rfl dX4_read_100 rfl ?_
                refine sw_iconst (n := 102) F (4) (by decide) dX4_read_101 rfl ?_
                refine sw_iconst (n := 103) F (1) (by decide) dX4_read_102 rfl ?_
                refine sw_callV (n := 106) F (ct_X4_shifts (g := xg x) (l := xl x) o a (va_up z 8 (rrP s (ftI T (z 7).toNat))) D1 M1 4 1 (rdN T k) (by first | omega | assumption) (by first | assumption | omega) hrk (by first | omega | assumption) (by show rdN T k * 10 ^ 1 < big; omega)) (rcv_ob F 0 (ci := 3) rfl rfl) q4000 q4002 qs70 q120 q4003 nd_X4_shifts rfl (by decide) [0, 1, 2, 3, 4, 5, 6] rfl [aL (xg x) (a 3) 12 N, aI (xg x) 0 (a 4) 12 Sc, aI (xg x) 4 (a 5) 12 Hs, aI (xg x) 2 (a 6) 24 T] rfl 0 0 ⟨by omega, by omega⟩ [] rfl (Nat.le_of_ble_eq_true rfl) dX4_read_103 rfl (fun _ _ h => h.elim) (fun v Ws h => ?_)
                obtain ⟨D1_10, M1_11, rfl, hU_12, rfl⟩ := h
                show SW x [tmO (xg x) o a (va_up z 8 (rrP s (ftI T (z 7).toNat))), aN (xg x) 0 (a 0) 2400 D1_10, aN (xg x) 0 (a 1) 10 M1_11, aL (xg x) (a 3) 12 N, aI (xg x) 0 (a 4) 12 Sc, aI (xg x) 4 (a 5) 12 Hs, aI (xg x) 2 (a 6) 24 T] _ _ _ _ []
                have a_13 := hU_12.1
                have r_14 : rok D1_10 M1_11 4 ((rdN T k) * 10 ^ 1) := hU_12.2.2.2
                have v_15 := (hRV.mono (T := [4, 5]) (by simp)).trans hU_12.rv (by simp)
                refine sw_aload_n (n := 107) F 1 (some o) rfl rfl rfl dX4_read_106 rfl ?_
                refine sw_iconst (n := 108) F (5) (by decide) dX4_read_107 rfl ?_
                refine sw_aload_n (n := 109) F 1 (some o) rfl rfl rfl dX4_read_108 rfl ?_
                refine sw_get (n := 112) F 0 rfl (k := 6) ⟨(RX4, TX4, 50), rfl, by decide, q3805, in_X4, Or.inl rfl⟩ (v := .ref (a 6)) rfl dX4_read_109 rfl ?_
                refine sw_iload (n := 114) F 6 rfl dX4_read_112 rfl ?_
                refine sw_caloadI (n := 115) F 6 rfl (fun _ => rfl) k rfl (by omega) dX4_read_114 rfl ?_
                refine sw_bipush (n := 117) F (48) (by decide) dX4_read_115 rfl ?_
                refine sw_isub (n := 118) F dX4_read_117 rfl ?_
                refine sw_i2l (n := 119) F (by omega) dX4_read_118 rfl ?_
                refine sw_callV (n := 122) F (ct_X4_lets (g := xg x) (l := xl x) o a (va_up z 8 (rrP s (ftI T (z 7).toNat))) D1_10 M1_11 5 ((T k) - 48) (by first | omega | assumption) a_13 (by first | omega | assumption)) (rcv_ob F 0 (ci := 3) rfl rfl) q4004 q4006 qs71 q120 q4007 nd_X4_lets rfl (by decide) [0, 1, 2, 3, 4, 5, 6] rfl [aL (xg x) (a 3) 12 N, aI (xg x) 0 (a 4) 12 Sc, aI (xg x) 4 (a 5) 12 Hs, aI (xg x) 2 (a 6) 24 T] rfl 0 0 ⟨by omega, by omega⟩ [] rfl (Nat.le_of_ble_eq_true rfl) dX4_read_119 rfl (fun _ _ h => h.elim) (fun v Ws h => ?_)
                obtain ⟨D1_16, M1_17, rfl, hU_18, rfl⟩ := h
                show SW x [tmO (xg x) o a (va_up z 8 (rrP s (ftI T (z 7).toNat))), aN (xg x) 0 (a 0) 2400 D1_16, aN (xg x) 0 (a 1) 10 M1_17, aL (xg x) (a 3) 12 N, aI (xg x) 0 (a 4) 12 Sc, aI (xg x) 4 (a 5) 12 Hs, aI (xg x) 2 (a 6) 24 T] _ _ _ _ []
                have a_19 := hU_18.1
                have r_20 : rok D1_16 M1_17 5 (((T k) - 48).natAbs) := hU_18.2.2.2
                have k_21 := hU_18.keep (r := 4) (by first | omega | simp | (simp; omega)) r_14
                have v_22 := (v_15.mono (T := [4, 5]) (by simp)).trans hU_18.rv (by simp)
                refine sw_aload_n (n := 123) F 1 (some o) rfl rfl rfl dX4_read_122 rfl ?_
                refine sw_iconst (n := 124) F (4) (by decide) dX4_read_123 rfl ?_
                refine sw_iconst (n := 125) F (5) (by decide) dX4_read_124 rfl ?_
                refine sw_callV (n := 128) F (ct_X4_plus (g := xg x) (l := xl x) o a (va_up z 8 (rrP s (ftI T (z 7).toNat))) D1_16 M1_17 4 5 ((rdN T k) * 10 ^ 1) (((T k) - 48).natAbs) (by first | omega | assumption) (by first | omega | assumption) (by decide) a_19 k_21 r_20 (by omega)) (rcv_ob F 0 (ci := 3) rfl rfl) q4012 q4014 qs73 q120 q4015 nd_X4_plus rfl (by decide) [0, 1, 2, 3, 4, 5, 6] rfl [aL (xg x) (a 3) 12 N, aI (xg x) 0 (a 4) 12 Sc, aI (xg x) 4 (a 5) 12 Hs, aI (xg x) 2 (a 6) 24 T] rfl 0 0 ⟨by omega, by omega⟩ [] rfl (Nat.le_of_ble_eq_true rfl) dX4_read_125 rfl (fun _ _ h => h.elim) (fun v Ws h => ?_)
                obtain ⟨D1_23, M1_24, rfl, hU_25, rfl⟩ := h
                show SW x [tmO (xg x) o a (va_up z 8 (rrP s (ftI T (z 7).toNat))), aN (xg x) 0 (a 0) 2400 D1_23, aN (xg x) 0 (a 1) 10 M1_24, aL (xg x) (a 3) 12 N, aI (xg x) 0 (a 4) 12 Sc, aI (xg x) 4 (a 5) 12 Hs, aI (xg x) 2 (a 6) 24 T] _ _ _ _ []
                have a_26 := hU_25.1
                have r_27 : rok D1_23 M1_24 4 (((rdN T k) * 10 ^ 1) + (((T k) - 48).natAbs)) := hU_25.2.2.2
                have k_28 := hU_25.keep (r := 5) (by first | omega | simp | (simp; omega)) r_20
                have v_29 := (v_22.mono (T := [4, 5]) (by simp)).trans hU_25.rv (by simp)
                refine sw_iload_n (n := 129) F 3 rfl rfl dX4_read_128 rfl ?_
                refine sw_iload (n := 131) F 0 rfl dX4_read_129 rfl ?_
                refine sw_bipush (n := 133) F (6) (by decide) dX4_read_131 rfl ?_
                refine sw_icmp_ne (n := 136) F (by omega) (by decide) (tgt := 140) dX4_read_133 (by decide) rfl (fun c_133 => ?_) (fun c_133 => ?_)
                ·
                  refine sw_iconst (n := 141) F (0) (by decide) dX4_read_140 rfl ?_
                  refine sw_iadd (n := 142) F dX4_read_141 rfl ?_
                  refine sw_istore_n (n := 143) F (L2 := [(2, .int (jI ((rdP T k) + 0))), (5, .int (jI (stx T (k + 1)))), (0, .ref o), (1, .int (jI (↑(s.toNat)))), (3, .int (jI (rdE T k))), (4, .int (jI (rdG T k))), (6, .int (jI (↑k)))]) rfl (by decide) rfl dX4_read_142 rfl ?_
                  refine sw_loc [2, 3, 0, 4, 5, 1, 6] (L2 := [(0, .ref o), (1, .int (jI (↑(s.toNat)))), (2, .int (jI ((rdP T k) + 0))), (3, .int (jI (rdE T k))), (4, .int (jI (rdG T k))), (5, .int (jI (stx T (k + 1)))), (6, .int (jI (↑k)))]) rfl ?_
                  rw [show ((rdP T k) + 0 : Int) = rdP T (k + 1) by first | omega | (simp only [rdP]; (repeat' split) <;> omega) | (simp only [rdE]; (repeat' split) <;> omega) | (simp only [rdG]; (repeat' split) <;> omega)]
                  exact K143 D1_23 M1_24 v_29 (by first | assumption | (rw [show rdN T (k + 1) = rdN T k by simp only [rdN]; rw [if_neg (by omega)]]; assumption) | (rw [show rdN T (k + 1) = rdN T k * 10 ^ 1 + (T k - 48).natAbs by simp only [rdN]; rw [if_pos ⟨by omega, by omega⟩]; omega]; assumption))
                ·
                  refine sw_iconst (n := 137) F (1) (by decide) dX4_read_136 rfl ?_
                  refine sw_goto F (n := 141) dX4_read_137 (by decide) ?_
                  refine sw_iadd (n := 142) F dX4_read_141 rfl ?_
                  refine sw_istore_n (n := 143) F (L2 := [(2, .int (jI ((rdP T k) + 1))), (5, .int (jI (stx T (k + 1)))), (0, .ref o), (1, .int (jI (↑(s.toNat)))), (3, .int (jI (rdE T k))), (4, .int (jI (rdG T k))), (6, .int (jI (↑k)))]) rfl (by decide) rfl dX4_read_142 rfl ?_
                  refine sw_loc [2, 3, 0, 4, 5, 1, 6] (L2 := [(0, .ref o), (1, .int (jI (↑(s.toNat)))), (2, .int (jI ((rdP T k) + 1))), (3, .int (jI (rdE T k))), (4, .int (jI (rdG T k))), (5, .int (jI (stx T (k + 1)))), (6, .int (jI (↑k)))]) rfl ?_
                  rw [show ((rdP T k) + 1 : Int) = rdP T (k + 1) by first | omega | (simp only [rdP]; (repeat' split) <;> omega) | (simp only [rdE]; (repeat' split) <;> omega) | (simp only [rdG]; (repeat' split) <;> omega)]
                  exact K143 D1_23 M1_24 v_29 (by first | assumption | (rw [show rdN T (k + 1) = rdN T k by simp only [rdN]; rw [if_neg (by omega)]]; assumption) | (rw [show rdN T (k + 1) = rdN T k * 10 ^ 1 + (T k - 48).natAbs by simp only [rdN]; rw [if_pos ⟨by omega, by omega⟩]; omega]; assumption))
            ·
              refine sw_iload (n := 83) F 0 rfl dX4_read_81 rfl ?_
              refine sw_bipush (n := 85) F (6) (by decide) dX4_read_83 rfl ?_
              refine sw_icmp_ne (n := 88) F (by omega) (by decide) (tgt := 143) dX4_read_85 (by decide) rfl (fun c_85 => ?_) (fun c_85 => ?_)
              ·
                refine sw_loc [1, 2, 3, 4, 5, 0, 6] (L2 := [(0, .ref o), (1, .int (jI (↑(s.toNat)))), (2, .int (jI (rdP T k))), (3, .int (jI (rdE T k))), (4, .int (jI (rdG T k))), (5, .int (jI (stx T (k + 1)))), (6, .int (jI (↑k)))]) rfl ?_
                rw [show (rdP T k : Int) = rdP T (k + 1) by first | omega | (simp only [rdP]; (repeat' split) <;> omega) | (simp only [rdE]; (repeat' split) <;> omega) | (simp only [rdG]; (repeat' split) <;> omega)]
                exact K143 D1 M1 hRV (by first | assumption | (rw [show rdN T (k + 1) = rdN T k by simp only [rdN]; rw [if_neg (by omega)]]; assumption) | (rw [show rdN T (k + 1) = rdN T k * 10 ^ 1 + (T k - 48).natAbs by simp only [rdN]; rw [if_pos ⟨by omega, by omega⟩]; omega]; assumption))
              ·
                have hdg := nx_dig (s := stx T k) (c := T k) (by rw [← stx_s]; omega)
                refine sw_aload_n (n := 89) F 1 (some o) rfl rfl rfl dX4_read_88 rfl ?_
                refine sw_get (n := 92) F 0 rfl (k := 6) ⟨(RX4, TX4, 50), rfl, by decide, q3805, in_X4, Or.inl rfl⟩ (v := .ref (a 6)) rfl dX4_read_89 rfl ?_
                refine sw_iload (n := 94) F 6 rfl dX4_read_92 rfl ?_
                refine sw_caloadI (n := 95) F 6 rfl (fun _ => rfl) k rfl (by omega) dX4_read_94 rfl ?_
                refine sw_bipush (n := 97) F (46) (by decide) dX4_read_95 rfl ?_
                refine sw_icmp_eq (n := 100) F (by omega) (by decide) (tgt := 143) dX4_read_97 (by decide) rfl (fun c_97 => ?_) (fun c_97 => ?_)
                ·
                  refine sw_loc [1, 2, 3, 4, 5, 0, 6] (L2 := [(0, .ref o), (1, .int (jI (↑(s.toNat)))), (2, .int (jI (rdP T k))), (3, .int (jI (rdE T k))), (4, .int (jI (rdG T k))), (5, .int (jI (stx T (k + 1)))), (6, .int (jI (↑k)))]) rfl ?_
                  rw [show (rdP T k : Int) = rdP T (k + 1) by first | omega | (simp only [rdP]; (repeat' split) <;> omega) | (simp only [rdE]; (repeat' split) <;> omega) | (simp only [rdG]; (repeat' split) <;> omega)]
                  exact K143 D1 M1 hRV (by first | assumption | (rw [show rdN T (k + 1) = rdN T k by simp only [rdN]; rw [if_neg (by omega)]]; assumption) | (rw [show rdN T (k + 1) = rdN T k * 10 ^ 1 + (T k - 48).natAbs by simp only [rdN]; rw [if_pos ⟨by omega, by omega⟩]; omega]; assumption))
                ·
                  have hnl := rd_big (rdN_lt T k) (by omega)
                  refine sw_aload_n (n := 101) F 1 (some o) rfl rfl rfl dX4_read_100 rfl ?_
                  refine sw_iconst (n := 102) F (4) (by decide) dX4_read_101 rfl ?_
                  refine sw_iconst (n := 103) F (1) (by decide) dX4_read_102 rfl ?_
                  refine sw_callV (n := 106) F (ct_X4_shifts (g := xg x) (l := xl x) o a (va_up z 8 (rrP s (ftI T (z 7).toNat))) D1 M1 4 1 (rdN T k) (by first | omega | assumption) (by first | assumption | omega) hrk (by first | omega | assumption) (by show rdN T k * 10 ^ 1 < big; omega)) (rcv_ob F 0 (ci := 3) rfl rfl) q4000 q4002 qs70 q120 q4003 nd_X4_shifts rfl (by decide) [0, 1, 2, 3, 4, 5, 6] rfl [aL (xg x) (a 3) 12 N, aI (xg x) 0 (a 4) 12 Sc, aI (xg x) 4 (a 5) 12 Hs, aI (xg x) 2 (a 6) 24 T] rfl 0 0 ⟨by omega, by omega⟩ [] rfl (Nat.le_of_ble_eq_true rfl) dX4_read_103 rfl (fun _ _ h => h.elim) (fun v Ws h => ?_)
                  obtain ⟨D1_30, M1_31, rfl, hU_32, rfl⟩ := h
                  show SW x [tmO (xg x) o a (va_up z 8 (rrP s (ftI T (z 7).toNat))), aN (xg x) 0 (a 0) 2400 D1_30, aN (xg x) 0 (a 1) 10 M1_31, aL (xg x) (a 3) 12 N, aI (xg x) 0 (a 4) 12 Sc, aI (xg x) 4 (a 5) 12 Hs, aI (xg x) 2 (a 6) 24 T] _ _ _ _ []
                  have a_33 := hU_32.1
                  have r_34 : rok D1_30 M1_31 4 ((rdN T k) * 10 ^ 1) := hU_32.2.2.2
                  have v_35 := (hRV.mono (T := [4, 5]) (by simp)).trans hU_32.rv (by simp)
                  refine sw_aload_n (n := 107) F 1 (some o) rfl rfl rfl dX4_read_106 rfl ?_
                  refine sw_iconst (n := 108) F (5) (by decide) dX4_read_107 rfl ?_
                  refine sw_aload_n (n := 109) F 1 (some o) rfl rfl rfl dX4_read_108 rfl ?_
                  refine sw_get (n := 112) F 0 rfl (k := 6) ⟨(RX4, TX4, 50), rfl, by decide, q3805, in_X4, Or.inl rfl⟩ (v := .ref (a 6)) rfl dX4_read_109 rfl ?_
                  refine sw_iload (n := 114) F 6 rfl dX4_read_112 rfl ?_
                  refine sw_caloadI (n := 115) F 6 rfl (fun _ => rfl) k rfl (by omega) dX4_read_114 rfl ?_
                  refine sw_bipush (n := 117) F (48) (by decide) dX4_read_115 rfl ?_
                  refine sw_isub (n := 118) F dX4_read_117 rfl ?_
                  refine sw_i2l (n := 119) F (by omega) dX4_read_118 rfl ?_
                  refine sw_callV (n := 122) F (ct_X4_lets (g := xg x) (l := xl x) o a (va_up z 8 (rrP s (ftI T (z 7).toNat))) D1_30 M1_31 5 ((T k) - 48) (by first | omega | assumption) a_33 (by first | omega | assumption)) (rcv_ob F 0 (ci := 3) rfl rfl) q4004 q4006 qs71 q120 q4007 nd_X4_lets rfl (by decide) [0, 1, 2, 3, 4, 5, 6] rfl [aL (xg x) (a 3) 12 N, aI (xg x) 0 (a 4) 12 Sc, aI (xg x) 4 (a 5) 12 Hs, aI (xg x) 2 (a 6) 24 T] rfl 0 0 ⟨by omega, by omega⟩ [] rfl (Nat.le_of_ble_eq_true rfl) dX4_read_119 rfl (fun _ _ h => h.elim) (fun v Ws h => ?_)
                  obtain ⟨D1_36, M1_37, rfl, hU_38, rfl⟩ := h
                  show SW x [tmO (xg x) o a (va_up z 8 (rrP s (ftI T (z 7).toNat))), aN (xg x) 0 (a 0) 2400 D1_36, aN (xg x) 0 (a 1) 10 M1_37, aL (xg x) (a 3) 12 N, aI (xg x) 0 (a 4) 12 Sc, aI (xg x) 4 (a 5) 12 Hs, aI (xg x) 2 (a 6) 24 T] _ _ _ _ []
                  have a_39 := hU_38.1
                  have r_40 : rok D1_36 M1_37 5 (((T k) - 48).natAbs) := hU_38.2.2.2
                  have k_41 := hU_38.keep (r := 4) (by first | omega | simp | (simp; omega)) r_34
                  have v_42 := (v_35.mono (T := [4, 5]) (by simp)).trans hU_38.rv (by simp)
                  refine sw_aload_n (n := 123) F 1 (some o) rfl rfl rfl dX4_read_122 rfl ?_
                  refine sw_iconst (n := 124) F (4) (by decide) dX4_read_123 rfl ?_
                  refine sw_iconst (n := 125) F (5) (by decide) dX4_read_124 rfl ?_
                  refine sw_callV (n := 128) F (ct_X4_plus (g := xg x) (l := xl x) o a (va_up z 8 (rrP s (ftI T (z 7).toNat))) D1_36 M1_37 4 5 ((rdN T k) * 10 ^ 1) (((T k) - 48).natAbs) (by first | omega | assumption) (by first | omega | assumption) (by decide) a_39 k_41 r_40 (by omega)) (rcv_ob F 0 (ci := 3) rfl rfl) q4012 q4014 qs73 q120 q4015 nd_X4_plus rfl (by decide) [0, 1, 2, 3, 4, 5, 6] rfl [aL (xg x) (a 3) 12 N, aI (xg x) 0 (a 4) 12 Sc, aI (xg x) 4 (a 5) 12 Hs, aI (xg x) 2 (a 6) 24 T] rfl 0 0 ⟨by omega, by omega⟩ [] rfl (Nat.le_of_ble_eq_true rfl) dX4_read_125 rfl (fun _ _ h => h.elim) (fun v Ws h => ?_)
                  obtain ⟨D1_43, M1_44, rfl, hU_45, rfl⟩ := h
                  show SW x [tmO (xg x) o a (va_up z 8 (rrP s (ftI T (z 7).toNat))), aN (xg x) 0 (a 0) 2400 D1_43, aN (xg x) 0 (a 1) 10 M1_44, aL (xg x) (a 3) 12 N, aI (xg x) 0 (a 4) 12 Sc, aI (xg x) 4 (a 5) 12 Hs, aI (xg x) 2 (a 6) 24 T] _ _ _ _ []
                  have a_46 := hU_45.1
                  have r_47 : rok D1_43 M1_44 4 (((rdN T k) * 10 ^ 1) + (((T k) - 48).natAbs)) := hU_45.2.2.2
                  have k_48 := hU_45.keep (r := 5) (by first | omega | simp | (simp; omega)) r_40
                  have v_49 := (v_42.mono (T := [4, 5]) (by simp)).trans hU_45.rv (by simp)
                  refine sw_iload_n (n := 129) F 3 rfl rfl dX4_read_128 rfl ?_
                  refine sw_iload (n := 131) F 0 rfl dX4_read_129 rfl ?_
                  refine sw_bipush (n := 133) F (6) (by decide) dX4_read_131 rfl ?_
                  refine sw_icmp_ne (n := 136) F (by omega) (by decide) (tgt := 140) dX4_read_133 (by decide) rfl (fun c_133 => ?_) (fun c_133 => ?_)
                  ·
                    refine sw_iconst (n := 141) F (0) (by decide) dX4_read_140 rfl ?_
                    refine sw_iadd (n := 142) F dX4_read_141 rfl ?_
                    refine sw_istore_n (n := 143) F (L2 := [(2, .int (jI ((rdP T k) + 0))), (5, .int (jI (stx T (k + 1)))), (0, .ref o), (1, .int (jI (↑(s.toNat)))), (3, .int (jI (rdE T k))), (4, .int (jI (rdG T k))), (6, .int (jI (↑k)))]) rfl (by decide) rfl dX4_read_142 rfl ?_
                    refine sw_loc [2, 3, 0, 4, 5, 1, 6] (L2 := [(0, .ref o), (1, .int (jI (↑(s.toNat)))), (2, .int (jI ((rdP T k) + 0))), (3, .int (jI (rdE T k))), (4, .int (jI (rdG T k))), (5, .int (jI (stx T (k + 1)))), (6, .int (jI (↑k)))]) rfl ?_
                    rw [show ((rdP T k) + 0 : Int) = rdP T (k + 1) by first | omega | (simp only [rdP]; (repeat' split) <;> omega) | (simp only [rdE]; (repeat' split) <;> omega) | (simp only [rdG]; (repeat' split) <;> omega)]
                    exact K143 D1_43 M1_44 v_49 (by first | assumption | (rw [show rdN T (k + 1) = rdN T k by simp only [rdN]; rw [if_neg (by omega)]]; assumption) | (rw [show rdN T (k + 1) = rdN T k * 10 ^ 1 + (T k - 48).natAbs by simp only [rdN]; rw [if_pos ⟨by omega, by omega⟩]; omega]; assumption))
                  ·
                    refine sw_iconst (n := 137) F (1) (by decide) dX4_read_136 rfl ?_
                    refine sw_goto F (n := 141) dX4_read_137 (by decide) ?_
                    refine sw_iadd (n := 142) F dX4_read_141 rfl ?_
                    refine sw_istore_n (n := 143) F (L2 := [(2, .int (jI ((rdP T k) + 1))), (5, .int (jI (stx T (k + 1)))), (0, .ref o), (1, .int (jI (↑(s.toNat)))), (3, .int (jI (rdE T k))), (4, .int (jI (rdG T k))), (6, .int (jI (↑k)))]) rfl (by decide) rfl dX4_read_142 rfl ?_
                    refine sw_loc [2, 3, 0, 4, 5, 1, 6] (L2 := [(0, .ref o), (1, .int (jI (↑(s.toNat)))), (2, .int (jI ((rdP T k) + 1))), (3, .int (jI (rdE T k))), (4, .int (jI (rdG T k))), (5, .int (jI (stx T (k + 1)))), (6, .int (jI (↑k)))]) rfl ?_
                    rw [show ((rdP T k) + 1 : Int) = rdP T (k + 1) by first | omega | (simp only [rdP]; (repeat' split) <;> omega) | (simp only [rdE]; (repeat' split) <;> omega) | (simp only [rdG]; (repeat' split) <;> omega)]
                    exact K143 D1_43 M1_44 v_49 (by first | assumption | (rw [show rdN T (k + 1) = rdN T k by simp only [rdN]; rw [if_neg (by omega)]]; assumption) | (rw [show rdN T (k + 1) = rdN T k * 10 ^ 1 + (T k - 48).natAbs by simp only [rdN]; rw [if_pos ⟨by omega, by omega⟩]; omega]; assumption))
      refine sw_loc [5, 6, 4, 3, 2, 1, 0] (L2 := [(0, .ref o), (1, .int (jI (↑(s.toNat)))), (2, .int (jI 0)), (3, .int (jI 0)), (4, .int (jI 1)), (5, .int (jI 0)), (6, .int (jI 0))]) rfl ?_
      show SW x _ _ _ _ [(0, .ref o), (1, .int (jI (↑(s.toNat)))), (2, .int (jI (rdP T 0))), (3, .int (jI (rdE T 0))), (4, .int (jI (rdG T 0))), (5, .int (jI (stx T 0))), (6, .int (jI 0))] _
      exact K52 _ D (va_up M 4 0) 0 (by exact (up_rv hA (by omega)).mono (by simp)) (by exact rok_0) (by omega) (Nat.lt_succ_self _)
    ·
      refine sw_iconst (n := 31) F (0) (by decide) dX4_read_30 rfl ?_
      have e0 : rrP s (ftI T (z 7).toNat) ≠ 0 := by omega
      have e : cd2 3 (rrP s (ftI T (z 7).toNat)) (laI (rdN T (z 7).toNat) (rdX T (z 7).toNat)) = rrP s (ftI T (z 7).toNat) := cd2_n e0
      exact sw_iret F _ rfl (by first | rfl | exact jI_nz (by omega) | exact jI_nc (by omega)) dX4_read_31 (by rw [hPo]; exact ⟨D, M, (by first | rw [e, if0_n e0] | (rw [e]; exact congrArg _ (congrArg _ (if0_n e0)))), (by exact (RV.rf hA).mono (S := []) (by simp)), (by rw [e]; simp only [up0_n e0, up_88])⟩)
  refine sw_iload_n (n := 2) F 1 rfl rfl dX4_read_1 rfl ?_
  refine sw_callS (n := 5) F (ct_X4_isShelf (g := xg x) (l := xl x) s (by omega)) q3959 q3960 q120 q3961 nd_X4_isShelf rfl (by decide) [0, 1, 2, 3, 4, 5, 6] rfl [tmO (xg x) o a z, aN (xg x) 0 (a 0) 2400 D, aN (xg x) 0 (a 1) 10 M, aL (xg x) (a 3) 12 N, aI (xg x) 0 (a 4) 12 Sc, aI (xg x) 4 (a 5) 12 Hs, aI (xg x) 2 (a 6) 24 T] rfl 0 0 ⟨by omega, by omega⟩ [.ref o] rfl (Nat.le_of_ble_eq_true rfl) dX4_read_2 rfl (fun _ _ h => h.elim) (fun v Ws h => ?_)
  obtain ⟨rfl, hs_50, rfl⟩ := h
  show SW x [tmO (xg x) o a z, aN (xg x) 0 (a 0) 2400 D, aN (xg x) 0 (a 1) 10 M, aL (xg x) (a 3) 12 N, aI (xg x) 0 (a 4) 12 Sc, aI (xg x) 4 (a 5) 12 Hs, aI (xg x) 2 (a 6) 24 T] _ _ _ _ [.int (jI (inI s 0 11)), .ref o]
  refine sw_if_ne (n := 8) F (by omega) (tgt := 12) dX4_read_5 (by decide) rfl (fun c_5 => ?_) (fun c_5 => ?_)
  ·
    refine sw_aload_n (n := 13) F 0 (some o) rfl rfl rfl dX4_read_12 rfl ?_
    refine sw_callV (n := 16) F (ct_X4_faultOf (g := xg x) (l := xl x) o a z T hT hz7) (rcv_ob F 0 (ci := 3) rfl rfl) q3989 q3991 qs69 q120 q3992 nd_X4_faultOf rfl (by decide) [0, 6, 1, 2, 3, 4, 5] rfl [aN (xg x) 0 (a 0) 2400 D, aN (xg x) 0 (a 1) 10 M, aL (xg x) (a 3) 12 N, aI (xg x) 0 (a 4) 12 Sc, aI (xg x) 4 (a 5) 12 Hs] rfl 0 0 ⟨by omega, by omega⟩ [.ref o] rfl (Nat.le_of_ble_eq_true rfl) dX4_read_13 rfl (fun _ _ h => h.elim) (fun v Ws h => ?_)
    obtain ⟨rfl, rfl⟩ := h
    show SW x [tmO (xg x) o a z, aI (xg x) 2 (a 6) 24 T, aN (xg x) 0 (a 0) 2400 D, aN (xg x) 0 (a 1) 10 M, aL (xg x) (a 3) 12 N, aI (xg x) 0 (a 4) 12 Sc, aI (xg x) 4 (a 5) 12 Hs] _ _ _ _ [.int (jI (ftI T (z 7).toNat)), .ref o]
    have hft := ftI_rng T (z 7).toNat
    refine sw_if_lt (n := 19) F (by omega) (tgt := 23) dX4_read_16 (by decide) rfl (fun c_16 => ?_) (fun c_16 => ?_)
    ·
      refine sw_iconst (n := 24) F (0) (by decide) dX4_read_23 rfl ?_
      refine sw_perm [0, 2, 3, 4, 5, 6, 1] rfl [tmO (xg x) o a z, aN (xg x) 0 (a 0) 2400 D, aN (xg x) 0 (a 1) 10 M, aL (xg x) (a 3) 12 N, aI (xg x) 0 (a 4) 12 Sc, aI (xg x) 4 (a 5) 12 Hs, aI (xg x) 2 (a 6) 24 T] rfl ?_
      exact K24 0 (by unfold rrP; (repeat' split) <;> omega)
    ·
      refine sw_iconst (n := 20) F (2) (by decide) dX4_read_19 rfl ?_
      refine sw_goto F (n := 24) dX4_read_20 (by decide) ?_
      refine sw_perm [0, 2, 3, 4, 5, 6, 1] rfl [tmO (xg x) o a z, aN (xg x) 0 (a 0) 2400 D, aN (xg x) 0 (a 1) 10 M, aL (xg x) (a 3) 12 N, aI (xg x) 0 (a 4) 12 Sc, aI (xg x) 4 (a 5) 12 Hs, aI (xg x) 2 (a 6) 24 T] rfl ?_
      exact K24 2 (by unfold rrP; (repeat' split) <;> omega)
  ·
    refine sw_iconst (n := 9) F (1) (by decide) dX4_read_8 rfl ?_
    refine sw_goto F (n := 24) dX4_read_9 (by decide) ?_
    exact K24 1 (by unfold rrP; (repeat' split) <;> omega)
