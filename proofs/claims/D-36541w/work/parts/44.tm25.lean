def paQ (Md Cu : Nat → Int) (i : Nat) (of pt b : Int) : Nat := rnd (Md (Cu i).toNat) 0 (of.natAbs * pt.natAbs) b.natAbs
def paZ (Md Cu : Nat → Int) (i : Nat) (of pt b z : Int) : Int := rfz (Md (Cu i).toNat) (of.natAbs * pt.natAbs) b.natAbs z
theorem rnd_le2 {m neg : Int} {u v : Nat} (h : neg = 0 ∨ neg = 1) : rnd m neg u v ≤ u / v + 1 := by
  unfold rnd
  have h1 := upI_rng (m := m) (q := u / v) (r := u % v) (v := v) h
  split <;> omega
theorem paQ_le {Md Cu : Nat → Int} {i : Nat} {of pt b : Int} {x y : Nat} (h1 : of.natAbs ≤ x) (h2 : pt.natAbs ≤ y) : paQ Md Cu i of pt b ≤ x * y / b.natAbs + 1 := by
  have := rnd_le2 (m := Md (Cu i).toNat) (neg := 0) (u := of.natAbs * pt.natAbs) (v := b.natAbs) (Or.inl rfl)
  have h3 : of.natAbs * pt.natAbs / b.natAbs ≤ x * y / b.natAbs := Nat.div_le_div_right (Nat.mul_le_mul h1 h2)
  unfold paQ
  omega
theorem paQ_n {Md Cu Nt : Nat → Int} {i k : Nat} (h : BD 0 10000000000000000 Nt) : paQ Md Cu i (Nt k) 1 1000000 ≤ 10000000001 := by
  have h1 := h k
  exact paQ_le (x := 10000000000000000) (y := 1) (by omega) (by decide)
theorem paZ_01 {Md Cu : Nat → Int} {i : Nat} {of pt b z : Int} (h : z = 0 ∨ z = 1) : paZ Md Cu i of pt b z = 0 ∨ paZ Md Cu i of pt b z = 1 := rfz_zz h
theorem l36 {x y : Nat} (h : x < 10 ^ 18) (h2 : y < 10 ^ 18) : x * y < 10 ^ 110 := by
  have h1 : x * y ≤ 10 ^ 18 * 10 ^ 18 := Nat.mul_le_mul (Nat.le_of_lt h) (Nat.le_of_lt h2)
  have h3 : 10 ^ 18 * 10 ^ 18 < 10 ^ 110 := Nat.lt_of_succ_le (Nat.le_of_ble_eq_true rfl)
  omega
def nsE (Nt : Nat → Int) (i : Nat) : Nat → Int
  | 0 => 0
  | k + 1 => nsE Nt i k + Nt (12 * i + k)
def nsS (Md Cu Nt : Nat → Int) (i : Nat) (b : Int) : Nat → Int
  | 0 => 0
  | k + 1 => nsS Md Cu Nt i b k + (if b = 0 then 0 else (paQ Md Cu i (Nt (12 * i + k)) 1 1000000 : Int))
def nsZ (Md Cu Nt : Nat → Int) (i : Nat) (b z : Int) : Nat → Int
  | 0 => z
  | k + 1 => if b = 0 then nsZ Md Cu Nt i b z k else paZ Md Cu i (Nt (12 * i + k)) 1 1000000 (nsZ Md Cu Nt i b z k)
def ntV (Md Cu Nt : Nat → Int) (i : Nat) (b : Int) (n : Nat) : Int := if b = 0 then (paQ Md Cu i (nsE Nt i n) 1 1000000 : Int) else nsS Md Cu Nt i b n
def ntZ (Md Cu Nt : Nat → Int) (i : Nat) (b z : Int) (n : Nat) : Int := if b = 0 then paZ Md Cu i (nsE Nt i n) 1 1000000 (nsZ Md Cu Nt i b z n) else nsZ Md Cu Nt i b z n
theorem nsE_rng {Nt : Nat → Int} {i : Nat} (h : BD 0 10000000000000000 Nt) : ∀ k : Nat, 0 ≤ nsE Nt i k ∧ nsE Nt i k ≤ 10000000000000000 * k := by
  intro k
  induction k with
  | zero => show 0 ≤ (0 : Int) ∧ (0 : Int) ≤ _; omega
  | succ k ih => have := h (12 * i + k); simp only [nsE]; omega
theorem nsS_rng {Md Cu Nt : Nat → Int} {i : Nat} {b : Int} (h : BD 0 10000000000000000 Nt) : ∀ k : Nat, 0 ≤ nsS Md Cu Nt i b k ∧ nsS Md Cu Nt i b k ≤ 10000000001 * k := by
  intro k
  induction k with
  | zero => show 0 ≤ (0 : Int) ∧ (0 : Int) ≤ _; omega
  | succ k ih => have := paQ_n (Md := Md) (Cu := Cu) (i := i) (k := 12 * i + k) h; simp only [nsS]; split <;> omega
theorem nsZ_01 {Md Cu Nt : Nat → Int} {i : Nat} {b z : Int} (h : z = 0 ∨ z = 1) : ∀ k : Nat, nsZ Md Cu Nt i b z k = 0 ∨ nsZ Md Cu Nt i b z k = 1 := by
  intro k
  induction k with
  | zero => exact h
  | succ k ih => simp only [nsZ]; split; exact ih; exact paZ_01 ih
theorem ntZ_01 {Md Cu Nt : Nat → Int} {i : Nat} {b z : Int} {n : Nat} (h : z = 0 ∨ z = 1) : ntZ Md Cu Nt i b z n = 0 ∨ ntZ Md Cu Nt i b z n = 1 := by
  unfold ntZ; split; exact paZ_01 (nsZ_01 h n); exact nsZ_01 h n
theorem ntV_rng {Md Cu Nt : Nat → Int} {i n : Nat} {b : Int} (h : BD 0 10000000000000000 Nt) (hn : n ≤ 12) : 0 ≤ ntV Md Cu Nt i b n ∧ ntV Md Cu Nt i b n ≤ 200000000000 := by
  have h1 := nsE_rng (i := i) h n
  have h2 := nsS_rng (Md := Md) (Cu := Cu) (i := i) (b := b) h n
  have h3 : paQ Md Cu i (nsE Nt i n) 1 1000000 ≤ 120000000001 := paQ_le (x := 120000000000000000) (y := 1) (by omega) (by decide)
  unfold ntV; split <;> omega
def tiB (Lt : Nat → Int) (i : Nat) (p : Int) (k : Nat) : Nat → Int
  | 0 => if 0 < p then 1 else 0
  | j + 1 => if Lt (12 * i + j) = p then (if k ≤ j then tiB Lt i p k j else 0) else tiB Lt i p k j
def tiE (Lt Nt : Nat → Int) (i : Nat) (p : Int) : Nat → Int
  | 0 => 0
  | j + 1 => if Lt (12 * i + j) = p then tiE Lt Nt i p j + Nt (12 * i + j) else tiE Lt Nt i p j
def tsS (Md Cu Nt Lt : Nat → Int) (i : Nat) (b : Int) (n : Nat) : Nat → Int
  | 0 => 0
  | k + 1 => tsS Md Cu Nt Lt i b n k + (if b = 0 then (if tiB Lt i (Lt (12 * i + k)) k n = 0 then 0 else (paQ Md Cu i (tiE Lt Nt i (Lt (12 * i + k)) n) (Lt (12 * i + k)) 10000000000 : Int)) else (paQ Md Cu i (paQ Md Cu i (Nt (12 * i + k)) 1 1000000) (Lt (12 * i + k)) 10000 : Int))
def tsZ (Md Cu Nt Lt : Nat → Int) (i : Nat) (b : Int) (n : Nat) (z : Int) : Nat → Int
  | 0 => z
  | k + 1 => if b = 0 then (if tiB Lt i (Lt (12 * i + k)) k n = 0 then tsZ Md Cu Nt Lt i b n z k else paZ Md Cu i (tiE Lt Nt i (Lt (12 * i + k)) n) (Lt (12 * i + k)) 10000000000 (tsZ Md Cu Nt Lt i b n z k)) else paZ Md Cu i (paQ Md Cu i (Nt (12 * i + k)) 1 1000000) (Lt (12 * i + k)) 10000 (paZ Md Cu i (Nt (12 * i + k)) 1 1000000 (tsZ Md Cu Nt Lt i b n z k))
theorem tiB_01 (Lt : Nat → Int) (i : Nat) (p : Int) (k : Nat) : ∀ j, tiB Lt i p k j = 0 ∨ tiB Lt i p k j = 1 := by
  intro j
  induction j with
  | zero => simp only [tiB]; split <;> omega
  | succ j ih => simp only [tiB]; (repeat' split) <;> omega
theorem tiE_rng {Lt Nt : Nat → Int} {i : Nat} {p : Int} (h : BD 0 10000000000000000 Nt) : ∀ k : Nat, 0 ≤ tiE Lt Nt i p k ∧ tiE Lt Nt i p k ≤ 10000000000000000 * k := by
  intro k
  induction k with
  | zero => show 0 ≤ (0 : Int) ∧ (0 : Int) ≤ _; omega
  | succ k ih => have := h (12 * i + k); simp only [tiE]; split <;> omega
theorem paQ_l {Md Cu Nt Lt : Nat → Int} {i k : Nat} (h : BD 0 10000000000000000 Nt) (hl : BD 0 9999 Lt) : paQ Md Cu i (paQ Md Cu i (Nt k) 1 1000000) (Lt k) 10000 ≤ 10000000002 := by
  have h1 := paQ_n (Md := Md) (Cu := Cu) (i := i) (k := k) h
  have h2 := hl k
  have h3 := paQ_le (Md := Md) (Cu := Cu) (i := i) (of := (paQ Md Cu i (Nt k) 1 1000000 : Int)) (pt := Lt k) (b := 10000) (x := 10000000001) (y := 9999) (by omega) (by omega)
  have h4 : 10000000001 * 9999 / (10000 : Int).natAbs + 1 ≤ 10000000002 := by decide
  omega
theorem tsS_rng {Md Cu Nt Lt : Nat → Int} {i n : Nat} {b : Int} (h : BD 0 10000000000000000 Nt) (hl : BD 0 9999 Lt) (hn : n ≤ 12) : ∀ k : Nat, 0 ≤ tsS Md Cu Nt Lt i b n k ∧ tsS Md Cu Nt Lt i b n k ≤ 200000000000 * k := by
  intro k
  induction k with
  | zero => show 0 ≤ (0 : Int) ∧ (0 : Int) ≤ _; omega
  | succ k ih =>
    have h1 := paQ_l (Md := Md) (Cu := Cu) (i := i) (k := 12 * i + k) h hl
    have h2 := hl (12 * i + k)
    have h4 := tiE_rng (Lt := Lt) (i := i) (p := Lt (12 * i + k)) h n
    have h3 := paQ_le (Md := Md) (Cu := Cu) (i := i) (of := tiE Lt Nt i (Lt (12 * i + k)) n) (pt := Lt (12 * i + k)) (b := 10000000000) (x := 120000000000000000) (y := 9999) (by omega) (by omega)
    have h5 : 120000000000000000 * 9999 / (10000000000 : Int).natAbs + 1 ≤ 200000000000 := by decide
    simp only [tsS]
    (repeat' split) <;> omega
theorem tsZ_01 {Md Cu Nt Lt : Nat → Int} {i n : Nat} {b z : Int} (h : z = 0 ∨ z = 1) : ∀ k : Nat, tsZ Md Cu Nt Lt i b n z k = 0 ∨ tsZ Md Cu Nt Lt i b n z k = 1 := by
  intro k
  induction k with
  | zero => exact h
  | succ k ih =>
    simp only [tsZ]
    split
    · split
      · exact ih
      · exact paZ_01 ih
    · exact paZ_01 (paZ_01 ih)
theorem jI_and0 {a : Int} (h : a = 0 ∨ a = 1) : jI a &&& jI 0 = jI 0 := by rcases h with e | e <;> subst e <;> decide
theorem jI_and1 {a : Int} (h : a = 0 ∨ a = 1) : jI a &&& jI 1 = jI a := by rcases h with e | e <;> subst e <;> decide
theorem nd_X4_part : yX4_part.cls ≠ "java/lang/invoke/MethodHandle" ∧ yX4_part.cls ≠ "java/lang/invoke/VarHandle" ∧ (parseMethodDescriptor yX4_part.desc).map (fun d => d.parameters.length) = some 4 := by decide +kernel
set_option maxRecDepth 100000 in
set_option maxHeartbeats 16000000 in
theorem ct_X4_part {g : GG} {l : Launch} (o : Nat) (a : Nat → Nat) (z : Nat → Int) (D : Nat → Nat) (M : Nat → Nat) (Md : Nat → Int) (Cu : Nat → Int) (of : Int) (pt : Int) (by9 : Int) (inv : Nat) (hA : Dok D M) (hMd : MdB Md) (hCu : BD 0 3 Cu) (hinv : inv < 20) (hof : 0 ≤ of ∧ of ≤ 999999999999999999) (hpt : 0 ≤ pt ∧ pt ≤ 10000) (hby : 1 ≤ by9 ∧ by9 ≤ 10000000000) (hz2 : z 2 = 0 ∨ z 2 = 1) : Ct g l yX4_part (ws_ yX4_part cX4_part 7 (Option.some Jvm.ClassFile.FieldType.long)) 6 127 0 0 [.ref o, .long (jL of), .int (jI pt), .long (jL by9), .int (jI (↑inv))] [tmO g o a z, aN g 0 (a 0) 2400 D, aN g 0 (a 1) 10 M, aI g 2 (a 11) 4 Md, aI g 0 (a 21) 20 Cu] (fun v9 Ws9 => ∃ D1 : Nat → Nat, ∃ M1 : Nat → Nat, v9 = some (.long (jL (↑(paQ Md Cu inv of pt by9)))) ∧ (RV [0, 1, 2, 3, 5, 6, 7, 8, 9] D M D1 M1) ∧ Ws9 = [tmO g o a (va_up z 2 (paZ Md Cu inv of pt by9 (z 2))), aN g 0 (a 0) 2400 D1, aN g 0 (a 1) 10 M1, aI g 2 (a 11) 4 Md, aI g 0 (a 21) 20 Cu]) (nox) := by
  refine Ct.of (cc := cX4_part) (nL := 7) (ret := (Option.some Jvm.ClassFile.FieldType.long)) (by decide) rfl (Nat.le_of_ble_eq_true rfl) ?_
  intro x hg hl hPo hPx hmc hms F
  subst hg; subst hl
  refine SW.cast (L' := [(0, .ref o), (1, .long (jL of)), (3, .int (jI pt)), (4, .long (jL by9)), (6, .int (jI (↑inv)))]) ?_ rfl rfl rfl
  have hcu := hCu inv
  have hmd := hMd (Cu inv).toNat
  have hx1 := b110 (l36 (x := of.natAbs) (y := pt.natAbs) (by omega) (by omega))
  have hx2 := b110 (l110 (x := by9.natAbs) (e := 0) (by omega) (by omega))
  refine sw_aload_n (n := 1) F 0 (some o) rfl rfl rfl dX4_part_0 rfl ?_
  refine sw_iconst (n := 2) F (0) (by decide) dX4_part_1 rfl ?_
  refine sw_lload_n (n := 3) F 1 rfl rfl dX4_part_2 rfl ?_
  refine sw_callV (n := 6) F (ct_X4_lets (g := xg x) (l := xl x) o a z D M 0 of (by first | omega | assumption) hA (by first | omega | assumption)) (rcv_ob F 0 (ci := 3) rfl rfl) q4004 q4006 qs71 q120 q4007 nd_X4_lets rfl (by decide) [0, 1, 2, 3, 4] rfl [aI (xg x) 2 (a 11) 4 Md, aI (xg x) 0 (a 21) 20 Cu] rfl 0 0 ⟨by omega, by omega⟩ [] rfl (Nat.le_of_ble_eq_true rfl) dX4_part_3 rfl (fun _ _ h => h.elim) (fun v Ws h => ?_)
  obtain ⟨D1_1, M1_2, rfl, hU_3, rfl⟩ := h
  show SW x [tmO (xg x) o a z, aN (xg x) 0 (a 0) 2400 D1_1, aN (xg x) 0 (a 1) 10 M1_2, aI (xg x) 2 (a 11) 4 Md, aI (xg x) 0 (a 21) 20 Cu] _ _ _ _ []
  have a_4 := hU_3.1
  have r_5 : rok D1_1 M1_2 0 of.natAbs := hU_3.2.2.2
  have v_6 := hU_3.rv
  refine sw_aload_n (n := 7) F 0 (some o) rfl rfl rfl dX4_part_6 rfl ?_
  refine sw_iconst (n := 8) F (5) (by decide) dX4_part_7 rfl ?_
  refine sw_iload_n (n := 9) F 2 rfl rfl dX4_part_8 rfl ?_
  refine sw_i2l (n := 10) F (by omega) dX4_part_9 rfl ?_
  refine sw_callV (n := 13) F (ct_X4_lets (g := xg x) (l := xl x) o a z D1_1 M1_2 5 pt (by first | omega | assumption) a_4 (by first | omega | assumption)) (rcv_ob F 0 (ci := 3) rfl rfl) q4004 q4006 qs71 q120 q4007 nd_X4_lets rfl (by decide) [0, 1, 2, 3, 4] rfl [aI (xg x) 2 (a 11) 4 Md, aI (xg x) 0 (a 21) 20 Cu] rfl 0 0 ⟨by omega, by omega⟩ [] rfl (Nat.le_of_ble_eq_true rfl) dX4_part_10 rfl (fun _ _ h => h.elim) (fun v Ws h => ?_)
  obtain ⟨D1_7, M1_8, rfl, hU_9, rfl⟩ := h
  show SW x [tmO (xg x) o a z, aN (xg x) 0 (a 0) 2400 D1_7, aN (xg x) 0 (a 1) 10 M1_8, aI (xg x) 2 (a 11) 4 Md, aI (xg x) 0 (a 21) 20 Cu] _ _ _ _ []
  have a_10 := hU_9.1
  have r_11 : rok D1_7 M1_8 5 pt.natAbs := hU_9.2.2.2
  have k_12 := hU_9.keep (r := 0) (by first | omega | simp | (simp; omega)) r_5
  have v_13 := (v_6.mono (T := [0, 5]) (by simp)).trans hU_9.rv (by simp)
  refine sw_aload_n (n := 14) F 0 (some o) rfl rfl rfl dX4_part_13 rfl ?_
  refine sw_iconst (n := 15) F (0) (by decide) dX4_part_14 rfl ?_
  refine sw_iconst (n := 16) F (5) (by decide) dX4_part_15 rfl ?_
  refine sw_callV (n := 19) F (ct_X4_times (g := xg x) (l := xl x) o a z D1_7 M1_8 0 5 of.natAbs pt.natAbs (by first | omega | assumption) (by first | omega | assumption) (by decide) (by decide) a_10 k_12 r_11 (by first | omega | assumption)) (rcv_ob F 0 (ci := 3) rfl rfl) q4083 q4085 qs85 q120 q4086 nd_X4_times rfl (by decide) [0, 1, 2, 3, 4] rfl [aI (xg x) 2 (a 11) 4 Md, aI (xg x) 0 (a 21) 20 Cu] rfl 0 0 ⟨by omega, by omega⟩ [] rfl (Nat.le_of_ble_eq_true rfl) dX4_part_16 rfl (fun _ _ h => h.elim) (fun v Ws h => ?_)
  obtain ⟨D1_14, M1_15, rfl, hV_16, hr_17, rfl⟩ := h
  show SW x [tmO (xg x) o a z, aN (xg x) 0 (a 0) 2400 D1_14, aN (xg x) 0 (a 1) 10 M1_15, aI (xg x) 2 (a 11) 4 Md, aI (xg x) 0 (a 21) 20 Cu] _ _ _ _ []
  have a_18 := hV_16.1
  have k_19 := hV_16.keep (r := 5) (by first | omega | simp | (simp; omega)) r_11
  have v_20 := (v_13.mono (T := [0, 5, 6, 7]) (by simp)).trans hV_16 (by simp)
  refine sw_aload_n (n := 20) F 0 (some o) rfl rfl rfl dX4_part_19 rfl ?_
  refine sw_iconst (n := 21) F (1) (by decide) dX4_part_20 rfl ?_
  refine sw_lload (n := 23) F 3 rfl dX4_part_21 rfl ?_
  refine sw_callV (n := 26) F (ct_X4_lets (g := xg x) (l := xl x) o a z D1_14 M1_15 1 by9 (by first | omega | assumption) a_18 (by first | omega | assumption)) (rcv_ob F 0 (ci := 3) rfl rfl) q4004 q4006 qs71 q120 q4007 nd_X4_lets rfl (by decide) [0, 1, 2, 3, 4] rfl [aI (xg x) 2 (a 11) 4 Md, aI (xg x) 0 (a 21) 20 Cu] rfl 0 0 ⟨by omega, by omega⟩ [] rfl (Nat.le_of_ble_eq_true rfl) dX4_part_23 rfl (fun _ _ h => h.elim) (fun v Ws h => ?_)
  obtain ⟨D1_21, M1_22, rfl, hU_23, rfl⟩ := h
  show SW x [tmO (xg x) o a z, aN (xg x) 0 (a 0) 2400 D1_21, aN (xg x) 0 (a 1) 10 M1_22, aI (xg x) 2 (a 11) 4 Md, aI (xg x) 0 (a 21) 20 Cu] _ _ _ _ []
  have a_24 := hU_23.1
  have r_25 : rok D1_21 M1_22 1 by9.natAbs := hU_23.2.2.2
  have k_26 := hU_23.keep (r := 5) (by first | omega | simp | (simp; omega)) k_19
  have k_27 := hU_23.keep (r := 0) (by first | omega | simp | (simp; omega)) hr_17
  have v_28 := (v_20.mono (T := [0, 5, 6, 7, 1]) (by simp)).trans hU_23.rv (by simp)
  refine sw_aload_n (n := 27) F 0 (some o) rfl rfl rfl dX4_part_26 rfl ?_
  refine sw_iconst (n := 28) F (0) (by decide) dX4_part_27 rfl ?_
  refine sw_aload_n (n := 29) F 0 (some o) rfl rfl rfl dX4_part_28 rfl ?_
  refine sw_get (n := 32) F 0 rfl (k := 11) ⟨(RX4, TX4, 50), rfl, by decide, q3810, in_X4, Or.inl rfl⟩ (v := .ref (a 11)) rfl dX4_part_29 rfl ?_
  refine sw_aload_n (n := 33) F 0 (some o) rfl rfl rfl dX4_part_32 rfl ?_
  refine sw_get (n := 36) F 0 rfl (k := 21) ⟨(RX4, TX4, 50), rfl, by decide, q3820, in_X4, Or.inl rfl⟩ (v := .ref (a 21)) rfl dX4_part_33 rfl ?_
  refine sw_iload (n := 38) F 4 rfl dX4_part_36 rfl ?_
  refine sw_ialoadI (n := 39) F 4 rfl (fun _ => rfl) inv rfl (by omega) dX4_part_38 rfl ?_
  refine sw_caloadI (n := 40) F 3 rfl (fun _ => rfl) ((Cu inv : Int).toNat) (by omega) (by omega) dX4_part_39 rfl ?_
  refine sw_callV (n := 43) F (ct_X4_rounds (g := xg x) (l := xl x) o a z D1_21 M1_22 (of.natAbs * pt.natAbs) by9.natAbs 0 (Md ((Cu inv : Int).toNat)) a_24 k_27 r_25 (by first | omega | assumption) (by first | omega | assumption) (by first | omega | assumption) (by decide) (by omega) hz2) (rcv_ob F 0 (ci := 3) rfl rfl) q4123 q4125 qs90 q120 q4126 nd_X4_rounds rfl (by decide) [0, 1, 2, 3, 4] rfl [aI (xg x) 2 (a 11) 4 Md, aI (xg x) 0 (a 21) 20 Cu] rfl 0 0 ⟨by omega, by omega⟩ [] rfl (Nat.le_of_ble_eq_true rfl) dX4_part_40 rfl (fun _ _ h => h.elim) (fun v Ws h => ?_)
  obtain ⟨D1_29, M1_30, rfl, hV_31, hr_32, rfl⟩ := h
  show SW x [tmO (xg x) o a (va_up z 2 (rfz (Md ((Cu inv : Int).toNat)) (of.natAbs * pt.natAbs) by9.natAbs (z 2))), aN (xg x) 0 (a 0) 2400 D1_29, aN (xg x) 0 (a 1) 10 M1_30, aI (xg x) 2 (a 11) 4 Md, aI (xg x) 0 (a 21) 20 Cu] _ _ _ _ []
  have a_33 := hV_31.1
  have k_34 := hV_31.keep (r := 0) (by first | omega | simp | (simp; omega)) k_27
  have k_35 := hV_31.keep (r := 5) (by first | omega | simp | (simp; omega)) k_26
  have k_36 := hV_31.keep (r := 1) (by first | omega | simp | (simp; omega)) r_25
  have v_37 := (v_28.mono (T := [0, 5, 6, 7, 1, 2, 3, 8, 9]) (by simp)).trans hV_31 (by simp)
  refine sw_aload_n (n := 44) F 0 (some o) rfl rfl rfl dX4_part_43 rfl ?_
  refine sw_iconst (n := 45) F (2) (by decide) dX4_part_44 rfl ?_
  refine sw_callV (n := 48) F (ct_X4_value (g := xg x) (l := xl x) o a (va_up z 2 (rfz (Md ((Cu inv : Int).toNat)) (of.natAbs * pt.natAbs) by9.natAbs (z 2))) D1_29 M1_30 2 (rnd (Md ((Cu inv : Int).toNat)) 0 (of.natAbs * pt.natAbs) by9.natAbs) (by first | omega | assumption) a_33 hr_32) (rcv_ob F 0 (ci := 3) rfl rfl) q4024 q4026 qs76 q120 q4027 nd_X4_value rfl (by decide) [0, 1, 2, 3, 4] rfl [aI (xg x) 2 (a 11) 4 Md, aI (xg x) 0 (a 21) 20 Cu] rfl 0 0 ⟨by omega, by omega⟩ [] rfl (Nat.le_of_ble_eq_true rfl) dX4_part_45 rfl (fun _ _ h => h.elim) (fun v Ws h => ?_)
  obtain ⟨rfl, rfl⟩ := h
  show SW x [tmO (xg x) o a (va_up z 2 (rfz (Md ((Cu inv : Int).toNat)) (of.natAbs * pt.natAbs) by9.natAbs (z 2))), aN (xg x) 0 (a 0) 2400 D1_29, aN (xg x) 0 (a 1) 10 M1_30, aI (xg x) 2 (a 11) 4 Md, aI (xg x) 0 (a 21) 20 Cu] _ _ _ _ [.long (jL (↑(rnd (Md ((Cu inv : Int).toNat)) 0 (of.natAbs * pt.natAbs) by9.natAbs)))]
  exact sw_lret F rfl dX4_part_48 (by rw [hPo]; exact ⟨D1_29, M1_30, (by rfl), (by exact v_37.mono (by simp)), (by rfl)⟩)
theorem nd_X4_roundedNet : yX4_roundedNet.cls ≠ "java/lang/invoke/MethodHandle" ∧ yX4_roundedNet.cls ≠ "java/lang/invoke/VarHandle" ∧ (parseMethodDescriptor yX4_roundedNet.desc).map (fun d => d.parameters.length) = some 2 := by decide +kernel
set_option maxRecDepth 100000 in
set_option maxHeartbeats 16000000 in
theorem ct_X4_roundedNet {g : GG} {l : Launch} (o : Nat) (a : Nat → Nat) (z : Nat → Int) (D : Nat → Nat) (M : Nat → Nat) (Md : Nat → Int) (Cu : Nat → Int) (of : Int) (inv : Nat) (hA : Dok D M) (hMd : MdB Md) (hCu : BD 0 3 Cu) (hinv : inv < 20) (hof : 0 ≤ of ∧ of ≤ 999999999999999999) (hz2 : z 2 = 0 ∨ z 2 = 1) : Ct g l yX4_roundedNet (ws_ yX4_roundedNet cX4_roundedNet 4 (Option.some Jvm.ClassFile.FieldType.long)) 7 153 0 0 [.ref o, .long (jL of), .int (jI (↑inv))] [tmO g o a z, aN g 0 (a 0) 2400 D, aN g 0 (a 1) 10 M, aI g 2 (a 11) 4 Md, aI g 0 (a 21) 20 Cu] (fun v9 Ws9 => ∃ D1 : Nat → Nat, ∃ M1 : Nat → Nat, v9 = some (.long (jL (↑(paQ Md Cu inv of 1 1000000)))) ∧ (RV [0, 1, 2, 3, 5, 6, 7, 8, 9] D M D1 M1) ∧ Ws9 = [tmO g o a (va_up z 2 (paZ Md Cu inv of 1 1000000 (z 2))), aN g 0 (a 0) 2400 D1, aN g 0 (a 1) 10 M1, aI g 2 (a 11) 4 Md, aI g 0 (a 21) 20 Cu]) (nox) := by
  refine Ct.of (cc := cX4_roundedNet) (nL := 4) (ret := (Option.some Jvm.ClassFile.FieldType.long)) (by decide) rfl (Nat.le_of_ble_eq_true rfl) ?_
  intro x hg hl hPo hPx hmc hms F
  subst hg; subst hl
  refine SW.cast (L' := [(0, .ref o), (1, .long (jL of)), (3, .int (jI (↑inv)))]) ?_ rfl rfl rfl
  refine sw_aload_n (n := 1) F 0 (some o) rfl rfl rfl dX4_roundedNet_0 rfl ?_
  refine sw_lload_n (n := 2) F 1 rfl rfl dX4_roundedNet_1 rfl ?_
  refine sw_iconst (n := 3) F (1) (by decide) dX4_roundedNet_2 rfl ?_
  refine sw_ldc2 (n := 6) F (1000000) q4237 (by decide) dX4_roundedNet_3 rfl ?_
  refine sw_iload_n (n := 7) F 2 rfl rfl dX4_roundedNet_6 rfl ?_
  refine sw_callV (n := 10) F (ct_X4_part (g := xg x) (l := xl x) o a z D M Md Cu of 1 1000000 inv hA hMd hCu hinv hof (by decide) (by decide) hz2) (rcv_ob F 0 (ci := 3) rfl rfl) q4238 q4240 qs97 q120 q4241 nd_X4_part rfl (by decide) [0, 1, 2, 3, 4] rfl [] rfl 0 0 ⟨by omega, by omega⟩ [] rfl (Nat.le_of_ble_eq_true rfl) dX4_roundedNet_7 rfl (fun _ _ h => h.elim) (fun v Ws h => ?_)
  obtain ⟨D1_1, M1_2, rfl, hV_3, rfl⟩ := h
  show SW x [tmO (xg x) o a (va_up z 2 (paZ Md Cu inv of 1 1000000 (z 2))), aN (xg x) 0 (a 0) 2400 D1_1, aN (xg x) 0 (a 1) 10 M1_2, aI (xg x) 2 (a 11) 4 Md, aI (xg x) 0 (a 21) 20 Cu] _ _ _ _ [.long (jL (↑(paQ Md Cu inv of 1 1000000)))]
  have a_4 := hV_3.1
  exact sw_lret F rfl dX4_roundedNet_10 (by rw [hPo]; exact ⟨D1_1, M1_2, rfl, (by exact hV_3.mono (by simp)), rfl⟩)
theorem nd_X4_netOf : yX4_netOf.cls ≠ "java/lang/invoke/MethodHandle" ∧ yX4_netOf.cls ≠ "java/lang/invoke/VarHandle" ∧ (parseMethodDescriptor yX4_netOf.desc).map (fun d => d.parameters.length) = some 1 := by decide +kernel
set_option maxRecDepth 100000 in
set_option maxHeartbeats 16000000 in
theorem ct_X4_netOf {g : GG} {l : Launch} (o : Nat) (a : Nat → Nat) (z : Nat → Int) (D : Nat → Nat) (M : Nat → Nat) (Md : Nat → Int) (Cu : Nat → Int) (Ln : Nat → Int) (Bl : Nat → Int) (Nt : Nat → Int) (inv : Nat) (hA : Dok D M) (hMd : MdB Md) (hCu : BD 0 3 Cu) (hLn : BD 0 12 Ln) (hBl : HB Bl) (hNt : BD 0 10000000000000000 Nt) (hinv : inv < 20) (hz2 : z 2 = 0 ∨ z 2 = 1) : Ct g l yX4_netOf (ws_ yX4_netOf cX4_netOf 7 (Option.some Jvm.ClassFile.FieldType.long)) 8 176 0 0 [.ref o, .int (jI (↑inv))] [tmO g o a z, aN g 0 (a 0) 2400 D, aN g 0 (a 1) 10 M, aI g 2 (a 11) 4 Md, aI g 0 (a 21) 20 Cu, aI g 0 (a 22) 20 Ln, aI g 4 (a 23) 20 Bl, aL g (a 25) 240 Nt] (fun v9 Ws9 => ∃ D1 : Nat → Nat, ∃ M1 : Nat → Nat, v9 = some (.long (jL (ntV Md Cu Nt inv (Bl inv) (Ln inv).toNat))) ∧ (RV [0, 1, 2, 3, 5, 6, 7, 8, 9] D M D1 M1) ∧ Ws9 = [tmO g o a (va_up z 2 (ntZ Md Cu Nt inv (Bl inv) (z 2) (Ln inv).toNat)), aN g 0 (a 0) 2400 D1, aN g 0 (a 1) 10 M1, aI g 2 (a 11) 4 Md, aI g 0 (a 21) 20 Cu, aI g 0 (a 22) 20 Ln, aI g 4 (a 23) 20 Bl, aL g (a 25) 240 Nt]) (nox) := by
  refine Ct.of (cc := cX4_netOf) (nL := 7) (ret := (Option.some Jvm.ClassFile.FieldType.long)) (by decide) rfl (Nat.le_of_ble_eq_true rfl) ?_
  intro x hg hl hPo hPx hmc hms F
  subst hg; subst hl
  refine SW.cast (L' := [(0, .ref o), (1, .int (jI (↑inv)))]) ?_ rfl rfl rfl
  have hln := hLn inv
  have hbl := hBl inv
  refine sw_lconst (n := 1) F 0 (by decide) dX4_netOf_0 rfl ?_
  refine sw_lstore_n (n := 2) F (L2 := [(2, .long (jL 0)), (0, .ref o), (1, .int (jI (↑inv)))]) rfl (by decide) rfl dX4_netOf_1 rfl ?_
  refine sw_lconst (n := 3) F 0 (by decide) dX4_netOf_2 rfl ?_
  refine sw_lstore (n := 5) F (L2 := [(4, .long (jL 0)), (2, .long (jL 0)), (0, .ref o), (1, .int (jI (↑inv)))]) rfl (by decide) dX4_netOf_3 rfl ?_
  refine sw_iconst (n := 6) F (0) (by decide) dX4_netOf_5 rfl ?_
  refine SW.cast (Ps' := [tmO (xg x) o a (va_up z 2 (nsZ Md Cu Nt inv (Bl inv) (z 2) 0)), aN (xg x) 0 (a 0) 2400 D, aN (xg x) 0 (a 1) 10 M, aI (xg x) 2 (a 11) 4 Md, aI (xg x) 0 (a 21) 20 Cu, aI (xg x) 0 (a 22) 20 Ln, aI (xg x) 4 (a 23) 20 Bl, aL (xg x) (a 25) 240 Nt]) ?_ (by rw [show va_up z 2 (nsZ Md Cu Nt inv (Bl inv) (z 2) 0) = z from va_up_idI z 2]) (by rfl) rfl
  refine sw_istore (n := 8) F (L2 := [(6, .int (jI 0)), (4, .long (jL 0)), (2, .long (jL 0)), (0, .ref o), (1, .int (jI (↑inv)))]) rfl (by decide) dX4_netOf_6 rfl ?_
  have K8 : ∀ N8 : Nat, ∀ (D1 : Nat → Nat) (M1 : Nat → Nat) (k : Nat), (RV [0, 1, 2, 3, 5, 6, 7, 8, 9] D M D1 M1) → ((k : Int) ≤ Ln inv) → ((13 - k) < N8) → SW x [tmO (xg x) o a (va_up z 2 (nsZ Md Cu Nt inv (Bl inv) (z 2) k)), aN (xg x) 0 (a 0) 2400 D1, aN (xg x) 0 (a 1) 10 M1, aI (xg x) 2 (a 11) 4 Md, aI (xg x) 0 (a 21) 20 Cu, aI (xg x) 0 (a 22) 20 Ln, aI (xg x) 4 (a 23) 20 Bl, aL (xg x) (a 25) 240 Nt] 0 0 8 [(0, .ref o), (1, .int (jI (↑inv))), (2, .long (jL (nsS Md Cu Nt inv (Bl inv) k))), (4, .long (jL (nsE Nt inv k))), (6, .int (jI (↑k)))] [] := by
    intro N8; induction N8 with
    | zero => intro D1 M1 k hRV hk hmu8; omega
    | succ N8 ih8 =>
      intro D1 M1 k hRV hk hmu8
      have hnk := hNt (12 * inv + k)
      have hzk := nsZ_01 (Md := Md) (Cu := Cu) (Nt := Nt) (i := inv) (b := Bl inv) hz2 k
      have hA1 := hRV.1
      refine sw_iload (n := 10) F 4 rfl dX4_netOf_8 rfl ?_
      refine sw_aload_n (n := 11) F 0 (some o) rfl rfl rfl dX4_netOf_10 rfl ?_
      refine sw_get (n := 14) F 0 rfl (k := 22) ⟨(RX4, TX4, 50), rfl, by decide, q3821, in_X4, Or.inl rfl⟩ (v := .ref (a 22)) rfl dX4_netOf_11 rfl ?_
      refine sw_iload_n (n := 15) F 1 rfl rfl dX4_netOf_14 rfl ?_
      refine sw_ialoadI (n := 16) F 5 rfl (fun _ => rfl) inv rfl (by omega) dX4_netOf_15 rfl ?_
      refine sw_icmp_ge (n := 19) F (by omega) (by omega) (tgt := 75) dX4_netOf_16 (by decide) rfl (fun c_16 => ?_) (fun c_16 => ?_)
      ·
        obtain rfl : k = (Ln inv).toNat := by omega
        have hne9 := nsE_rng (i := inv) hNt (Ln inv).toNat
        refine sw_aload_n (n := 76) F 0 (some o) rfl rfl rfl dX4_netOf_75 rfl ?_
        refine sw_get (n := 79) F 0 rfl (k := 23) ⟨(RX4, TX4, 50), rfl, by decide, q3822, in_X4, Or.inl rfl⟩ (v := .ref (a 23)) rfl dX4_netOf_76 rfl ?_
        refine sw_iload_n (n := 80) F 1 rfl rfl dX4_netOf_79 rfl ?_
        refine sw_zaloadI (n := 81) F 6 rfl (fun _ => rfl) inv rfl (by omega) dX4_netOf_80 rfl ?_
        refine sw_if_eq (n := 84) F (by omega) (tgt := 88) dX4_netOf_81 (by decide) rfl (fun c_81 => ?_) (fun c_81 => ?_)
        ·
          refine sw_aload_n (n := 89) F 0 (some o) rfl rfl rfl dX4_netOf_88 rfl ?_
          refine sw_lload (n := 91) F 3 rfl dX4_netOf_89 rfl ?_
          refine sw_iload_n (n := 92) F 1 rfl rfl dX4_netOf_91 rfl ?_
          refine sw_callV (n := 95) F (ct_X4_roundedNet (g := xg x) (l := xl x) o a (va_up z 2 (nsZ Md Cu Nt inv (Bl inv) (z 2) ((Ln inv).toNat))) D1 M1 Md Cu (nsE Nt inv ((Ln inv).toNat)) inv (by first | assumption | omega) hMd hCu hinv (by first | omega | assumption) (by first | assumption | (simp only [va_up_self]; assumption) | exact hzk)) (rcv_ob F 0 (ci := 3) rfl rfl) q4233 q4235 qs96 q120 q4236 nd_X4_roundedNet rfl (by decide) [0, 1, 2, 3, 4, 5, 6, 7] rfl [aI (xg x) 0 (a 22) 20 Ln, aI (xg x) 4 (a 23) 20 Bl, aL (xg x) (a 25) 240 Nt] rfl 0 0 ⟨by omega, by omega⟩ [] rfl (Nat.le_of_ble_eq_true rfl) dX4_netOf_92 rfl (fun _ _ h => h.elim) (fun v Ws h => ?_)
          obtain ⟨D1_1, M1_2, rfl, hV_3, rfl⟩ := h
          show SW x [tmO (xg x) o a (va_up (va_up z 2 (nsZ Md Cu Nt inv (Bl inv) (z 2) ((Ln inv).toNat))) 2 (paZ Md Cu inv (nsE Nt inv ((Ln inv).toNat)) 1 1000000 ((nsZ Md Cu Nt inv (Bl inv) (z 2) ((Ln inv).toNat))))), aN (xg x) 0 (a 0) 2400 D1_1, aN (xg x) 0 (a 1) 10 M1_2, aI (xg x) 2 (a 11) 4 Md, aI (xg x) 0 (a 21) 20 Cu, aI (xg x) 0 (a 22) 20 Ln, aI (xg x) 4 (a 23) 20 Bl, aL (xg x) (a 25) 240 Nt] _ _ _ _ [.long (jL (↑(paQ Md Cu inv (nsE Nt inv ((Ln inv).toNat)) 1 1000000)))]
          have a_4 := hV_3.1
          have v_5 := (hRV.mono (T := [0, 1, 2, 3, 5, 6, 7, 8, 9]) (by simp)).trans hV_3 (by simp)
          exact sw_lret F rfl dX4_netOf_95 (by rw [hPo]; exact ⟨D1_1, M1_2, (by first | (unfold ntV; rw [if_neg (by omega)]) | (unfold ntV; rw [if_pos (by omega)])), (by exact v_5.mono (by simp)), (by unfold ntZ; first | (rw [if_neg (by omega)]; done) | (rw [if_pos (by omega)]; simp only [up_upI]))⟩)
        ·
          refine sw_lload_n (n := 85) F 2 rfl rfl dX4_netOf_84 rfl ?_
          refine sw_goto F (n := 95) dX4_netOf_85 (by decide) ?_
          exact sw_lret F rfl dX4_netOf_95 (by rw [hPo]; exact ⟨D1, M1, (by first | (unfold ntV; rw [if_neg (by omega)]) | (unfold ntV; rw [if_pos (by omega)])), (by exact hRV.mono (by simp)), (by unfold ntZ; first | (rw [if_neg (by omega)]; done) | (rw [if_pos (by omega)]; simp only [up_upI]))⟩)
      ·
        refine sw_lload (n := 21) F 3 rfl dX4_netOf_19 rfl ?_
        refine sw_aload_n (n := 22) F 0 (some o) rfl rfl rfl dX4_netOf_21 rfl ?_
        refine sw_get (n := 25) F 0 rfl (k := 25) ⟨(RX4, TX4, 50), rfl, by decide, q3824, in_X4, Or.inl rfl⟩ (v := .ref (a 25)) rfl dX4_netOf_22 rfl ?_
        refine sw_bipush (n := 27) F (12) (by decide) dX4_netOf_25 rfl ?_
        refine sw_iload_n (n := 28) F 1 rfl rfl dX4_netOf_27 rfl ?_
        refine sw_imul (n := 29) F dX4_netOf_28 rfl ?_
        refine sw_iload (n := 31) F 4 rfl dX4_netOf_29 rfl ?_
        refine sw_iadd (n := 32) F dX4_netOf_31 rfl ?_
        refine sw_laloadL (n := 33) F 7 rfl (fun _ => rfl) ((12 * (inv)) + (k)) (by omega) (by omega) dX4_netOf_32 rfl ?_
        refine sw_ladd (n := 34) F dX4_netOf_33 rfl ?_
        refine sw_lstore (n := 36) F (L2 := [(4, .long (jL ((nsE Nt inv k) + (Nt ((12 * (inv)) + (k)))))), (0, .ref o), (1, .int (jI (↑inv))), (2, .long (jL (nsS Md Cu Nt inv (Bl inv) k))), (6, .int (jI (↑k)))]) rfl (by decide) dX4_netOf_34 rfl ?_
        refine sw_lload_n (n := 37) F 3 rfl rfl dX4_netOf_36 rfl ?_
        refine sw_aload_n (n := 38) F 1 (some o) rfl rfl rfl dX4_netOf_37 rfl ?_
        refine sw_get (n := 41) F 0 rfl (k := 23) ⟨(RX4, TX4, 50), rfl, by decide, q3822, in_X4, Or.inl rfl⟩ (v := .ref (a 23)) rfl dX4_netOf_38 rfl ?_
        refine sw_iload_n (n := 42) F 2 rfl rfl dX4_netOf_41 rfl ?_
        refine sw_zaloadI (n := 43) F 6 rfl (fun _ => rfl) inv rfl (by omega) dX4_netOf_42 rfl ?_
        refine sw_if_eq (n := 46) F (by omega) (tgt := 66) dX4_netOf_43 (by decide) rfl (fun c_43 => ?_) (fun c_43 => ?_)
        ·
          refine sw_lconst (n := 67) F 0 (by decide) dX4_netOf_66 rfl ?_
          refine sw_ladd (n := 68) F dX4_netOf_67 rfl ?_
          refine sw_lstore_n (n := 69) F (L2 := [(2, .long (jL ((nsS Md Cu Nt inv (Bl inv) k) + 0))), (4, .long (jL ((nsE Nt inv k) + (Nt ((12 * (inv)) + (k)))))), (0, .ref o), (1, .int (jI (↑inv))), (6, .int (jI (↑k)))]) rfl (by decide) rfl dX4_netOf_68 rfl ?_
          have ez : nsZ Md Cu Nt inv (Bl inv) (z 2) (k + 1) = nsZ Md Cu Nt inv (Bl inv) (z 2) k := by simp only [nsZ]; rw [if_pos c_43]
          have es : nsS Md Cu Nt inv (Bl inv) (k + 1) = nsS Md Cu Nt inv (Bl inv) k + 0 := by simp only [nsS]; rw [if_pos c_43]
          refine SW.cast (Ps' := [tmO (xg x) o a (va_up z 2 (nsZ Md Cu Nt inv (Bl inv) (z 2) (k + 1))), aN (xg x) 0 (a 0) 2400 D1, aN (xg x) 0 (a 1) 10 M1, aI (xg x) 2 (a 11) 4 Md, aI (xg x) 0 (a 21) 20 Cu, aI (xg x) 0 (a 22) 20 Ln, aI (xg x) 4 (a 23) 20 Bl, aL (xg x) (a 25) 240 Nt]) (L' := [(2, .long (jL (nsS Md Cu Nt inv (Bl inv) (k + 1)))), (4, .long (jL (nsE Nt inv (k + 1)))), (0, .ref o), (1, .int (jI (↑inv))), (6, .int (jI (↑k)))]) ?_ (by rw [ez]) (by rw [es]; rfl) rfl
          refine sw_iinc (n := 72) F 4 (L2 := [(6, .int (jI (↑k + 1))), (2, .long (jL (nsS Md Cu Nt inv (Bl inv) (k + 1)))), (4, .long (jL (nsE Nt inv (k + 1)))), (0, .ref o), (1, .int (jI (↑inv)))]) rfl rfl (by decide) dX4_netOf_69 rfl ?_
          refine sw_goto F (n := 8) dX4_netOf_72 (by decide) ?_
          refine sw_loc [3, 4, 1, 2, 0] (L2 := [(0, .ref o), (1, .int (jI (↑inv))), (2, .long (jL (nsS Md Cu Nt inv (Bl inv) (k + 1)))), (4, .long (jL (nsE Nt inv (k + 1)))), (6, .int (jI (↑k + 1)))]) rfl ?_
          rw [show (↑k + 1 : Int) = ↑(k + 1) by omega]
          exact ih8 D1 M1 (k + 1) (by first | assumption | (exact RV.rf hA) | exact (RV.rf hA).mono (S := []) (by simp)) (by omega) (by omega)
        ·
          refine sw_aload_n (n := 47) F 1 (some o) rfl rfl rfl dX4_netOf_46 rfl ?_
          refine sw_aload_n (n := 48) F 1 (some o) rfl rfl rfl dX4_netOf_47 rfl ?_
          refine sw_get (n := 51) F 0 rfl (k := 25) ⟨(RX4, TX4, 50), rfl, by decide, q3824, in_X4, Or.inl rfl⟩ (v := .ref (a 25)) rfl dX4_netOf_48 rfl ?_
          refine sw_bipush (n := 53) F (12) (by decide) dX4_netOf_51 rfl ?_
          refine sw_iload_n (n := 54) F 2 rfl rfl dX4_netOf_53 rfl ?_
          refine sw_imul (n := 55) F dX4_netOf_54 rfl ?_
          refine sw_iload (n := 57) F 4 rfl dX4_netOf_55 rfl ?_
          refine sw_iadd (n := 58) F dX4_netOf_57 rfl ?_
          refine sw_laloadL (n := 59) F 7 rfl (fun _ => rfl) ((12 * (inv)) + (k)) (by omega) (by omega) dX4_netOf_58 rfl ?_
          refine sw_iload_n (n := 60) F 2 rfl rfl dX4_netOf_59 rfl ?_
          refine sw_callV (n := 63) F (ct_X4_roundedNet (g := xg x) (l := xl x) o a (va_up z 2 (nsZ Md Cu Nt inv (Bl inv) (z 2) k)) D1 M1 Md Cu (Nt ((12 * (inv)) + (k))) inv (by first | assumption | omega) hMd hCu hinv (by first | omega | assumption) (by first | assumption | (simp only [va_up_self]; assumption) | exact hzk)) (rcv_ob F 0 (ci := 3) rfl rfl) q4233 q4235 qs96 q120 q4236 nd_X4_roundedNet rfl (by decide) [0, 1, 2, 3, 4, 5, 6, 7] rfl [aI (xg x) 0 (a 22) 20 Ln, aI (xg x) 4 (a 23) 20 Bl, aL (xg x) (a 25) 240 Nt] rfl 0 0 ⟨by omega, by omega⟩ [.long (jL (nsS Md Cu Nt inv (Bl inv) k))] rfl (Nat.le_of_ble_eq_true rfl) dX4_netOf_60 rfl (fun _ _ h => h.elim) (fun v Ws h => ?_)
          obtain ⟨D1_6, M1_7, rfl, hV_8, rfl⟩ := h
          show SW x [tmO (xg x) o a (va_up (va_up z 2 (nsZ Md Cu Nt inv (Bl inv) (z 2) k)) 2 (paZ Md Cu inv (Nt ((12 * (inv)) + (k))) 1 1000000 ((nsZ Md Cu Nt inv (Bl inv) (z 2) k)))), aN (xg x) 0 (a 0) 2400 D1_6, aN (xg x) 0 (a 1) 10 M1_7, aI (xg x) 2 (a 11) 4 Md, aI (xg x) 0 (a 21) 20 Cu, aI (xg x) 0 (a 22) 20 Ln, aI (xg x) 4 (a 23) 20 Bl, aL (xg x) (a 25) 240 Nt] _ _ _ _ [.long (jL (↑(paQ Md Cu inv (Nt ((12 * (inv)) + (k))) 1 1000000))), .long (jL (nsS Md Cu Nt inv (Bl inv) k))]
          have a_9 := hV_8.1
          have v_10 := (hRV.mono (T := [0, 1, 2, 3, 5, 6, 7, 8, 9]) (by simp)).trans hV_8 (by simp)
          refine sw_goto F (n := 67) dX4_netOf_63 (by decide) ?_
          refine sw_ladd (n := 68) F dX4_netOf_67 rfl ?_
          refine sw_lstore_n (n := 69) F (L2 := [(2, .long (jL ((nsS Md Cu Nt inv (Bl inv) k) + (↑(paQ Md Cu inv (Nt ((12 * (inv)) + (k))) 1 1000000))))), (4, .long (jL ((nsE Nt inv k) + (Nt ((12 * (inv)) + (k)))))), (0, .ref o), (1, .int (jI (↑inv))), (6, .int (jI (↑k)))]) rfl (by decide) rfl dX4_netOf_68 rfl ?_
          have ez : nsZ Md Cu Nt inv (Bl inv) (z 2) (k + 1) = paZ Md Cu inv (Nt (12 * inv + k)) 1 1000000 (nsZ Md Cu Nt inv (Bl inv) (z 2) k) := by simp only [nsZ]; rw [if_neg c_43]
          have es : nsS Md Cu Nt inv (Bl inv) (k + 1) = nsS Md Cu Nt inv (Bl inv) k + ↑(paQ Md Cu inv (Nt (12 * inv + k)) 1 1000000) := by simp only [nsS]; rw [if_neg c_43]
          refine SW.cast (Ps' := [tmO (xg x) o a (va_up z 2 (nsZ Md Cu Nt inv (Bl inv) (z 2) (k + 1))), aN (xg x) 0 (a 0) 2400 D1_6, aN (xg x) 0 (a 1) 10 M1_7, aI (xg x) 2 (a 11) 4 Md, aI (xg x) 0 (a 21) 20 Cu, aI (xg x) 0 (a 22) 20 Ln, aI (xg x) 4 (a 23) 20 Bl, aL (xg x) (a 25) 240 Nt]) (L' := [(2, .long (jL (nsS Md Cu Nt inv (Bl inv) (k + 1)))), (4, .long (jL (nsE Nt inv (k + 1)))), (0, .ref o), (1, .int (jI (↑inv))), (6, .int (jI (↑k)))]) ?_ (by rw [ez]; simp only [up_upI]) (by rw [es]; rfl) rfl
          refine sw_iinc (n := 72) F 4 (L2 := [(6, .int (jI (↑k + 1))), (2, .long (jL (nsS Md Cu Nt inv (Bl inv) (k + 1)))), (4, .long (jL (nsE Nt inv (k + 1)))), (0, .ref o), (1, .int (jI (↑inv)))]) rfl rfl (by decide) dX4_netOf_69 rfl ?_
          refine sw_goto F (n := 8) dX4_netOf_72 (by decide) ?_
          refine sw_loc [3, 4, 1, 2, 0] (L2 := [(0, .ref o), (1, .int (jI (↑inv))), (2, .long (jL (nsS Md Cu Nt inv (Bl inv) (k + 1)))), (4, .long (jL (nsE Nt inv (k + 1)))), (6, .int (jI (↑k + 1)))]) rfl ?_
          rw [show (↑k + 1 : Int) = ↑(k + 1) by omega]
          exact ih8 D1_6 M1_7 (k + 1) (by first | assumption | (exact RV.rf hA) | exact (RV.rf hA).mono (S := []) (by simp)) (by omega) (by omega)
  refine sw_loc [3, 4, 2, 1, 0] (L2 := [(0, .ref o), (1, .int (jI (↑inv))), (2, .long (jL 0)), (4, .long (jL 0)), (6, .int (jI 0))]) rfl ?_
  show SW x _ _ _ _ [(0, .ref o), (1, .int (jI (↑inv))), (2, .long (jL (nsS Md Cu Nt inv (Bl inv) 0))), (4, .long (jL (nsE Nt inv 0))), (6, .int (jI 0))] _
  exact K8 _ D M 0 (by first | assumption | (exact RV.rf hA) | exact (RV.rf hA).mono (S := []) (by simp)) (by omega) (Nat.lt_succ_self _)
