def inV (u p d y m : Int) : Int := (rnd m 0 (u.natAbs * (p * d).natAbs) (10000 * y).natAbs : Int)
def inZ (u p d y m z : Int) : Int := rfz m (u.natAbs * (p * d).natAbs) (10000 * y).natAbs z
def moV (l p : Int) : Int := l * p / 120000 + (if 60000 < l * p % 120000 ∨ (l * p % 120000 = 60000 ∧ l * p / 120000 % 2 = 1) then 1 else 0)
theorem mul_rng {a b x y : Int} (h1 : 0 ≤ a ∧ a ≤ x) (h2 : 0 ≤ b ∧ b ≤ y) : 0 ≤ a * b ∧ a * b ≤ x * y :=
  ⟨Int.mul_nonneg h1.1 h2.1, Int.mul_le_mul h1.2 h2.2 h2.1 (by omega)⟩
theorem moV_rng {l p : Int} (h1 : 0 ≤ l ∧ l ≤ 1000000000000) (h2 : 0 ≤ p ∧ p ≤ 9999) : 0 ≤ moV l p ∧ moV l p ≤ 83325000001 := by
  have := mul_rng h1 h2
  unfold moV; split <;> omega
theorem moV_lt {l p : Int} (h1 : 0 < l) (h2 : 0 ≤ p ∧ p ≤ 9999) : moV l p ≤ l := by
  have := mul_rng (a := p) (b := l) (x := 9999) (y := l) h2 (by omega)
  rw [Int.mul_comm] at this
  unfold moV; split <;> omega
def wgP (w n : Int) : Int := if w < 0 ∨ 9999 < w then 1 else if n = 12 then 2 else 0
theorem wgP_c (w n : Int) : (wgP w n = 1 ∧ (w < 0 ∨ 9999 < w)) ∨ (wgP w n = 2 ∧ ¬(w < 0 ∨ 9999 < w) ∧ (n = 12)) ∨ (wgP w n = 0 ∧ ¬(w < 0 ∨ 9999 < w) ∧ ¬(n = 12)) := by
  unfold wgP
  by_cases h0 : w < 0 ∨ 9999 < w
  · rw [if_pos h0]; exact Or.inl ⟨rfl, h0⟩
  · rw [if_neg h0]
    by_cases h1 : n = 12
    · rw [if_pos h1]; exact Or.inr (Or.inl ⟨rfl, h0, h1⟩)
    · rw [if_neg h1]
      exact Or.inr (Or.inr (⟨rfl, h0, h1⟩))
theorem wgP_nn (w n : Int) : 0 ≤ wgP w n ∧ wgP w n ≤ 2 := by
  unfold wgP
  by_cases h0 : w < 0 ∨ 9999 < w
  · rw [if_pos h0]; decide
  · rw [if_neg h0]
    by_cases h1 : n = 12
    · rw [if_pos h1]; decide
    · rw [if_neg h1]
      decide
theorem wgP_0 (w n : Int) (h : wgP w n = 0) : ¬(w < 0 ∨ 9999 < w) ∧ ¬(n = 12) := by
  revert h
  unfold wgP
  by_cases h0 : w < 0 ∨ 9999 < w
  · rw [if_pos h0]; exact fun h => absurd h (by decide)
  · rw [if_neg h0]
    by_cases h1 : n = 12
    · rw [if_pos h1]; exact fun h => absurd h (by decide)
    · rw [if_neg h1]
      exact fun _ => ⟨h0, h1⟩
def prP (n k : Int) : Int := if n < 0 ∨ k - 1 < n then 1 else 0
theorem prP_c (n k : Int) : (prP n k = 1 ∧ (n < 0 ∨ k - 1 < n)) ∨ (prP n k = 0 ∧ ¬(n < 0 ∨ k - 1 < n)) := by
  unfold prP
  by_cases h0 : n < 0 ∨ k - 1 < n
  · rw [if_pos h0]; exact Or.inl ⟨rfl, h0⟩
  · rw [if_neg h0]
    exact Or.inr (⟨rfl, h0⟩)
theorem prP_nn (n k : Int) : 0 ≤ prP n k ∧ prP n k ≤ 1 := by
  unfold prP
  by_cases h0 : n < 0 ∨ k - 1 < n
  · rw [if_pos h0]; decide
  · rw [if_neg h0]
    decide
theorem prP_0 (n k : Int) (h : prP n k = 0) : ¬(n < 0 ∨ k - 1 < n) := by
  revert h
  unfold prP
  by_cases h0 : n < 0 ∨ k - 1 < n
  · rw [if_pos h0]; exact fun h => absurd h (by decide)
  · rw [if_neg h0]
    exact fun _ => h0
def inP (u p d y m : Int) : Int := if u < 0 ∨ 1000000000000 < u ∨ p < 0 ∨ 9999 < p ∨ d < 0 ∨ 9999 < d ∨ ¬(y = 360 ∨ y = 365 ∨ y = 366) ∨ mdI m = 0 then 1 else 0
theorem inP_c (u p d y m : Int) : (inP u p d y m = 1 ∧ (u < 0 ∨ 1000000000000 < u ∨ p < 0 ∨ 9999 < p ∨ d < 0 ∨ 9999 < d ∨ ¬(y = 360 ∨ y = 365 ∨ y = 366) ∨ mdI m = 0)) ∨ (inP u p d y m = 0 ∧ ¬(u < 0 ∨ 1000000000000 < u ∨ p < 0 ∨ 9999 < p ∨ d < 0 ∨ 9999 < d ∨ ¬(y = 360 ∨ y = 365 ∨ y = 366) ∨ mdI m = 0)) := by
  unfold inP
  by_cases h0 : u < 0 ∨ 1000000000000 < u ∨ p < 0 ∨ 9999 < p ∨ d < 0 ∨ 9999 < d ∨ ¬(y = 360 ∨ y = 365 ∨ y = 366) ∨ mdI m = 0
  · rw [if_pos h0]; exact Or.inl ⟨rfl, h0⟩
  · rw [if_neg h0]
    exact Or.inr (⟨rfl, h0⟩)
theorem inP_nn (u p d y m : Int) : 0 ≤ inP u p d y m ∧ inP u p d y m ≤ 1 := by
  unfold inP
  by_cases h0 : u < 0 ∨ 1000000000000 < u ∨ p < 0 ∨ 9999 < p ∨ d < 0 ∨ 9999 < d ∨ ¬(y = 360 ∨ y = 365 ∨ y = 366) ∨ mdI m = 0
  · rw [if_pos h0]; decide
  · rw [if_neg h0]
    decide
theorem inP_0 (u p d y m : Int) (h : inP u p d y m = 0) : ¬(u < 0 ∨ 1000000000000 < u ∨ p < 0 ∨ 9999 < p ∨ d < 0 ∨ 9999 < d ∨ ¬(y = 360 ∨ y = 365 ∨ y = 366) ∨ mdI m = 0) := by
  revert h
  unfold inP
  by_cases h0 : u < 0 ∨ 1000000000000 < u ∨ p < 0 ∨ 9999 < p ∨ d < 0 ∨ 9999 < d ∨ ¬(y = 360 ∨ y = 365 ∨ y = 366) ∨ mdI m = 0
  · rw [if_pos h0]; exact fun h => absurd h (by decide)
  · rw [if_neg h0]
    exact fun _ => h0
def imP (n k c : Int) : Int := if ¬(c = 105 ∨ c = 112 ∨ c = 111 ∨ c = 115) then 1 else if n < 0 ∨ k - 1 < n then 2 else 0
theorem imP_c (n k c : Int) : (imP n k c = 1 ∧ (¬(c = 105 ∨ c = 112 ∨ c = 111 ∨ c = 115))) ∨ (imP n k c = 2 ∧ ¬(¬(c = 105 ∨ c = 112 ∨ c = 111 ∨ c = 115)) ∧ (n < 0 ∨ k - 1 < n)) ∨ (imP n k c = 0 ∧ ¬(¬(c = 105 ∨ c = 112 ∨ c = 111 ∨ c = 115)) ∧ ¬(n < 0 ∨ k - 1 < n)) := by
  unfold imP
  by_cases h0 : ¬(c = 105 ∨ c = 112 ∨ c = 111 ∨ c = 115)
  · rw [if_pos h0]; exact Or.inl ⟨rfl, h0⟩
  · rw [if_neg h0]
    by_cases h1 : n < 0 ∨ k - 1 < n
    · rw [if_pos h1]; exact Or.inr (Or.inl ⟨rfl, h0, h1⟩)
    · rw [if_neg h1]
      exact Or.inr (Or.inr (⟨rfl, h0, h1⟩))
theorem imP_nn (n k c : Int) : 0 ≤ imP n k c ∧ imP n k c ≤ 2 := by
  unfold imP
  by_cases h0 : ¬(c = 105 ∨ c = 112 ∨ c = 111 ∨ c = 115)
  · rw [if_pos h0]; decide
  · rw [if_neg h0]
    by_cases h1 : n < 0 ∨ k - 1 < n
    · rw [if_pos h1]; decide
    · rw [if_neg h1]
      decide
theorem imP_0 (n k c : Int) (h : imP n k c = 0) : ¬(¬(c = 105 ∨ c = 112 ∨ c = 111 ∨ c = 115)) ∧ ¬(n < 0 ∨ k - 1 < n) := by
  revert h
  unfold imP
  by_cases h0 : ¬(c = 105 ∨ c = 112 ∨ c = 111 ∨ c = 115)
  · rw [if_pos h0]; exact fun h => absurd h (by decide)
  · rw [if_neg h0]
    by_cases h1 : n < 0 ∨ k - 1 < n
    · rw [if_pos h1]; exact fun h => absurd h (by decide)
    · rw [if_neg h1]
      exact fun _ => ⟨h0, h1⟩
theorem nd_X4_weigh : yX4_weigh.cls ≠ "java/lang/invoke/MethodHandle" ∧ yX4_weigh.cls ≠ "java/lang/invoke/VarHandle" ∧ (parseMethodDescriptor yX4_weigh.desc).map (fun d => d.parameters.length) = some 1 := by decide +kernel
set_option maxRecDepth 100000 in
set_option maxHeartbeats 16000000 in
theorem ct_X4_weigh {g : GG} {l : Launch} (o : Nat) (a : Nat → Nat) (z : Nat → Int) (Wg : Nat → Int) (w9 : Int) (hw : -2147483648 ≤ w9 ∧ w9 ≤ 2147483647) (hz31 : 0 ≤ z 31 ∧ z 31 ≤ 12) : Ct g l yX4_weigh (ws_ yX4_weigh cX4_weigh 2 (Option.some Jvm.ClassFile.FieldType.int)) 2 37 0 0 [.ref o, .int (jI w9)] [tmO g o a z, aI g 0 (a 28) 12 Wg] (fun v9 Ws9 => v9 = some (.int (jI (if0 (wgP w9 (z 31)) (z 31 + 1)))) ∧ Ws9 = [tmO g o a (up0 (wgP w9 (z 31)) (va_up z 8 (wgP w9 (z 31))) 31 (z 31 + 1)), aI g 0 (a 28) 12 (up0 (wgP w9 (z 31)) Wg (z 31).toNat w9)]) (nox) := by
  refine Ct.of (cc := cX4_weigh) (nL := 2) (ret := (Option.some Jvm.ClassFile.FieldType.int)) (by decide) rfl (Nat.le_of_ble_eq_true rfl) ?_
  intro x hg hl hPo hPx hmc hms F
  subst hg; subst hl
  refine SW.cast (L' := [(0, .ref o), (1, .int (jI w9))]) ?_ rfl rfl rfl
  refine sw_aload_n (n := 1) F 0 (some o) rfl rfl rfl dX4_weigh_0 rfl ?_
  have K31 : ∀ (p9 : Int), (p9 = wgP w9 (z 31)) → SW x [tmO (xg x) o a z, aI (xg x) 0 (a 28) 12 Wg] 0 0 31 [(0, .ref o), (1, .int (jI w9))] [.int (jI p9), .ref o] := by
    intro p9 hpc
    subst hpc
    have hcs := wgP_nn w9 (z 31)
    refine sw_callV (n := 34) F (ct_X4_fails (g := xg x) (l := xl x) o a z (wgP w9 (z 31)) (by first | omega | assumption)) (rcv_ob F 0 (ci := 3) rfl rfl) q3973 q3975 qs68 q120 q3976 nd_X4_fails rfl (by decide) [0, 1] rfl [aI (xg x) 0 (a 28) 12 Wg] rfl 0 0 ⟨by omega, by omega⟩ [] rfl (Nat.le_of_ble_eq_true rfl) dX4_weigh_31 rfl (fun _ _ h => h.elim) (fun v Ws h => ?_)
    obtain ⟨rfl, hps_1, rfl⟩ := h
    show SW x [tmO (xg x) o a (va_up z 8 (wgP w9 (z 31))), aI (xg x) 0 (a 28) 12 Wg] _ _ _ _ [.int (jI (psI (wgP w9 (z 31))))]
    refine sw_if_eq (n := 37) F (by omega) (tgt := 39) dX4_weigh_34 (by decide) rfl (fun c_34 => ?_) (fun c_34 => ?_)
    ·
      have e0 : wgP w9 (z 31) = 0 := by omega
      obtain ⟨hz0, hz1⟩ := wgP_0 w9 (z 31) e0
      have rg0 : z 31 ≤ 11 := by omega
      clear hz0 hz1 hcs c_34 hps_1
      refine sw_aload_n (n := 40) F 0 (some o) rfl rfl rfl dX4_weigh_39 rfl ?_
      refine sw_get (n := 43) F 0 rfl (k := 28) ⟨(RX4, TX4, 50), rfl, by decide, q3827, in_X4, Or.inl rfl⟩ (v := .ref (a 28)) rfl dX4_weigh_40 rfl ?_
      refine sw_aload_n (n := 44) F 0 (some o) rfl rfl rfl dX4_weigh_43 rfl ?_
      refine sw_get (n := 47) F 0 rfl (k := 31) ⟨(RX4, TX4, 50), rfl, by decide, q3830, in_X4, Or.inl rfl⟩ (v := .int (jI (z 31))) rfl dX4_weigh_44 rfl ?_
      refine sw_iload_n (n := 48) F 1 rfl rfl dX4_weigh_47 rfl ?_
      refine sw_iastoreI (n := 49) F 1 rfl (fun _ => rfl) ((z 31 : Int).toNat) (by omega) (by omega) [tmO (xg x) o a (va_up z 8 (wgP w9 (z 31))), aI (xg x) 0 (a 28) 12 (va_up Wg ((z 31 : Int).toNat) w9)] (by simp [List.set]) dX4_weigh_48 rfl ?_
      refine sw_aload_n (n := 50) F 0 (some o) rfl rfl rfl dX4_weigh_49 rfl ?_
      refine sw_dup (n := 51) F rfl dX4_weigh_50 rfl ?_
      refine sw_get (n := 54) F 0 rfl (k := 31) ⟨(RX4, TX4, 50), rfl, by decide, q3830, in_X4, Or.inl rfl⟩ (v := .int (jI (z 31))) rfl dX4_weigh_51 rfl ?_
      refine sw_iconst (n := 55) F (1) (by decide) dX4_weigh_54 rfl ?_
      refine sw_iadd (n := 56) F dX4_weigh_55 rfl ?_
      refine sw_put (n := 59) F 0 rfl (k := 31) ⟨(RX4, TX4, 50), rfl, by decide, q3830, in_X4, Or.inl rfl⟩ .int ⟨(RX4, TX4, 50), rfl, rfl, tyX4_ok 31 (by decide), nmX4, tyX4, tyX4_ok⟩ rfl rfl (Nat.le_of_ble_eq_true rfl) (fs' := tmF a (va_up (va_up z 8 (wgP w9 (z 31))) 31 ((z 31) + 1))) rfl [tmO (xg x) o a (va_up (va_up z 8 (wgP w9 (z 31))) 31 ((z 31) + 1)), aI (xg x) 0 (a 28) 12 (va_up Wg ((z 31 : Int).toNat) w9)] rfl dX4_weigh_56 rfl ?_
      refine sw_aload_n (n := 60) F 0 (some o) rfl rfl rfl dX4_weigh_59 rfl ?_
      refine sw_get (n := 63) F 0 rfl (k := 31) ⟨(RX4, TX4, 50), rfl, by decide, q3830, in_X4, Or.inl rfl⟩ (v := .int (jI ((z 31) + 1))) rfl dX4_weigh_60 rfl ?_
      have e0 : wgP w9 (z 31) = 0 := by omega
      exact sw_iret F _ rfl (by first | rfl | exact jI_nz (by omega) | exact jI_nc (by omega)) dX4_weigh_63 (by rw [hPo]; exact ⟨(by rw [if0_p e0]), (by simp only [up0_p e0, up_88])⟩)
    ·
      refine sw_iconst (n := 38) F (0) (by decide) dX4_weigh_37 rfl ?_
      have e0 : wgP w9 (z 31) ≠ 0 := by omega
      exact sw_iret F _ rfl (by first | rfl | exact jI_nz (by omega) | exact jI_nc (by omega)) dX4_weigh_38 (by rw [hPo]; exact ⟨(by rw [if0_n e0]), (by simp only [up0_n e0, up_88])⟩)
  refine sw_iload_n (n := 2) F 1 rfl rfl dX4_weigh_1 rfl ?_
  refine sw_i2l (n := 3) F (by omega) dX4_weigh_2 rfl ?_
  refine sw_lconst (n := 4) F 0 (by decide) dX4_weigh_3 rfl ?_
  refine sw_ldc2 (n := 7) F (9999) q4195 (by decide) dX4_weigh_4 rfl ?_
  refine sw_callS (n := 10) F (ct_X4_in (g := xg x) (l := xl x) w9 0 9999 (by first | omega | assumption) (by first | omega | assumption) (by first | omega | assumption)) q3963 q3964 q120 q3965 nd_X4_in rfl (by decide) [0, 1] rfl [tmO (xg x) o a z, aI (xg x) 0 (a 28) 12 Wg] rfl 0 0 ⟨by omega, by omega⟩ [.ref o] rfl (Nat.le_of_ble_eq_true rfl) dX4_weigh_7 rfl (fun _ _ h => h.elim) (fun v Ws h => ?_)
  obtain ⟨rfl, hs_2, rfl⟩ := h
  show SW x [tmO (xg x) o a z, aI (xg x) 0 (a 28) 12 Wg] _ _ _ _ [.int (jI (inI w9 0 9999)), .ref o]
  refine sw_if_ne (n := 13) F (by omega) (tgt := 17) dX4_weigh_10 (by decide) rfl (fun c_10 => ?_) (fun c_10 => ?_)
  ·
    refine sw_aload_n (n := 18) F 0 (some o) rfl rfl rfl dX4_weigh_17 rfl ?_
    refine sw_get (n := 21) F 0 rfl (k := 31) ⟨(RX4, TX4, 50), rfl, by decide, q3830, in_X4, Or.inl rfl⟩ (v := .int (jI (z 31))) rfl dX4_weigh_18 rfl ?_
    refine sw_bipush (n := 23) F (12) (by decide) dX4_weigh_21 rfl ?_
    refine sw_icmp_ne (n := 26) F (by omega) (by decide) (tgt := 30) dX4_weigh_23 (by decide) rfl (fun c_23 => ?_) (fun c_23 => ?_)
    ·
      refine sw_iconst (n := 31) F (0) (by decide) dX4_weigh_30 rfl ?_
      exact K31 0 (by unfold wgP; (repeat' split) <;> omega)
    ·
      refine sw_iconst (n := 27) F (2) (by decide) dX4_weigh_26 rfl ?_
      refine sw_goto F (n := 31) dX4_weigh_27 (by decide) ?_
      exact K31 2 (by unfold wgP; (repeat' split) <;> omega)
  ·
    refine sw_iconst (n := 14) F (1) (by decide) dX4_weigh_13 rfl ?_
    refine sw_goto F (n := 31) dX4_weigh_14 (by decide) ?_
    exact K31 1 (by unfold wgP; (repeat' split) <;> omega)
theorem nd_X4_part_2 : yX4_part_2.cls ≠ "java/lang/invoke/MethodHandle" ∧ yX4_part_2.cls ≠ "java/lang/invoke/VarHandle" ∧ (parseMethodDescriptor yX4_part_2.desc).map (fun d => d.parameters.length) = some 1 := by decide +kernel
set_option maxRecDepth 100000 in
set_option maxHeartbeats 16000000 in
theorem ct_X4_part_2 {g : GG} {l : Launch} (o : Nat) (a : Nat → Nat) (z : Nat → Int) (Sh : Nat → Int) (n : Int) (hn : -2147483648 ≤ n ∧ n ≤ 2147483647) (hz32 : 0 ≤ z 32 ∧ z 32 ≤ 12) : Ct g l yX4_part_2 (ws_ yX4_part_2 cX4_part_2 2 (Option.some Jvm.ClassFile.FieldType.long)) 2 37 0 0 [.ref o, .int (jI n)] [tmO g o a z, aL g (a 29) 12 Sh] (fun v9 Ws9 => v9 = some (.long (jL (if0 (prP n (z 32)) (Sh n.toNat)))) ∧ Ws9 = [tmO g o a (va_up z 8 (prP n (z 32))), aL g (a 29) 12 Sh]) (nox) := by
  refine Ct.of (cc := cX4_part_2) (nL := 2) (ret := (Option.some Jvm.ClassFile.FieldType.long)) (by decide) rfl (Nat.le_of_ble_eq_true rfl) ?_
  intro x hg hl hPo hPx hmc hms F
  subst hg; subst hl
  refine SW.cast (L' := [(0, .ref o), (1, .int (jI n))]) ?_ rfl rfl rfl
  refine sw_aload_n (n := 1) F 0 (some o) rfl rfl rfl dX4_part_2_0 rfl ?_
  have K22 : ∀ (p9 : Int), (p9 = prP n (z 32)) → SW x [tmO (xg x) o a z, aL (xg x) (a 29) 12 Sh] 0 0 22 [(0, .ref o), (1, .int (jI n))] [.int (jI p9), .ref o] := by
    intro p9 hpc
    subst hpc
    have hcs := prP_nn n (z 32)
    refine sw_callV (n := 25) F (ct_X4_fails (g := xg x) (l := xl x) o a z (prP n (z 32)) (by first | omega | assumption)) (rcv_ob F 0 (ci := 3) rfl rfl) q3973 q3975 qs68 q120 q3976 nd_X4_fails rfl (by decide) [0, 1] rfl [aL (xg x) (a 29) 12 Sh] rfl 0 0 ⟨by omega, by omega⟩ [] rfl (Nat.le_of_ble_eq_true rfl) dX4_part_2_22 rfl (fun _ _ h => h.elim) (fun v Ws h => ?_)
    obtain ⟨rfl, hps_1, rfl⟩ := h
    show SW x [tmO (xg x) o a (va_up z 8 (prP n (z 32))), aL (xg x) (a 29) 12 Sh] _ _ _ _ [.int (jI (psI (prP n (z 32))))]
    refine sw_if_eq (n := 28) F (by omega) (tgt := 32) dX4_part_2_25 (by decide) rfl (fun c_25 => ?_) (fun c_25 => ?_)
    ·
      have e0 : prP n (z 32) = 0 := by omega
      obtain hz0 := prP_0 n (z 32) e0
      have rg0 : 0 ≤ n ∧ n ≤ 11 := by omega
      clear hz0 hcs c_25 hps_1
      refine sw_aload_n (n := 33) F 0 (some o) rfl rfl rfl dX4_part_2_32 rfl ?_
      refine sw_get (n := 36) F 0 rfl (k := 29) ⟨(RX4, TX4, 50), rfl, by decide, q3828, in_X4, Or.inl rfl⟩ (v := .ref (a 29)) rfl dX4_part_2_33 rfl ?_
      refine sw_iload_n (n := 37) F 1 rfl rfl dX4_part_2_36 rfl ?_
      refine sw_laloadL (n := 38) F 1 rfl (fun _ => rfl) ((n : Int).toNat) (by omega) (by omega) dX4_part_2_37 rfl ?_
      have e0 : prP n (z 32) = 0 := by omega
      exact sw_lret F rfl dX4_part_2_38 (by rw [hPo]; exact ⟨(by rw [if0_p e0]), rfl⟩)
    ·
      refine sw_lconst (n := 29) F 0 (by decide) dX4_part_2_28 rfl ?_
      refine sw_goto F (n := 38) dX4_part_2_29 (by decide) ?_
      have e0 : prP n (z 32) ≠ 0 := by omega
      exact sw_lret F rfl dX4_part_2_38 (by rw [hPo]; exact ⟨(by rw [if0_n e0]), rfl⟩)
  refine sw_iload_n (n := 2) F 1 rfl rfl dX4_part_2_1 rfl ?_
  refine sw_i2l (n := 3) F (by omega) dX4_part_2_2 rfl ?_
  refine sw_lconst (n := 4) F 0 (by decide) dX4_part_2_3 rfl ?_
  refine sw_aload_n (n := 5) F 0 (some o) rfl rfl rfl dX4_part_2_4 rfl ?_
  refine sw_get (n := 8) F 0 rfl (k := 32) ⟨(RX4, TX4, 50), rfl, by decide, q3831, in_X4, Or.inl rfl⟩ (v := .int (jI (z 32))) rfl dX4_part_2_5 rfl ?_
  refine sw_iconst (n := 9) F (1) (by decide) dX4_part_2_8 rfl ?_
  refine sw_isub (n := 10) F dX4_part_2_9 rfl ?_
  refine sw_i2l (n := 11) F (by omega) dX4_part_2_10 rfl ?_
  refine sw_callS (n := 14) F (ct_X4_in (g := xg x) (l := xl x) n 0 ((z 32) - 1) (by first | omega | assumption) (by first | omega | assumption) (by first | omega | assumption)) q3963 q3964 q120 q3965 nd_X4_in rfl (by decide) [0, 1] rfl [tmO (xg x) o a z, aL (xg x) (a 29) 12 Sh] rfl 0 0 ⟨by omega, by omega⟩ [.ref o] rfl (Nat.le_of_ble_eq_true rfl) dX4_part_2_11 rfl (fun _ _ h => h.elim) (fun v Ws h => ?_)
  obtain ⟨rfl, hs_2, rfl⟩ := h
  show SW x [tmO (xg x) o a z, aL (xg x) (a 29) 12 Sh] _ _ _ _ [.int (jI (inI n 0 ((z 32) - 1))), .ref o]
  refine sw_if_eq (n := 17) F (by omega) (tgt := 21) dX4_part_2_14 (by decide) rfl (fun c_14 => ?_) (fun c_14 => ?_)
  ·
    refine sw_iconst (n := 22) F (1) (by decide) dX4_part_2_21 rfl ?_
    exact K22 1 (by unfold prP; (repeat' split) <;> omega)
  ·
    refine sw_iconst (n := 18) F (0) (by decide) dX4_part_2_17 rfl ?_
    refine sw_goto F (n := 22) dX4_part_2_18 (by decide) ?_
    exact K22 0 (by unfold prP; (repeat' split) <;> omega)
theorem nd_X4_interest : yX4_interest.cls ≠ "java/lang/invoke/MethodHandle" ∧ yX4_interest.cls ≠ "java/lang/invoke/VarHandle" ∧ (parseMethodDescriptor yX4_interest.desc).map (fun d => d.parameters.length) = some 5 := by decide +kernel
set_option maxRecDepth 100000 in
set_option maxHeartbeats 16000000 in
theorem ct_X4_interest {g : GG} {l : Launch} (o : Nat) (a : Nat → Nat) (z : Nat → Int) (D : Nat → Nat) (M : Nat → Nat) (u : Int) (p : Int) (d : Int) (y : Int) (m : Int) (hA : Dok D M) (hu : -9223372036854775808 ≤ u ∧ u ≤ 9223372036854775807) (hp : -2147483648 ≤ p ∧ p ≤ 2147483647) (hd : -2147483648 ≤ d ∧ d ≤ 2147483647) (hy : -2147483648 ≤ y ∧ y ≤ 2147483647) (hm : 0 ≤ m ∧ m ≤ 65535) : Ct g l yX4_interest (ws_ yX4_interest cX4_interest 8 (Option.some Jvm.ClassFile.FieldType.long)) 6 127 0 0 [.ref o, .long (jL u), .int (jI p), .int (jI d), .int (jI y), .int (jI m)] [tmO g o a z, aN g 0 (a 0) 2400 D, aN g 0 (a 1) 10 M] (fun v9 Ws9 => ∃ D1 : Nat → Nat, ∃ M1 : Nat → Nat, v9 = some (.long (jL (if0 (cd2 2 (inP u p d y m) (lrI (inZ u p d y m 0) 1)) (inV u p d y m)))) ∧ (RV [0, 1, 2, 3, 5, 6, 7, 8, 9] D M D1 M1) ∧ Ws9 = [tmO g o a (va_up (up0 (inP u p d y m) z 2 (inZ u p d y m 0)) 8 (cd2 2 (inP u p d y m) (lrI (inZ u p d y m 0) 1))), aN g 0 (a 0) 2400 D1, aN g 0 (a 1) 10 M1]) (nox) := by
  refine Ct.of (cc := cX4_interest) (nL := 8) (ret := (Option.some Jvm.ClassFile.FieldType.long)) (by decide) rfl (Nat.le_of_ble_eq_true rfl) ?_
  intro x hg hl hPo hPx hmc hms F
  subst hg; subst hl
  refine SW.cast (L' := [(0, .ref o), (1, .long (jL u)), (3, .int (jI p)), (4, .int (jI d)), (5, .int (jI y)), (6, .int (jI m))]) ?_ rfl rfl rfl
  have hmd := mdI_cases m
  refine sw_iload (n := 2) F 4 rfl dX4_interest_0 rfl ?_
  have K86 : ∀ (p9 : Int), (p9 = inP u p d y m) → SW x [tmO (xg x) o a z, aN (xg x) 0 (a 0) 2400 D, aN (xg x) 0 (a 1) 10 M] 0 0 86 [(0, .ref o), (1, .long (jL u)), (3, .int (jI p)), (4, .int (jI d)), (5, .int (jI y)), (6, .int (jI m))] [.int (jI p9), .ref o] := by
    intro p9 hpc
    subst hpc
    have hcs := inP_nn u p d y m
    refine sw_callV (n := 89) F (ct_X4_fails (g := xg x) (l := xl x) o a z (inP u p d y m) (by first | omega | assumption)) (rcv_ob F 0 (ci := 3) rfl rfl) q3973 q3975 qs68 q120 q3976 nd_X4_fails rfl (by decide) [0, 1, 2] rfl [aN (xg x) 0 (a 0) 2400 D, aN (xg x) 0 (a 1) 10 M] rfl 0 0 ⟨by omega, by omega⟩ [] rfl (Nat.le_of_ble_eq_true rfl) dX4_interest_86 rfl (fun _ _ h => h.elim) (fun v Ws h => ?_)
    obtain ⟨rfl, hps_1, rfl⟩ := h
    show SW x [tmO (xg x) o a (va_up z 8 (inP u p d y m)), aN (xg x) 0 (a 0) 2400 D, aN (xg x) 0 (a 1) 10 M] _ _ _ _ [.int (jI (psI (inP u p d y m)))]
    refine sw_if_eq (n := 92) F (by omega) (tgt := 94) dX4_interest_89 (by decide) rfl (fun c_89 => ?_) (fun c_89 => ?_)
    ·
      have e0 : inP u p d y m = 0 := by omega
      obtain hz0 := inP_0 u p d y m e0
      have rg0 : 0 ≤ u ∧ u ≤ 1000000000000 := by omega
      have rg1 : 0 ≤ p ∧ p ≤ 9999 := by omega
      have rg2 : 0 ≤ d ∧ d ≤ 9999 := by omega
      have rg3 : 360 ≤ y ∧ y ≤ 366 := by omega
      clear hz0 hcs c_89 hps_1
      have hpd := mul_rng (a := p) (b := d) (x := 9999) (y := 9999) (by omega) (by omega)
      have hx0 := mul_big (x := u.natAbs) (y := (p * d).natAbs) (by omega) (by omega)
      have hx1 := b110 (l36 (x := u.natAbs) (y := (p * d).natAbs) (by omega) (by omega))
      have hx2 := b110 (l110 (x := (10000 * y).natAbs) (e := 0) (by omega) (by omega))
      refine sw_aload_n (n := 95) F 0 (some o) rfl rfl rfl dX4_interest_94 rfl ?_
      refine sw_iconst (n := 96) F (0) (by decide) dX4_interest_95 rfl ?_
      refine sw_put (n := 99) F 0 rfl (k := 2) ⟨(RX4, TX4, 50), rfl, by decide, q3801, in_X4, Or.inl rfl⟩ .boolean ⟨(RX4, TX4, 50), rfl, rfl, tyX4_ok 2 (by decide), nmX4, tyX4, tyX4_ok⟩ (jI_nz (by first | decide | omega)) (jI_fz (by first | decide | omega)) (Nat.le_of_ble_eq_true rfl) (fs' := tmF a (va_up (va_up z 2 0) 8 (inP u p d y m))) rfl [tmO (xg x) o a (va_up (va_up z 2 0) 8 (inP u p d y m)), aN (xg x) 0 (a 0) 2400 D, aN (xg x) 0 (a 1) 10 M] rfl dX4_interest_96 rfl ?_
      refine sw_aload_n (n := 100) F 0 (some o) rfl rfl rfl dX4_interest_99 rfl ?_
      refine sw_iconst (n := 101) F (0) (by decide) dX4_interest_100 rfl ?_
      refine sw_lload_n (n := 102) F 1 rfl rfl dX4_interest_101 rfl ?_
      refine sw_callV (n := 105) F (ct_X4_lets (g := xg x) (l := xl x) o a (va_up (va_up z 2 0) 8 (inP u p d y m)) D M 0 u (by first | omega | assumption) hA (by first | omega | assumption)) (rcv_ob F 0 (ci := 3) rfl rfl) q4004 q4006 qs71 q120 q4007 nd_X4_lets rfl (by decide) [0, 1, 2] rfl [] rfl 0 0 ⟨by omega, by omega⟩ [] rfl (Nat.le_of_ble_eq_true rfl) dX4_interest_102 rfl (fun _ _ h => h.elim) (fun v Ws h => ?_)
      obtain ⟨D1_2, M1_3, rfl, hU_4, rfl⟩ := h
      show SW x [tmO (xg x) o a (va_up (va_up z 2 0) 8 (inP u p d y m)), aN (xg x) 0 (a 0) 2400 D1_2, aN (xg x) 0 (a 1) 10 M1_3] _ _ _ _ []
      have a_5 := hU_4.1
      have r_6 : rok D1_2 M1_3 0 u.natAbs := hU_4.2.2.2
      have v_7 := hU_4.rv
      refine sw_aload_n (n := 106) F 0 (some o) rfl rfl rfl dX4_interest_105 rfl ?_
      refine sw_iconst (n := 107) F (5) (by decide) dX4_interest_106 rfl ?_
      refine sw_iload_n (n := 108) F 2 rfl rfl dX4_interest_107 rfl ?_
      refine sw_i2l (n := 109) F (by omega) dX4_interest_108 rfl ?_
      refine sw_iload (n := 111) F 3 rfl dX4_interest_109 rfl ?_
      refine sw_i2l (n := 112) F (by omega) dX4_interest_111 rfl ?_
      refine sw_lmul (n := 113) F dX4_interest_112 rfl ?_
      refine sw_callV (n := 116) F (ct_X4_lets (g := xg x) (l := xl x) o a (va_up (va_up z 2 0) 8 (inP u p d y m)) D1_2 M1_3 5 (p * d) (by first | omega | assumption) a_5 (by first | omega | assumption)) (rcv_ob F 0 (ci := 3) rfl rfl) q4004 q4006 qs71 q120 q4007 nd_X4_lets rfl (by decide) [0, 1, 2] rfl [] rfl 0 0 ⟨by omega, by omega⟩ [] rfl (Nat.le_of_ble_eq_true rfl) dX4_interest_113 rfl (fun _ _ h => h.elim) (fun v Ws h => ?_)
      obtain ⟨D1_8, M1_9, rfl, hU_10, rfl⟩ := h
      show SW x [tmO (xg x) o a (va_up (va_up z 2 0) 8 (inP u p d y m)), aN (xg x) 0 (a 0) 2400 D1_8, aN (xg x) 0 (a 1) 10 M1_9] _ _ _ _ []
      have a_11 := hU_10.1
      have r_12 : rok D1_8 M1_9 5 ((p * d).natAbs) := hU_10.2.2.2
      have k_13 := hU_10.keep (r := 0) (by first | omega | simp | (simp; omega)) r_6
      have v_14 := (v_7.mono (T := [0, 5]) (by simp)).trans hU_10.rv (by simp)
      refine sw_aload_n (n := 117) F 0 (some o) rfl rfl rfl dX4_interest_116 rfl ?_
      refine sw_iconst (n := 118) F (0) (by decide) dX4_interest_117 rfl ?_
      refine sw_iconst (n := 119) F (5) (by decide) dX4_interest_118 rfl ?_
      refine sw_callV (n := 122) F (ct_X4_times (g := xg x) (l := xl x) o a (va_up (va_up z 2 0) 8 (inP u p d y m)) D1_8 M1_9 0 5 u.natAbs ((p * d).natAbs) (by first | omega | assumption) (by first | omega | assumption) (by decide) (by decide) a_11 k_13 r_12 (by first | omega | assumption)) (rcv_ob F 0 (ci := 3) rfl rfl) q4083 q4085 qs85 q120 q4086 nd_X4_times rfl (by decide) [0, 1, 2] rfl [] rfl 0 0 ⟨by omega, by omega⟩ [] rfl (Nat.le_of_ble_eq_true rfl) dX4_interest_119 rfl (fun _ _ h => h.elim) (fun v Ws h => ?_)
      obtain ⟨D1_15, M1_16, rfl, hV_17, hr_18, rfl⟩ := h
      show SW x [tmO (xg x) o a (va_up (va_up z 2 0) 8 (inP u p d y m)), aN (xg x) 0 (a 0) 2400 D1_15, aN (xg x) 0 (a 1) 10 M1_16] _ _ _ _ []
      have a_19 := hV_17.1
      have k_20 := hV_17.keep (r := 5) (by first | omega | simp | (simp; omega)) r_12
      have v_21 := (v_14.mono (T := [0, 5, 6, 7]) (by simp)).trans hV_17 (by simp)
      refine sw_aload_n (n := 123) F 0 (some o) rfl rfl rfl dX4_interest_122 rfl ?_
      refine sw_iconst (n := 124) F (1) (by decide) dX4_interest_123 rfl ?_
      refine sw_ldc2 (n := 127) F (10000) q4258 (by decide) dX4_interest_124 rfl ?_
      refine sw_iload (n := 129) F 4 rfl dX4_interest_127 rfl ?_
      refine sw_i2l (n := 130) F (by omega) dX4_interest_129 rfl ?_
      refine sw_lmul (n := 131) F dX4_interest_130 rfl ?_
      refine sw_callV (n := 134) F (ct_X4_lets (g := xg x) (l := xl x) o a (va_up (va_up z 2 0) 8 (inP u p d y m)) D1_15 M1_16 1 (10000 * y) (by first | omega | assumption) a_19 (by first | omega | assumption)) (rcv_ob F 0 (ci := 3) rfl rfl) q4004 q4006 qs71 q120 q4007 nd_X4_lets rfl (by decide) [0, 1, 2] rfl [] rfl 0 0 ⟨by omega, by omega⟩ [] rfl (Nat.le_of_ble_eq_true rfl) dX4_interest_131 rfl (fun _ _ h => h.elim) (fun v Ws h => ?_)
      obtain ⟨D1_22, M1_23, rfl, hU_24, rfl⟩ := h
      show SW x [tmO (xg x) o a (va_up (va_up z 2 0) 8 (inP u p d y m)), aN (xg x) 0 (a 0) 2400 D1_22, aN (xg x) 0 (a 1) 10 M1_23] _ _ _ _ []
      have a_25 := hU_24.1
      have r_26 : rok D1_22 M1_23 1 ((10000 * y).natAbs) := hU_24.2.2.2
      have k_27 := hU_24.keep (r := 5) (by first | omega | simp | (simp; omega)) k_20
      have k_28 := hU_24.keep (r := 0) (by first | omega | simp | (simp; omega)) hr_18
      have v_29 := (v_21.mono (T := [0, 5, 6, 7, 1]) (by simp)).trans hU_24.rv (by simp)
      refine sw_aload_n (n := 135) F 0 (some o) rfl rfl rfl dX4_interest_134 rfl ?_
      refine sw_iconst (n := 136) F (0) (by decide) dX4_interest_135 rfl ?_
      refine sw_iload (n := 138) F 5 rfl dX4_interest_136 rfl ?_
      refine sw_callV (n := 141) F (ct_X4_rounds (g := xg x) (l := xl x) o a (va_up (va_up z 2 0) 8 (inP u p d y m)) D1_22 M1_23 (u.natAbs * ((p * d).natAbs)) ((10000 * y).natAbs) 0 m a_25 k_28 r_26 (by first | omega | assumption) (by first | omega | assumption) (by first | omega | assumption) (by decide) (by omega) (by exact Or.inl rfl)) (rcv_ob F 0 (ci := 3) rfl rfl) q4123 q4125 qs90 q120 q4126 nd_X4_rounds rfl (by decide) [0, 1, 2] rfl [] rfl 0 0 ⟨by omega, by omega⟩ [] rfl (Nat.le_of_ble_eq_true rfl) dX4_interest_138 rfl (fun _ _ h => h.elim) (fun v Ws h => ?_)
      obtain ⟨D1_30, M1_31, rfl, hV_32, hr_33, rfl⟩ := h
      show SW x [tmO (xg x) o a (va_up (va_up (va_up z 2 0) 8 (inP u p d y m)) 2 (rfz m (u.natAbs * ((p * d).natAbs)) ((10000 * y).natAbs) (0))), aN (xg x) 0 (a 0) 2400 D1_30, aN (xg x) 0 (a 1) 10 M1_31] _ _ _ _ []
      have a_34 := hV_32.1
      have k_35 := hV_32.keep (r := 0) (by first | omega | simp | (simp; omega)) k_28
      have k_36 := hV_32.keep (r := 5) (by first | omega | simp | (simp; omega)) k_27
      have k_37 := hV_32.keep (r := 1) (by first | omega | simp | (simp; omega)) r_26
      have v_38 := (v_29.mono (T := [0, 5, 6, 7, 1, 2, 3, 8, 9]) (by simp)).trans hV_32 (by simp)
      show SW x [tmO (xg x) o a (va_up (va_up z 2 (inZ u p d y m 0)) 8 (inP u p d y m)), aN (xg x) 0 (a 0) 2400 D1_30, aN (xg x) 0 (a 1) 10 M1_31] _ _ _ _ []
      have hr1 : inZ u p d y m 0 = 0 ∨ inZ u p d y m 0 = 1 := rfz_zz (Or.inl rfl)
      refine sw_aload_n (n := 142) F 0 (some o) rfl rfl rfl dX4_interest_141 rfl ?_
      refine sw_aload_n (n := 143) F 0 (some o) rfl rfl rfl dX4_interest_142 rfl ?_
      refine sw_get (n := 146) F 0 rfl (k := 2) ⟨(RX4, TX4, 50), rfl, by decide, q3801, in_X4, Or.inl rfl⟩ (v := .int (jI (inZ u p d y m 0))) rfl dX4_interest_143 rfl ?_
      refine sw_if_eq (n := 149) F (by omega) (tgt := 153) dX4_interest_146 (by decide) rfl (fun c_146 => ?_) (fun c_146 => ?_)
      ·
        refine sw_iconst (n := 154) F (0) (by decide) dX4_interest_153 rfl ?_
        refine sw_callV (n := 157) F (ct_X4_fails (g := xg x) (l := xl x) o a (va_up (va_up z 2 (inZ u p d y m 0)) 8 (inP u p d y m)) 0 (by first | omega | assumption)) (rcv_ob F 0 (ci := 3) rfl rfl) q3973 q3975 qs68 q120 q3976 nd_X4_fails rfl (by decide) [0, 1, 2] rfl [aN (xg x) 0 (a 0) 2400 D1_30, aN (xg x) 0 (a 1) 10 M1_31] rfl 0 0 ⟨by omega, by omega⟩ [] rfl (Nat.le_of_ble_eq_true rfl) dX4_interest_154 rfl (fun _ _ h => h.elim) (fun v Ws h => ?_)
        obtain ⟨rfl, hps_39, rfl⟩ := h
        show SW x [tmO (xg x) o a (va_up (va_up (va_up z 2 (inZ u p d y m 0)) 8 (inP u p d y m)) 8 0), aN (xg x) 0 (a 0) 2400 D1_30, aN (xg x) 0 (a 1) 10 M1_31] _ _ _ _ [.int (jI 0)]
        refine sw_if_eq (n := 160) F (by decide) (tgt := 164) dX4_interest_157 (by decide) rfl (fun c_157 => ?_) (fun c_157 => ?_)
        ·
          refine sw_aload_n (n := 165) F 0 (some o) rfl rfl rfl dX4_interest_164 rfl ?_
          refine sw_iconst (n := 166) F (2) (by decide) dX4_interest_165 rfl ?_
          refine sw_callV (n := 169) F (ct_X4_value (g := xg x) (l := xl x) o a (va_up (va_up (va_up z 2 (inZ u p d y m 0)) 8 (inP u p d y m)) 8 0) D1_30 M1_31 2 (rnd m 0 (u.natAbs * ((p * d).natAbs)) ((10000 * y).natAbs)) (by first | omega | assumption) a_34 hr_33) (rcv_ob F 0 (ci := 3) rfl rfl) q4024 q4026 qs76 q120 q4027 nd_X4_value rfl (by decide) [0, 1, 2] rfl [] rfl 0 0 ⟨by omega, by omega⟩ [] rfl (Nat.le_of_ble_eq_true rfl) dX4_interest_166 rfl (fun _ _ h => h.elim) (fun v Ws h => ?_)
          obtain ⟨rfl, rfl⟩ := h
          show SW x [tmO (xg x) o a (va_up (va_up (va_up z 2 (inZ u p d y m 0)) 8 (inP u p d y m)) 8 0), aN (xg x) 0 (a 0) 2400 D1_30, aN (xg x) 0 (a 1) 10 M1_31] _ _ _ _ [.long (jL (↑(rnd m 0 (u.natAbs * ((p * d).natAbs)) ((10000 * y).natAbs))))]
          have e0 : inP u p d y m = 0 := by omega
          have e : cd2 2 (inP u p d y m) (lrI (inZ u p d y m 0) 1) = 0 := cd2_lt e0 (by omega)
          exact sw_lret F rfl dX4_interest_169 (by rw [hPo]; exact ⟨D1_30, M1_31, (by rw [e]; rfl), (by exact v_38.mono (by simp)), (by rw [e]; simp only [up0_p e0, up_828, up_88, up_upI])⟩)
        · exfalso; exact absurd c_157 (by decide)
      ·
        refine sw_iconst (n := 150) F (2) (by decide) dX4_interest_149 rfl ?_
        refine sw_goto F (n := 154) dX4_interest_150 (by decide) ?_
        refine sw_callV (n := 157) F (ct_X4_fails (g := xg x) (l := xl x) o a (va_up (va_up z 2 (inZ u p d y m 0)) 8 (inP u p d y m)) 2 (by first | omega | assumption)) (rcv_ob F 0 (ci := 3) rfl rfl) q3973 q3975 qs68 q120 q3976 nd_X4_fails rfl (by decide) [0, 1, 2] rfl [aN (xg x) 0 (a 0) 2400 D1_30, aN (xg x) 0 (a 1) 10 M1_31] rfl 0 0 ⟨by omega, by omega⟩ [] rfl (Nat.le_of_ble_eq_true rfl) dX4_interest_154 rfl (fun _ _ h => h.elim) (fun v Ws h => ?_)
        obtain ⟨rfl, hps_40, rfl⟩ := h
        show SW x [tmO (xg x) o a (va_up (va_up (va_up z 2 (inZ u p d y m 0)) 8 (inP u p d y m)) 8 2), aN (xg x) 0 (a 0) 2400 D1_30, aN (xg x) 0 (a 1) 10 M1_31] _ _ _ _ [.int (jI 1)]
        refine sw_if_eq (n := 160) F (by decide) (tgt := 164) dX4_interest_157 (by decide) rfl (fun c_157 => ?_) (fun c_157 => ?_)
        · exfalso; exact absurd c_157 (by decide)
        ·
          refine sw_lconst (n := 161) F 0 (by decide) dX4_interest_160 rfl ?_
          refine sw_goto F (n := 169) dX4_interest_161 (by decide) ?_
          have e0 : inP u p d y m = 0 := by omega
          have e : cd2 2 (inP u p d y m) (lrI (inZ u p d y m 0) 1) = 2 := cd2_r e0 (by omega)
          exact sw_lret F rfl dX4_interest_169 (by rw [hPo]; exact ⟨D1_30, M1_31, (by rw [e]; rfl), (by exact v_38.mono (by simp)), (by rw [e]; simp only [up0_p e0, up_828, up_88, up_upI])⟩)
    ·
      refine sw_lconst (n := 93) F 0 (by decide) dX4_interest_92 rfl ?_
      have e0 : inP u p d y m ≠ 0 := by omega
      have e : cd2 2 (inP u p d y m) (lrI (inZ u p d y m 0) 1) = inP u p d y m := cd2_n e0
      exact sw_lret F rfl dX4_interest_93 (by rw [hPo]; exact ⟨D, M, (by first | rw [e, if0_n e0] | (rw [e]; exact congrArg _ (congrArg _ (if0_n e0)))), (by exact (RV.rf hA).mono (S := []) (by simp)), (by rw [e]; simp only [up0_n e0, up_828, up_88, up_upI])⟩)
  refine sw_sipush (n := 5) F (360) (by decide) dX4_interest_2 rfl ?_
  refine sw_icmp_eq (n := 8) F (by omega) (by decide) (tgt := 24) dX4_interest_5 (by decide) rfl (fun c_5 => ?_) (fun c_5 => ?_)
  ·
    refine sw_iconst (n := 25) F (1) (by decide) dX4_interest_24 rfl ?_
    refine sw_goto F (n := 29) dX4_interest_25 (by decide) ?_
    refine sw_istore (n := 31) F (L2 := [(7, .int (jI 1)), (0, .ref o), (1, .long (jL u)), (3, .int (jI p)), (4, .int (jI d)), (5, .int (jI y)), (6, .int (jI m))]) rfl (by decide) dX4_interest_29 rfl ?_
    refine sw_aload_n (n := 32) F 1 (some o) rfl rfl rfl dX4_interest_31 rfl ?_
    refine sw_lload_n (n := 33) F 2 rfl rfl dX4_interest_32 rfl ?_
    refine sw_lconst (n := 34) F 0 (by decide) dX4_interest_33 rfl ?_
    refine sw_ldc2 (n := 37) F (1000000000000) q4179 (by decide) dX4_interest_34 rfl ?_
    refine sw_callS (n := 40) F (ct_X4_in (g := xg x) (l := xl x) u 0 1000000000000 hu (by first | omega | assumption) (by first | omega | assumption)) q3963 q3964 q120 q3965 nd_X4_in rfl (by decide) [0, 1, 2] rfl [tmO (xg x) o a z, aN (xg x) 0 (a 0) 2400 D, aN (xg x) 0 (a 1) 10 M] rfl 0 0 ⟨by omega, by omega⟩ [.ref o] rfl (Nat.le_of_ble_eq_true rfl) dX4_interest_37 rfl (fun _ _ h => h.elim) (fun v Ws h => ?_)
    obtain ⟨rfl, hs_41, rfl⟩ := h
    show SW x [tmO (xg x) o a z, aN (xg x) 0 (a 0) 2400 D, aN (xg x) 0 (a 1) 10 M] _ _ _ _ [.int (jI (inI u 0 1000000000000)), .ref o]
    refine sw_if_eq (n := 43) F (by omega) (tgt := 85) dX4_interest_40 (by decide) rfl (fun c_40 => ?_) (fun c_40 => ?_)
    ·
      refine sw_iconst (n := 86) F (1) (by decide) dX4_interest_85 rfl ?_
      refine sw_loc [1, 2, 3, 4, 5, 6] (L2 := [(0, .ref o), (1, .long (jL u)), (3, .int (jI p)), (4, .int (jI d)), (5, .int (jI y)), (6, .int (jI m))]) rfl ?_
      exact K86 1 (by unfold inP; (repeat' split) <;> omega)
    ·
      refine sw_iload_n (n := 44) F 3 rfl rfl dX4_interest_43 rfl ?_
      refine sw_i2l (n := 45) F (by omega) dX4_interest_44 rfl ?_
      refine sw_lconst (n := 46) F 0 (by decide) dX4_interest_45 rfl ?_
      refine sw_ldc2 (n := 49) F (9999) q4195 (by decide) dX4_interest_46 rfl ?_
      refine sw_callS (n := 52) F (ct_X4_in (g := xg x) (l := xl x) p 0 9999 (by first | omega | assumption) (by first | omega | assumption) (by first | omega | assumption)) q3963 q3964 q120 q3965 nd_X4_in rfl (by decide) [0, 1, 2] rfl [tmO (xg x) o a z, aN (xg x) 0 (a 0) 2400 D, aN (xg x) 0 (a 1) 10 M] rfl 0 0 ⟨by omega, by omega⟩ [.ref o] rfl (Nat.le_of_ble_eq_true rfl) dX4_interest_49 rfl (fun _ _ h => h.elim) (fun v Ws h => ?_)
      obtain ⟨rfl, hs_42, rfl⟩ := h
      show SW x [tmO (xg x) o a z, aN (xg x) 0 (a 0) 2400 D, aN (xg x) 0 (a 1) 10 M] _ _ _ _ [.int (jI (inI p 0 9999)), .ref o]
      refine sw_if_eq (n := 55) F (by omega) (tgt := 85) dX4_interest_52 (by decide) rfl (fun c_52 => ?_) (fun c_52 => ?_)
      ·
        refine sw_iconst (n := 86) F (1) (by decide) dX4_interest_85 rfl ?_
        refine sw_loc [1, 2, 3, 4, 5, 6] (L2 := [(0, .ref o), (1, .long (jL u)), (3, .int (jI p)), (4, .int (jI d)), (5, .int (jI y)), (6, .int (jI m))]) rfl ?_
        exact K86 1 (by unfold inP; (repeat' split) <;> omega)
      ·
        refine sw_iload (n := 57) F 4 rfl dX4_interest_55 rfl ?_
        refine sw_i2l (n := 58) F (by omega) dX4_interest_57 rfl ?_
        refine sw_lconst (n := 59) F 0 (by decide) dX4_interest_58 rfl ?_
        refine sw_ldc2 (n := 62) F (9999) q4195 (by decide) dX4_interest_59 rfl ?_
        refine sw_callS (n := 65) F (ct_X4_in (g := xg x) (l := xl x) d 0 9999 (by first | omega | assumption) (by first | omega | assumption) (by first | omega | assumption)) q3963 q3964 q120 q3965 nd_X4_in rfl (by decide) [0, 1, 2] rfl [tmO (xg x) o a z, aN (xg x) 0 (a 0) 2400 D, aN (xg x) 0 (a 1) 10 M] rfl 0 0 ⟨by omega, by omega⟩ [.ref o] rfl (Nat.le_of_ble_eq_true rfl) dX4_interest_62 rfl (fun _ _ h => h.elim) (fun v Ws h => ?_)
        obtain ⟨rfl, hs_43, rfl⟩ := h
        show SW x [tmO (xg x) o a z, aN (xg x) 0 (a 0) 2400 D, aN (xg x) 0 (a 1) 10 M] _ _ _ _ [.int (jI (inI d 0 9999)), .ref o]
        refine sw_if_eq (n := 68) F (by omega) (tgt := 85) dX4_interest_65 (by decide) rfl (fun c_65 => ?_) (fun c_65 => ?_)
        ·
          refine sw_iconst (n := 86) F (1) (by decide) dX4_interest_85 rfl ?_
          refine sw_loc [1, 2, 3, 4, 5, 6] (L2 := [(0, .ref o), (1, .long (jL u)), (3, .int (jI p)), (4, .int (jI d)), (5, .int (jI y)), (6, .int (jI m))]) rfl ?_
          exact K86 1 (by unfold inP; (repeat' split) <;> omega)
        ·
          refine sw_iload (n := 70) F 0 rfl dX4_interest_68 rfl ?_
          refine sw_if_eq (n := 73) F (by decide) (tgt := 85) dX4_interest_70 (by decide) rfl (fun c_70 => ?_) (fun c_70 => ?_)
          · exfalso; exact absurd c_70 (by decide)
          ·
            refine sw_iload (n := 75) F 6 rfl dX4_interest_73 rfl ?_
            refine sw_callS (n := 78) F (ct_X4_isMode (g := xg x) (l := xl x) m (by omega)) q4116 q4117 q120 q4118 nd_X4_isMode rfl (by decide) [0, 1, 2] rfl [tmO (xg x) o a z, aN (xg x) 0 (a 0) 2400 D, aN (xg x) 0 (a 1) 10 M] rfl 0 0 ⟨by omega, by omega⟩ [.ref o] rfl (Nat.le_of_ble_eq_true rfl) dX4_interest_75 rfl (fun _ _ h => h.elim) (fun v Ws h => ?_)
            obtain ⟨rfl, rfl⟩ := h
            show SW x [tmO (xg x) o a z, aN (xg x) 0 (a 0) 2400 D, aN (xg x) 0 (a 1) 10 M] _ _ _ _ [.int (jI (mdI m)), .ref o]
            refine sw_if_eq (n := 81) F (by omega) (tgt := 85) dX4_interest_78 (by decide) rfl (fun c_78 => ?_) (fun c_78 => ?_)
            ·
              refine sw_iconst (n := 86) F (1) (by decide) dX4_interest_85 rfl ?_
              refine sw_loc [1, 2, 3, 4, 5, 6] (L2 := [(0, .ref o), (1, .long (jL u)), (3, .int (jI p)), (4, .int (jI d)), (5, .int (jI y)), (6, .int (jI m))]) rfl ?_
              exact K86 1 (by unfold inP; (repeat' split) <;> omega)
            ·
              refine sw_iconst (n := 82) F (0) (by decide) dX4_interest_81 rfl ?_
              refine sw_goto F (n := 86) dX4_interest_82 (by decide) ?_
              refine sw_loc [1, 2, 3, 4, 5, 6] (L2 := [(0, .ref o), (1, .long (jL u)), (3, .int (jI p)), (4, .int (jI d)), (5, .int (jI y)), (6, .int (jI m))]) rfl ?_
              exact K86 0 (by unfold inP; (repeat' split) <;> omega)
  ·
    refine sw_iload (n := 10) F 4 rfl dX4_interest_8 rfl ?_
    refine sw_sipush (n := 13) F (365) (by decide) dX4_interest_10 rfl ?_
    refine sw_icmp_eq (n := 16) F (by omega) (by decide) (tgt := 24) dX4_interest_13 (by decide) rfl (fun c_13 => ?_) (fun c_13 => ?_)
    ·
      refine sw_iconst (n := 25) F (1) (by decide) dX4_interest_24 rfl ?_
      refine sw_goto F (n := 29) dX4_interest_25 (by decide) ?_
      refine sw_istore (n := 31) F (L2 := [(7, .int (jI 1)), (0, .ref o), (1, .long (jL u)), (3, .int (jI p)), (4, .int (jI d)), (5, .int (jI y)), (6, .int (jI m))]) rfl (by decide) dX4_interest_29 rfl ?_
      refine sw_aload_n (n := 32) F 1 (some o) rfl rfl rfl dX4_interest_31 rfl ?_
      refine sw_lload_n (n := 33) F 2 rfl rfl dX4_interest_32 rfl ?_
      refine sw_lconst (n := 34) F 0 (by decide) dX4_interest_33 rfl ?_
      refine sw_ldc2 (n := 37) F (1000000000000) q4179 (by decide) dX4_interest_34 rfl ?_
      refine sw_callS (n := 40) F (ct_X4_in (g := xg x) (l := xl x) u 0 1000000000000 hu (by first | omega | assumption) (by first | omega | assumption)) q3963 q3964 q120 q3965 nd_X4_in rfl (by decide) [0, 1, 2] rfl [tmO (xg x) o a z, aN (xg x) 0 (a 0) 2400 D, aN (xg x) 0 (a 1) 10 M] rfl 0 0 ⟨by omega, by omega⟩ [.ref o] rfl (Nat.le_of_ble_eq_true rfl) dX4_interest_37 rfl (fun _ _ h => h.elim) (fun v Ws h => ?_)
      obtain ⟨rfl, hs_44, rfl⟩ := h
      show SW x [tmO (xg x) o a z, aN (xg x) 0 (a 0) 2400 D, aN (xg x) 0 (a 1) 10 M] _ _ _ _ [.int (jI (inI u 0 1000000000000)), .ref o]
      refine sw_if_eq (n := 43) F (by omega) (tgt := 85) dX4_interest_40 (by decide) rfl (fun c_40 => ?_) (fun c_40 => ?_)
      ·
        refine sw_iconst (n := 86) F (1) (by decide) dX4_interest_85 rfl ?_
        refine sw_loc [1, 2, 3, 4, 5, 6] (L2 := [(0, .ref o), (1, .long (jL u)), (3, .int (jI p)), (4, .int (jI d)), (5, .int (jI y)), (6, .int (jI m))]) rfl ?_
        exact K86 1 (by unfold inP; (repeat' split) <;> omega)
      ·
        refine sw_iload_n (n := 44) F 3 rfl rfl dX4_interest_43 rfl ?_
        refine sw_i2l (n := 45) F (by omega) dX4_interest_44 rfl ?_
        refine sw_lconst (n := 46) F 0 (by decide) dX4_interest_45 rfl ?_
        refine sw_ldc2 (n := 49) F (9999) q4195 (by decide) dX4_interest_46 rfl ?_
        refine sw_callS (n := 52) F (ct_X4_in (g := xg x) (l := xl x) p 0 9999 (by first | omega | assumption) (by first | omega | assumption) (by first | omega | assumption)) q3963 q3964 q120 q3965 nd_X4_in rfl (by decide) [0, 1, 2] rfl [tmO (xg x) o a z, aN (xg x) 0 (a 0) 2400 D, aN (xg x) 0 (a 1) 10 M] rfl 0 0 ⟨by omega, by omega⟩ [.ref o] rfl (Nat.le_of_ble_eq_true rfl) dX4_interest_49 rfl (fun _ _ h => h.elim) (fun v Ws h => ?_)
        obtain ⟨rfl, hs_45, rfl⟩ := h
        show SW x [tmO (xg x) o a z, aN (xg x) 0 (a 0) 2400 D, aN (xg x) 0 (a 1) 10 M] _ _ _ _ [.int (jI (inI p 0 9999)), .ref o]
        refine sw_if_eq (n := 55) F (by omega) (tgt := 85) dX4_interest_52 (by decide) rfl (fun c_52 => ?_) (fun c_52 => ?_)
        ·
          refine sw_iconst (n := 86) F (1) (by decide) dX4_interest_85 rfl ?_
          refine sw_loc [1, 2, 3, 4, 5, 6] (L2 := [(0, .ref o), (1, .long (jL u)), (3, .int (jI p)), (4, .int (jI d)), (5, .int (jI y)), (6, .int (jI m))]) rfl ?_
          exact K86 1 (by unfold inP; (repeat' split) <;> omega)
        ·
          refine sw_iload (n := 57) F 4 rfl dX4_interest_55 rfl ?_
          refine sw_i2l (n := 58) F (by omega) dX4_interest_57 rfl ?_
          refine sw_lconst (n := 59) F 0 (by decide) dX4_interest_58 rfl ?_
          refine sw_ldc2 (n := 62) F (9999) q4195 (by decide) dX4_interest_59 rfl ?_
          refine sw_callS (n := 65) F (ct_X4_in (g := xg x) (l := xl x) d 0 9999 (by first | omega | assumption) (by first | omega | assumption) (by first | omega | assumption)) q3963 q3964 q120 q3965 nd_X4_in rfl (by decide) [0, 1, 2] rfl [tmO (xg x) o a z, aN (xg x) 0 (a 0) 2400 D, aN (xg x) 0 (a 1) 10 M] rfl 0 0 ⟨by omega, by omega⟩ [.ref o] rfl (Nat.le_of_ble_eq_true rfl) dX4_interest_62 rfl (fun _ _ h => h.elim) (fun v Ws h => ?_)
          obtain ⟨rfl, hs_46, rfl⟩ := h
          show SW x [tmO (xg x) o a z, aN (xg x) 0 (a 0) 2400 D, aN (xg x) 0 (a 1) 10 M] _ _ _ _ [.int (jI (inI d 0 9999)), .ref o]
          refine sw_if_eq (n := 68) F (by omega) (tgt := 85) dX4_interest_65 (by decide) rfl (fun c_65 => ?_) (fun c_65 => ?_)
          ·
            refine sw_iconst (n := 86) F (1) (by decide) dX4_interest_85 rfl ?_
            refine sw_loc [1, 2, 3, 4, 5, 6] (L2 := [(0, .ref o), (1, .long (jL u)), (3, .int (jI p)), (4, .int (jI d)), (5, .int (jI y)), (6, .int (jI m))]) rfl ?_
            exact K86 1 (by unfold inP; (repeat' split) <;> omega)
          ·
            refine sw_iload (n := 70) F 0 rfl dX4_interest_68 rfl ?_
            refine sw_if_eq (n := 73) F (by decide) (tgt := 85) dX4_interest_70 (by decide) rfl (fun c_70 => ?_) (fun c_70 => ?_)
            · exfalso; exact absurd c_70 (by decide)
            ·
              refine sw_iload (n := 75) F 6 rfl dX4_interest_73 rfl ?_
              refine sw_callS (n := 78) F (ct_X4_isMode (g := xg x) (l := xl x) m (by omega)) q4116 q4117 q120 q4118 nd_X4_isMode rfl (by decide) [0, 1, 2] rfl [tmO (xg x) o a z, aN (xg x) 0 (a 0) 2400 D, aN (xg x) 0 (a 1) 10 M] rfl 0 0 ⟨by omega, by omega⟩ [.ref o] rfl (Nat.le_of_ble_eq_true rfl) dX4_interest_75 rfl (fun _ _ h => h.elim) (fun v Ws h => ?_)
              obtain ⟨rfl, rfl⟩ := h
              show SW x [tmO (xg x) o a z, aN (xg x) 0 (a 0) 2400 D, aN (xg x) 0 (a 1) 10 M] _ _ _ _ [.int (jI (mdI m)), .ref o]
              refine sw_if_eq (n := 81) F (by omega) (tgt := 85) dX4_interest_78 (by decide) rfl (fun c_78 => ?_) (fun c_78 => ?_)
              ·
                refine sw_iconst (n := 86) F (1) (by decide) dX4_interest_85 rfl ?_
                refine sw_loc [1, 2, 3, 4, 5, 6] (L2 := [(0, .ref o), (1, .long (jL u)), (3, .int (jI p)), (4, .int (jI d)), (5, .int (jI y)), (6, .int (jI m))]) rfl ?_
                exact K86 1 (by unfold inP; (repeat' split) <;> omega)
              ·
                refine sw_iconst (n := 82) F (0) (by decide) dX4_interest_81 rfl ?_
                refine sw_goto F (n := 86) dX4_interest_82 (by decide) ?_
                refine sw_loc [1, 2, 3, 4, 5, 6] (L2 := [(0, .ref o), (1, .long (jL u)), (3, .int (jI p)), (4, .int (jI d)), (5, .int (jI y)), (6, .int (jI m))]) rfl ?_
                exact K86 0 (by unfold inP; (repeat' split) <;> omega)
    ·
      refine sw_iload (n := 18) F 4 rfl dX4_interest_16 rfl ?_
      refine sw_sipush (n := 21) F (366) (by decide) dX4_interest_18 rfl ?_
      refine sw_icmp_ne (n := 24) F (by omega) (by decide) (tgt := 28) dX4_interest_21 (by decide) rfl (fun c_21 => ?_) (fun c_21 => ?_)
      ·
        refine sw_iconst (n := 29) F (0) (by decide) dX4_interest_28 rfl ?_
        refine sw_istore (n := 31) F (L2 := [(7, .int (jI 0)), (0, .ref o), (1, .long (jL u)), (3, .int (jI p)), (4, .int (jI d)), (5, .int (jI y)), (6, .int (jI m))]) rfl (by decide) dX4_interest_29 rfl ?_
        refine sw_aload_n (n := 32) F 1 (some o) rfl rfl rfl dX4_interest_31 rfl ?_
        refine sw_lload_n (n := 33) F 2 rfl rfl dX4_interest_32 rfl ?_
        refine sw_lconst (n := 34) F 0 (by decide) dX4_interest_33 rfl ?_
        refine sw_ldc2 (n := 37) F (1000000000000) q4179 (by decide) dX4_interest_34 rfl ?_
        refine sw_callS (n := 40) F (ct_X4_in (g := xg x) (l := xl x) u 0 1000000000000 hu (by first | omega | assumption) (by first | omega | assumption)) q3963 q3964 q120 q3965 nd_X4_in rfl (by decide) [0, 1, 2] rfl [tmO (xg x) o a z, aN (xg x) 0 (a 0) 2400 D, aN (xg x) 0 (a 1) 10 M] rfl 0 0 ⟨by omega, by omega⟩ [.ref o] rfl (Nat.le_of_ble_eq_true rfl) dX4_interest_37 rfl (fun _ _ h => h.elim) (fun v Ws h => ?_)
        obtain ⟨rfl, hs_47, rfl⟩ := h
        show SW x [tmO (xg x) o a z, aN (xg x) 0 (a 0) 2400 D, aN (xg x) 0 (a 1) 10 M] _ _ _ _ [.int (jI (inI u 0 1000000000000)), .ref o]
        refine sw_if_eq (n := 43) F (by omega) (tgt := 85) dX4_interest_40 (by decide) rfl (fun c_40 => ?_) (fun c_40 => ?_)
        ·
          refine sw_iconst (n := 86) F (1) (by decide) dX4_interest_85 rfl ?_
          refine sw_loc [1, 2, 3, 4, 5, 6] (L2 := [(0, .ref o), (1, .long (jL u)), (3, .int (jI p)), (4, .int (jI d)), (5, .int (jI y)), (6, .int (jI m))]) rfl ?_
          exact K86 1 (by unfold inP; (repeat' split) <;> omega)
        ·
          refine sw_iload_n (n := 44) F 3 rfl rfl dX4_interest_43 rfl ?_
          refine sw_i2l (n := 45) F (by omega) dX4_interest_44 rfl ?_
          refine sw_lconst (n := 46) F 0 (by decide) dX4_interest_45 rfl ?_
          refine sw_ldc2 (n := 49) F (9999) q4195 (by decide) dX4_interest_46 rfl ?_
          refine sw_callS (n := 52) F (ct_X4_in (g := xg x) (l := xl x) p 0 9999 (by first | omega | assumption) (by first | omega | assumption) (by first | omega | assumption)) q3963 q3964 q120 q3965 nd_X4_in rfl (by decide) [0, 1, 2] rfl [tmO (xg x) o a z, aN (xg x) 0 (a 0) 2400 D, aN (xg x) 0 (a 1) 10 M] rfl 0 0 ⟨by omega, by omega⟩ [.ref o] rfl (Nat.le_of_ble_eq_true rfl) dX4_interest_49 rfl (fun _ _ h => h.elim) (fun v Ws h => ?_)
          obtain ⟨rfl, hs_48, rfl⟩ := h
          show SW x [tmO (xg x) o a z, aN (xg x) 0 (a 0) 2400 D, aN (xg x) 0 (a 1) 10 M] _ _ _ _ [.int (jI (inI p 0 9999)), .ref o]
          refine sw_if_eq (n := 55) F (by omega) (tgt := 85) dX4_interest_52 (by decide) rfl (fun c_52 => ?_) (fun c_52 => ?_)
          ·
            refine sw_iconst (n := 86) F (1) (by decide) dX4_interest_85 rfl ?_
            refine sw_loc [1, 2, 3, 4, 5, 6] (L2 := [(0, .ref o), (1, .long (jL u)), (3, .int (jI p)), (4, .int (jI d)), (5, .int (jI y)), (6, .int (jI m))]) rfl ?_
            exact K86 1 (by unfold inP; (repeat' split) <;> omega)
          ·
            refine sw_iload (n := 57) F 4 rfl dX4_interest_55 rfl ?_
            refine sw_i2l (n := 58) F (by omega) dX4_interest_57 rfl ?_
            refine sw_lconst (n := 59) F 0 (by decide) dX4_interest_58 rfl ?_
            refine sw_ldc2 (n := 62) F (9999) q4195 (by decide) dX4_interest_59 rfl ?_
            refine sw_callS (n := 65) F (ct_X4_in (g := xg x) (l := xl x) d 0 9999 (by first | omega | assumption) (by first | omega | assumption) (by first | omega | assumption)) q3963 q3964 q120 q3965 nd_X4_in rfl (by decide) [0, 1, 2] rfl [tmO (xg x) o a z, aN (xg x) 0 (a 0) 2400 D, aN (xg x) 0 (a 1) 10 M] rfl 0 0 ⟨by omega, by omega⟩ [.ref o] rfl (Nat.le_of_ble_eq_true rfl) dX4_interest_62 rfl (fun _ _ h => h.elim) (fun v Ws h => ?_)
            obtain ⟨rfl, hs_49, rfl⟩ := h
            show SW x [tmO (xg x) o a z, aN (xg x) 0 (a 0) 2400 D, aN (xg x) 0 (a 1) 10 M] _ _ _ _ [.int (jI (inI d 0 9999)), .ref o]
            refine sw_if_eq (n := 68) F (by omega) (tgt := 85) dX4_interest_65 (by decide) rfl (fun c_65 => ?_) (fun c_65 => ?_)
            ·
              refine sw_iconst (n := 86) F (1) (by decide) dX4_interest_85 rfl ?_
              refine sw_loc [1, 2, 3, 4, 5, 6] (L2 := [(0, .ref o), (1, .long (jL u)), (3, .int (jI p)), (4, .int (jI d)), (5, .int (jI y)), (6, .int (jI m))]) rfl ?_
              exact K86 1 (by unfold inP; (repeat' split) <;> omega)
            ·
              refine sw_iload (n := 70) F 0 rfl dX4_interest_68 rfl ?_
              refine sw_if_eq (n := 73) F (by decide) (tgt := 85) dX4_interest_70 (by decide) rfl (fun c_70 => ?_) (fun c_70 => ?_)
              ·
                refine sw_iconst (n := 86) F (1) (by decide) dX4_interest_85 rfl ?_
                refine sw_loc [1, 2, 3, 4, 5, 6] (L2 := [(0, .ref o), (1, .long (jL u)), (3, .int (jI p)), (4, .int (jI d)), (5, .int (jI y)), (6, .int (jI m))]) rfl ?_
                exact K86 1 (by unfold inP; (repeat' split) <;> omega)
              · exfalso; exact absurd c_70 (by decide)
      ·
        refine sw_iconst (n := 25) F (1) (by decide) dX4_interest_24 rfl ?_
        refine sw_goto F (n := 29) dX4_interest_25 (by decide) ?_
        refine sw_istore (n := 31) F (L2 := [(7, .int (jI 1)), (0, .ref o), (1, .long (jL u)), (3, .int (jI p)), (4, .int (jI d)), (5, .int (jI y)), (6, .int (jI m))]) rfl (by decide) dX4_interest_29 rfl ?_
        refine sw_aload_n (n := 32) F 1 (some o) rfl rfl rfl dX4_interest_31 rfl ?_
        refine sw_lload_n (n := 33) F 2 rfl rfl dX4_interest_32 rfl ?_
        refine sw_lconst (n := 34) F 0 (by decide) dX4_interest_33 rfl ?_
        refine sw_ldc2 (n := 37) F (1000000000000) q4179 (by decide) dX4_interest_34 rfl ?_
        refine sw_callS (n := 40) F (ct_X4_in (g := xg x) (l := xl x) u 0 1000000000000 hu (by first | omega | assumption) (by first | omega | assumption)) q3963 q3964 q120 q3965 nd_X4_in rfl (by decide) [0, 1, 2] rfl [tmO (xg x) o a z, aN (xg x) 0 (a 0) 2400 D, aN (xg x) 0 (a 1) 10 M] rfl 0 0 ⟨by omega, by omega⟩ [.ref o] rfl (Nat.le_of_ble_eq_true rfl) dX4_interest_37 rfl (fun _ _ h => h.elim) (fun v Ws h => ?_)
        obtain ⟨rfl, hs_50, rfl⟩ := h
        show SW x [tmO (xg x) o a z, aN (xg x) 0 (a 0) 2400 D, aN (xg x) 0 (a 1) 10 M] _ _ _ _ [.int (jI (inI u 0 1000000000000)), .ref o]
        refine sw_if_eq (n := 43) F (by omega) (tgt := 85) dX4_interest_40 (by decide) rfl (fun c_40 => ?_) (fun c_40 => ?_)
        ·
          refine sw_iconst (n := 86) F (1) (by decide) dX4_interest_85 rfl ?_
          refine sw_loc [1, 2, 3, 4, 5, 6] (L2 := [(0, .ref o), (1, .long (jL u)), (3, .int (jI p)), (4, .int (jI d)), (5, .int (jI y)), (6, .int (jI m))]) rfl ?_
          exact K86 1 (by unfold inP; (repeat' split) <;> omega)
        ·
          refine sw_iload_n (n := 44) F 3 rfl rfl dX4_interest_43 rfl ?_
          refine sw_i2l (n := 45) F (by omega) dX4_interest_44 rfl ?_
          refine sw_lconst (n := 46) F 0 (by decide) dX4_interest_45 rfl ?_
          refine sw_ldc2 (n := 49) F (9999) q4195 (by decide) dX4_interest_46 rfl ?_
          refine sw_callS (n := 52) F (ct_X4_in (g := xg x) (l := xl x) p 0 9999 (by first | omega | assumption) (by first | omega | assumption) (by first | omega | assumption)) q3963 q3964 q120 q3965 nd_X4_in rfl (by decide) [0, 1, 2] rfl [tmO (xg x) o a z, aN (xg x) 0 (a 0) 2400 D, aN (xg x) 0 (a 1) 10 M] rfl 0 0 ⟨by omega, by omega⟩ [.ref o] rfl (Nat.le_of_ble_eq_true rfl) dX4_interest_49 rfl (fun _ _ h => h.elim) (fun v Ws h => ?_)
          obtain ⟨rfl, hs_51, rfl⟩ := h
          show SW x [tmO (xg x) o a z, aN (xg x) 0 (a 0) 2400 D, aN (xg x) 0 (a 1) 10 M] _ _ _ _ [.int (jI (inI p 0 9999)), .ref o]
          refine sw_if_eq (n := 55) F (by omega) (tgt := 85) dX4_interest_52 (by decide) rfl (fun c_52 => ?_) (fun c_52 => ?_)
          ·
            refine sw_iconst (n := 86) F (1) (by decide) dX4_interest_85 rfl ?_
            refine sw_loc [1, 2, 3, 4, 5, 6] (L2 := [(0, .ref o), (1, .long (jL u)), (3, .int (jI p)), (4, .int (jI d)), (5, .int (jI y)), (6, .int (jI m))]) rfl ?_
            exact K86 1 (by unfold inP; (repeat' split) <;> omega)
          ·
            refine sw_iload (n := 57) F 4 rfl dX4_interest_55 rfl ?_
            refine sw_i2l (n := 58) F (by omega) dX4_interest_57 rfl ?_
            refine sw_lconst (n := 59) F 0 (by decide) dX4_interest_58 rfl ?_
            refine sw_ldc2 (n := 62) F (9999) q4195 (by decide) dX4_interest_59 rfl ?_
            refine sw_callS (n := 65) F (ct_X4_in (g := xg x) (l := xl x) d 0 9999 (by first | omega | assumption) (by first | omega | assumption) (by first | omega | assumption)) q3963 q3964 q120 q3965 nd_X4_in rfl (by decide) [0, 1, 2] rfl [tmO (xg x) o a z, aN (xg x) 0 (a 0) 2400 D, aN (xg x) 0 (a 1) 10 M] rfl 0 0 ⟨by omega, by omega⟩ [.ref o] rfl (Nat.le_of_ble_eq_true rfl) dX4_interest_62 rfl (fun _ _ h => h.elim) (fun v Ws h => ?_)
            obtain ⟨rfl, hs_52, rfl⟩ := h
            show SW x [tmO (xg x) o a z, aN (xg x) 0 (a 0) 2400 D, aN (xg x) 0 (a 1) 10 M] _ _ _ _ [.int (jI (inI d 0 9999)), .ref o]
            refine sw_if_eq (n := 68) F (by omega) (tgt := 85) dX4_interest_65 (by decide) rfl (fun c_65 => ?_) (fun c_65 => ?_)
            ·
              refine sw_iconst (n := 86) F (1) (by decide) dX4_interest_85 rfl ?_
              refine sw_loc [1, 2, 3, 4, 5, 6] (L2 := [(0, .ref o), (1, .long (jL u)), (3, .int (jI p)), (4, .int (jI d)), (5, .int (jI y)), (6, .int (jI m))]) rfl ?_
              exact K86 1 (by unfold inP; (repeat' split) <;> omega)
            ·
              refine sw_iload (n := 70) F 0 rfl dX4_interest_68 rfl ?_
              refine sw_if_eq (n := 73) F (by decide) (tgt := 85) dX4_interest_70 (by decide) rfl (fun c_70 => ?_) (fun c_70 => ?_)
              · exfalso; exact absurd c_70 (by decide)
              ·
                refine sw_iload (n := 75) F 6 rfl dX4_interest_73 rfl ?_
                refine sw_callS (n := 78) F (ct_X4_isMode (g := xg x) (l := xl x) m (by omega)) q4116 q4117 q120 q4118 nd_X4_isMode rfl (by decide) [0, 1, 2] rfl [tmO (xg x) o a z, aN (xg x) 0 (a 0) 2400 D, aN (xg x) 0 (a 1) 10 M] rfl 0 0 ⟨by omega, by omega⟩ [.ref o] rfl (Nat.le_of_ble_eq_true rfl) dX4_interest_75 rfl (fun _ _ h => h.elim) (fun v Ws h => ?_)
                obtain ⟨rfl, rfl⟩ := h
                show SW x [tmO (xg x) o a z, aN (xg x) 0 (a 0) 2400 D, aN (xg x) 0 (a 1) 10 M] _ _ _ _ [.int (jI (mdI m)), .ref o]
                refine sw_if_eq (n := 81) F (by omega) (tgt := 85) dX4_interest_78 (by decide) rfl (fun c_78 => ?_) (fun c_78 => ?_)
                ·
                  refine sw_iconst (n := 86) F (1) (by decide) dX4_interest_85 rfl ?_
                  refine sw_loc [1, 2, 3, 4, 5, 6] (L2 := [(0, .ref o), (1, .long (jL u)), (3, .int (jI p)), (4, .int (jI d)), (5, .int (jI y)), (6, .int (jI m))]) rfl ?_
                  exact K86 1 (by unfold inP; (repeat' split) <;> omega)
                ·
                  refine sw_iconst (n := 82) F (0) (by decide) dX4_interest_81 rfl ?_
                  refine sw_goto F (n := 86) dX4_interest_82 (by decide) ?_
                  refine sw_loc [1, 2, 3, 4, 5, 6] (L2 := [(0, .ref o), (1, .long (jL u)), (3, .int (jI p)), (4, .int (jI d)), (5, .int (jI y)), (6, .int (jI m))]) rfl ?_
                  exact K86 0 (by unfold inP; (repeat' split) <;> omega)
theorem nd_X4_month : yX4_month.cls ≠ "java/lang/invoke/MethodHandle" ∧ yX4_month.cls ≠ "java/lang/invoke/VarHandle" ∧ (parseMethodDescriptor yX4_month.desc).map (fun d => d.parameters.length) = some 2 := by decide +kernel
set_option maxRecDepth 100000 in
set_option maxHeartbeats 16000000 in
theorem ct_X4_month {g : GG} {l : Launch} (l9 : Int) (p : Int) (hl : 0 ≤ l9 ∧ l9 ≤ 1000000000000) (hp : 0 ≤ p ∧ p ≤ 9999) : Ct g l yX4_month (ws_ yX4_month cX4_month 9 (Option.some Jvm.ClassFile.FieldType.long)) 1 12 0 0 [.long (jL l9), .int (jI p)] [] (fun v9 Ws9 => v9 = some (.long (jL (moV l9 p))) ∧ Ws9 = []) (nox) := by
  refine Ct.of (cc := cX4_month) (nL := 9) (ret := (Option.some Jvm.ClassFile.FieldType.long)) (by decide) rfl (Nat.le_of_ble_eq_true rfl) ?_
  intro x hg hl hPo hPx hmc hms F
  subst hg; subst hl
  refine SW.cast (L' := [(0, .long (jL l9)), (2, .int (jI p))]) ?_ rfl rfl rfl
  have hlp := mul_rng hl hp
  refine sw_lload_n (n := 1) F 0 rfl rfl dX4_month_0 rfl ?_
  refine sw_iload_n (n := 2) F 1 rfl rfl dX4_month_1 rfl ?_
  refine sw_i2l (n := 3) F (by omega) dX4_month_2 rfl ?_
  refine sw_lmul (n := 4) F dX4_month_3 rfl ?_
  refine sw_lstore_n (n := 5) F (L2 := [(3, .long (jL (l9 * p))), (0, .long (jL l9)), (2, .int (jI p))]) rfl (by decide) rfl dX4_month_4 rfl ?_
  refine sw_lload_n (n := 6) F 0 rfl rfl dX4_month_5 rfl ?_
  refine sw_ldc2 (n := 9) F (120000) q4287 (by decide) dX4_month_6 rfl ?_
  refine sw_ldivP (n := 10) F (by omega) (by decide) (by decide) dX4_month_9 rfl ?_
  refine sw_lstore (n := 12) F (L2 := [(5, .long (jL ((l9 * p) / 120000))), (3, .long (jL (l9 * p))), (0, .long (jL l9)), (2, .int (jI p))]) rfl (by decide) dX4_month_10 rfl ?_
  refine sw_lload_n (n := 13) F 1 rfl rfl dX4_month_12 rfl ?_
  refine sw_ldc2 (n := 16) F (120000) q4287 (by decide) dX4_month_13 rfl ?_
  refine sw_lremP (n := 17) F (by omega) (by decide) (by decide) dX4_month_16 rfl ?_
  refine sw_lstore (n := 19) F (L2 := [(7, .long (jL ((l9 * p) % 120000))), (5, .long (jL ((l9 * p) / 120000))), (3, .long (jL (l9 * p))), (0, .long (jL l9)), (2, .int (jI p))]) rfl (by decide) dX4_month_17 rfl ?_
  refine sw_lload (n := 21) F 1 rfl dX4_month_19 rfl ?_
  refine sw_lload (n := 23) F 0 rfl dX4_month_21 rfl ?_
  refine sw_ldc2 (n := 26) F (60000) q4288 (by decide) dX4_month_23 rfl ?_
  refine sw_lcmp (n := 27) F (by omega) (by decide) dX4_month_26 rfl ?_
  refine sw_if_gt (n := 30) F (by omega) (tgt := 50) dX4_month_27 (by decide) rfl (fun c_27 => ?_) (fun c_27 => ?_)
  ·
    have c_27 : (l9 * p) % 120000 > 60000 := by revert c_27; (repeat' split) <;> omega
    refine sw_lconst (n := 51) F 1 (by decide) dX4_month_50 rfl ?_
    refine sw_goto F (n := 55) dX4_month_51 (by decide) ?_
    refine sw_ladd (n := 56) F dX4_month_55 rfl ?_
    exact sw_lret F rfl dX4_month_56 (by rw [hPo]; exact ⟨(by first | (unfold moV; rw [if_pos (by omega)]) | (unfold moV; rw [if_neg (by omega)])), rfl⟩)
  ·
    have c_27 : (l9 * p) % 120000 ≤ 60000 := by revert c_27; (repeat' split) <;> omega
    refine sw_lload (n := 32) F 0 rfl dX4_month_30 rfl ?_
    refine sw_ldc2 (n := 35) F (60000) q4288 (by decide) dX4_month_32 rfl ?_
    refine sw_lcmp (n := 36) F (by omega) (by decide) dX4_month_35 rfl ?_
    refine sw_if_ne (n := 39) F (by omega) (tgt := 54) dX4_month_36 (by decide) rfl (fun c_36 => ?_) (fun c_36 => ?_)
    ·
      have c_36 : (l9 * p) % 120000 ≠ 60000 := by revert c_36; (repeat' split) <;> omega
      refine sw_lconst (n := 55) F 0 (by decide) dX4_month_54 rfl ?_
      refine sw_ladd (n := 56) F dX4_month_55 rfl ?_
      exact sw_lret F rfl dX4_month_56 (by rw [hPo]; exact ⟨(by first | (unfold moV; rw [if_pos (by omega)]) | (unfold moV; rw [if_neg (by omega)])), rfl⟩)
    ·
      have c_36 : (l9 * p) % 120000 = 60000 := by revert c_36; (repeat' split) <;> omega
      refine sw_lload (n := 41) F 1 rfl dX4_month_39 rfl ?_
      refine sw_ldc2 (n := 44) F (2) q4147 (by decide) dX4_month_41 rfl ?_
      refine sw_lremP (n := 45) F (by omega) (by decide) (by decide) dX4_month_44 rfl ?_
      refine sw_lconst (n := 46) F 1 (by decide) dX4_month_45 rfl ?_
      refine sw_lcmp (n := 47) F (by omega) (by decide) dX4_month_46 rfl ?_
      refine sw_if_ne (n := 50) F (by omega) (tgt := 54) dX4_month_47 (by decide) rfl (fun c_47 => ?_) (fun c_47 => ?_)
      ·
        have c_47 : ((l9 * p) / 120000) % 2 ≠ 1 := by revert c_47; (repeat' split) <;> omega
        refine sw_lconst (n := 55) F 0 (by decide) dX4_month_54 rfl ?_
        refine sw_ladd (n := 56) F dX4_month_55 rfl ?_
        exact sw_lret F rfl dX4_month_56 (by rw [hPo]; exact ⟨(by first | (unfold moV; rw [if_pos (by omega)]) | (unfold moV; rw [if_neg (by omega)])), rfl⟩)
      ·
        have c_47 : ((l9 * p) / 120000) % 2 = 1 := by revert c_47; (repeat' split) <;> omega
        refine sw_lconst (n := 51) F 1 (by decide) dX4_month_50 rfl ?_
        refine sw_goto F (n := 55) dX4_month_51 (by decide) ?_
        refine sw_ladd (n := 56) F dX4_month_55 rfl ?_
        exact sw_lret F rfl dX4_month_56 (by rw [hPo]; exact ⟨(by first | (unfold moV; rw [if_pos (by omega)]) | (unfold moV; rw [if_neg (by omega)])), rfl⟩)
def imV (Ii Ip Io : Nat → Int) (n : Nat) (c : Int) : Int := if c = 105 then Ii n else if c = 112 then Ip n else if c = 111 then Io n else Ii n + Ip n
theorem nd_X4_instalment : yX4_instalment.cls ≠ "java/lang/invoke/MethodHandle" ∧ yX4_instalment.cls ≠ "java/lang/invoke/VarHandle" ∧ (parseMethodDescriptor yX4_instalment.desc).map (fun d => d.parameters.length) = some 2 := by decide +kernel
set_option maxRecDepth 100000 in
set_option maxHeartbeats 16000000 in
theorem ct_X4_instalment {g : GG} {l : Launch} (o : Nat) (a : Nat → Nat) (z : Nat → Int) (Ii : Nat → Int) (Ip : Nat → Int) (Io : Nat → Int) (n : Int) (c : Int) (hn : -2147483648 ≤ n ∧ n ≤ 2147483647) (hc : 0 ≤ c ∧ c ≤ 65535) (hz39 : 0 ≤ z 39 ∧ z 39 ≤ 120) : Ct g l yX4_instalment (ws_ yX4_instalment cX4_instalment 4 (Option.some Jvm.ClassFile.FieldType.long)) 2 37 0 0 [.ref o, .int (jI n), .int (jI c)] [tmO g o a z, aL g (a 33) 120 Ii, aL g (a 34) 120 Ip, aL g (a 35) 120 Io] (fun v9 Ws9 => v9 = some (.long (jL (if0 (imP n (z 39) c) (imV Ii Ip Io n.toNat c)))) ∧ Ws9 = [tmO g o a (va_up z 8 (imP n (z 39) c)), aL g (a 33) 120 Ii, aL g (a 34) 120 Ip, aL g (a 35) 120 Io]) (nox) := by
  refine Ct.of (cc := cX4_instalment) (nL := 4) (ret := (Option.some Jvm.ClassFile.FieldType.long)) (by decide) rfl (Nat.le_of_ble_eq_true rfl) ?_
  intro x hg hl hPo hPx hmc hms F
  subst hg; subst hl
  refine SW.cast (L' := [(0, .ref o), (1, .int (jI n)), (2, .int (jI c))]) ?_ rfl rfl rfl
  refine sw_iload_n (n := 1) F 2 rfl rfl dX4_instalment_0 rfl ?_
  have K60 : ∀ (p9 : Int), (p9 = imP n (z 39) c) → SW x [tmO (xg x) o a z, aL (xg x) (a 33) 120 Ii, aL (xg x) (a 34) 120 Ip, aL (xg x) (a 35) 120 Io] 0 0 60 [(0, .ref o), (1, .int (jI n)), (2, .int (jI c))] [.int (jI p9), .ref o] := by
    intro p9 hpc
    subst hpc
    have hcs := imP_nn n (z 39) c
    refine sw_callV (n := 63) F (ct_X4_fails (g := xg x) (l := xl x) o a z (imP n (z 39) c) (by first | omega | assumption)) (rcv_ob F 0 (ci := 3) rfl rfl) q3973 q3975 qs68 q120 q3976 nd_X4_fails rfl (by decide) [0, 1, 2, 3] (perm_ok _ 4 (by decide +kernel) rfl) [aL (xg x) (a 33) 120 Ii, aL (xg x) (a 34) 120 Ip, aL (xg x) (a 35) 120 Io] rfl 0 0 ⟨by omega, by omega⟩ [] rfl (Nat.le_of_ble_eq_true rfl) dX4_instalment_60 rfl (fun _ _ h => h.elim) (fun v Ws h => ?_)
    obtain ⟨rfl, hps_1, rfl⟩ := h
    show SW x [tmO (xg x) o a (va_up z 8 (imP n (z 39) c)), aL (xg x) (a 33) 120 Ii, aL (xg x) (a 34) 120 Ip, aL (xg x) (a 35) 120 Io] _ _ _ _ [.int (jI (psI (imP n (z 39) c)))]
    refine sw_if_eq (n := 66) F (by omega) (tgt := 68) dX4_instalment_63 (by decide) rfl (fun c_63 => ?_) (fun c_63 => ?_)
    ·
      have e0 : imP n (z 39) c = 0 := by omega
      obtain ⟨hz0, hz1⟩ := imP_0 n (z 39) c e0
      have rg0 : 0 ≤ n ∧ n ≤ 119 := by omega
      have rg1 : c = 105 ∨ c = 112 ∨ c = 111 ∨ c = 115 := by omega
      clear hz0 hz1 hcs c_63 hps_1
      refine sw_iload_n (n := 69) F 2 rfl rfl dX4_instalment_68 rfl ?_
      refine sw_bipush (n := 71) F (105) (by decide) dX4_instalment_69 rfl ?_
      refine sw_icmp_ne (n := 74) F (by omega) (by decide) (tgt := 83) dX4_instalment_71 (by decide) rfl (fun c_71 => ?_) (fun c_71 => ?_)
      ·
        refine sw_iload_n (n := 84) F 2 rfl rfl dX4_instalment_83 rfl ?_
        refine sw_bipush (n := 86) F (112) (by decide) dX4_instalment_84 rfl ?_
        refine sw_icmp_ne (n := 89) F (by omega) (by decide) (tgt := 98) dX4_instalment_86 (by decide) rfl (fun c_86 => ?_) (fun c_86 => ?_)
        ·
          refine sw_iload_n (n := 99) F 2 rfl rfl dX4_instalment_98 rfl ?_
          refine sw_bipush (n := 101) F (111) (by decide) dX4_instalment_99 rfl ?_
          refine sw_icmp_ne (n := 104) F (by omega) (by decide) (tgt := 113) dX4_instalment_101 (by decide) rfl (fun c_101 => ?_) (fun c_101 => ?_)
          ·
            have ev : imV Ii Ip Io n.toNat c = Ii n.toNat + Ip n.toNat := by unfold imV; rw [if_neg (by omega), if_neg (by omega), if_neg (by omega)]
            refine sw_aload_n (n := 114) F 0 (some o) rfl rfl rfl dX4_instalment_113 rfl ?_
            refine sw_get (n := 117) F 0 rfl (k := 33) ⟨(RX4, TX4, 50), rfl, by decide, q3832, in_X4, Or.inl rfl⟩ (v := .ref (a 33)) rfl dX4_instalment_114 rfl ?_
            refine sw_iload_n (n := 118) F 1 rfl rfl dX4_instalment_117 rfl ?_
            refine sw_laloadL (n := 119) F 1 rfl (fun _ => rfl) ((n : Int).toNat) (by omega) (by omega) dX4_instalment_118 rfl ?_
            refine sw_aload_n (n := 120) F 0 (some o) rfl rfl rfl dX4_instalment_119 rfl ?_
            refine sw_get (n := 123) F 0 rfl (k := 34) ⟨(RX4, TX4, 50), rfl, by decide, q3833, in_X4, Or.inl rfl⟩ (v := .ref (a 34)) rfl dX4_instalment_120 rfl ?_
            refine sw_iload_n (n := 124) F 1 rfl rfl dX4_instalment_123 rfl ?_
            refine sw_laloadL (n := 125) F 2 rfl (fun _ => rfl) ((n : Int).toNat) (by omega) (by omega) dX4_instalment_124 rfl ?_
            refine sw_ladd (n := 126) F dX4_instalment_125 rfl ?_
            have e0 : imP n (z 39) c = 0 := by omega
            exact sw_lret F rfl dX4_instalment_126 (by rw [hPo]; exact ⟨(by rw [if0_p e0, ev]), rfl⟩)
          ·
            have ev : imV Ii Ip Io n.toNat c = Io n.toNat := by unfold imV; rw [if_neg (by omega), if_neg (by omega), if_pos (by omega)]
            refine sw_aload_n (n := 105) F 0 (some o) rfl rfl rfl dX4_instalment_104 rfl ?_
            refine sw_get (n := 108) F 0 rfl (k := 35) ⟨(RX4, TX4, 50), rfl, by decide, q3834, in_X4, Or.inl rfl⟩ (v := .ref (a 35)) rfl dX4_instalment_105 rfl ?_
            refine sw_iload_n (n := 109) F 1 rfl rfl dX4_instalment_108 rfl ?_
            refine sw_laloadL (n := 110) F 3 rfl (fun _ => rfl) ((n : Int).toNat) (by omega) (by omega) dX4_instalment_109 rfl ?_
            refine sw_goto F (n := 126) dX4_instalment_110 (by decide) ?_
            have e0 : imP n (z 39) c = 0 := by omega
            exact sw_lret F rfl dX4_instalment_126 (by rw [hPo]; exact ⟨(by rw [if0_p e0, ev]), rfl⟩)
        ·
          have ev : imV Ii Ip Io n.toNat c = Ip n.toNat := by unfold imV; rw [if_neg (by omega), if_pos (by omega)]
          refine sw_aload_n (n := 90) F 0 (some o) rfl rfl rfl dX4_instalment_89 rfl ?_
          refine sw_get (n := 93) F 0 rfl (k := 34) ⟨(RX4, TX4, 50), rfl, by decide, q3833, in_X4, Or.inl rfl⟩ (v := .ref (a 34)) rfl dX4_instalment_90 rfl ?_
          refine sw_iload_n (n := 94) F 1 rfl rfl dX4_instalment_93 rfl ?_
          refine sw_laloadL (n := 95) F 2 rfl (fun _ => rfl) ((n : Int).toNat) (by omega) (by omega) dX4_instalment_94 rfl ?_
          refine sw_goto F (n := 126) dX4_instalment_95 (by decide) ?_
          have e0 : imP n (z 39) c = 0 := by omega
          exact sw_lret F rfl dX4_instalment_126 (by rw [hPo]; exact ⟨(by rw [if0_p e0, ev]), rfl⟩)
      ·
        have ev : imV Ii Ip Io n.toNat c = Ii n.toNat := by unfold imV; rw [if_pos (by omega)]
        refine sw_aload_n (n := 75) F 0 (some o) rfl rfl rfl dX4_instalment_74 rfl ?_
        refine sw_get (n := 78) F 0 rfl (k := 33) ⟨(RX4, TX4, 50), rfl, by decide, q3832, in_X4, Or.inl rfl⟩ (v := .ref (a 33)) rfl dX4_instalment_75 rfl ?_
        refine sw_iload_n (n := 79) F 1 rfl rfl dX4_instalment_78 rfl ?_
        refine sw_laloadL (n := 80) F 1 rfl (fun _ => rfl) ((n : Int).toNat) (by omega) (by omega) dX4_instalment_79 rfl ?_
        refine sw_goto F (n := 126) dX4_instalment_80 (by decide) ?_
        have e0 : imP n (z 39) c = 0 := by omega
        exact sw_lret F rfl dX4_instalment_126 (by rw [hPo]; exact ⟨(by rw [if0_p e0, ev]), rfl⟩)
    ·
      refine sw_lconst (n := 67) F 0 (by decide) dX4_instalment_66 rfl ?_
      have e0 : imP n (z 39) c ≠ 0 := by omega
      exact sw_lret F rfl dX4_instalment_67 (by rw [hPo]; exact ⟨(by rw [if0_n e0]), rfl⟩)
  refine sw_bipush (n := 3) F (105) (by decide) dX4_instalment_1 rfl ?_
  refine sw_icmp_eq (n := 6) F (by omega) (by decide) (tgt := 24) dX4_instalment_3 (by decide) rfl (fun c_3 => ?_) (fun c_3 => ?_)
  ·
    refine sw_iconst (n := 25) F (1) (by decide) dX4_instalment_24 rfl ?_
    refine sw_goto F (n := 29) dX4_instalment_25 (by decide) ?_
    refine sw_istore_n (n := 30) F (L2 := [(3, .int (jI 1)), (0, .ref o), (1, .int (jI n)), (2, .int (jI c))]) rfl (by decide) rfl dX4_instalment_29 rfl ?_
    refine sw_aload_n (n := 31) F 1 (some o) rfl rfl rfl dX4_instalment_30 rfl ?_
    refine sw_iload_n (n := 32) F 0 rfl rfl dX4_instalment_31 rfl ?_
    refine sw_if_ne (n := 35) F (by decide) (tgt := 39) dX4_instalment_32 (by decide) rfl (fun c_32 => ?_) (fun c_32 => ?_)
    ·
      refine sw_iload_n (n := 40) F 2 rfl rfl dX4_instalment_39 rfl ?_
      refine sw_i2l (n := 41) F (by omega) dX4_instalment_40 rfl ?_
      refine sw_lconst (n := 42) F 0 (by decide) dX4_instalment_41 rfl ?_
      refine sw_aload_n (n := 43) F 1 (some o) rfl rfl rfl dX4_instalment_42 rfl ?_
      refine sw_get (n := 46) F 0 rfl (k := 39) ⟨(RX4, TX4, 50), rfl, by decide, q3838, in_X4, Or.inl rfl⟩ (v := .int (jI (z 39))) rfl dX4_instalment_43 rfl ?_
      refine sw_iconst (n := 47) F (1) (by decide) dX4_instalment_46 rfl ?_
      refine sw_isub (n := 48) F dX4_instalment_47 rfl ?_
      refine sw_i2l (n := 49) F (by omega) dX4_instalment_48 rfl ?_
      refine sw_callS (n := 52) F (ct_X4_in (g := xg x) (l := xl x) n 0 ((z 39) - 1) (by first | omega | assumption) (by first | omega | assumption) (by first | omega | assumption)) q3963 q3964 q120 q3965 nd_X4_in rfl (by decide) [0, 1, 2, 3] (perm_ok _ 4 (by decide +kernel) rfl) [tmO (xg x) o a z, aL (xg x) (a 33) 120 Ii, aL (xg x) (a 34) 120 Ip, aL (xg x) (a 35) 120 Io] rfl 0 0 ⟨by omega, by omega⟩ [.ref o] rfl (Nat.le_of_ble_eq_true rfl) dX4_instalment_49 rfl (fun _ _ h => h.elim) (fun v Ws h => ?_)
      obtain ⟨rfl, hs_2, rfl⟩ := h
      show SW x [tmO (xg x) o a z, aL (xg x) (a 33) 120 Ii, aL (xg x) (a 34) 120 Ip, aL (xg x) (a 35) 120 Io] _ _ _ _ [.int (jI (inI n 0 ((z 39) - 1))), .ref o]
      refine sw_if_eq (n := 55) F (by omega) (tgt := 59) dX4_instalment_52 (by decide) rfl (fun c_52 => ?_) (fun c_52 => ?_)
      ·
        refine sw_iconst (n := 60) F (2) (by decide) dX4_instalment_59 rfl ?_
        refine sw_loc [1, 2, 3] (L2 := [(0, .ref o), (1, .int (jI n)), (2, .int (jI c))]) rfl ?_
        exact K60 2 (by unfold imP; (repeat' split) <;> omega)
      ·
        refine sw_iconst (n := 56) F (0) (by decide) dX4_instalment_55 rfl ?_
        refine sw_goto F (n := 60) dX4_instalment_56 (by decide) ?_
        refine sw_loc [1, 2, 3] (L2 := [(0, .ref o), (1, .int (jI n)), (2, .int (jI c))]) rfl ?_
        exact K60 0 (by unfold imP; (repeat' split) <;> omega)
    · exfalso; exact absurd c_32 (by decide)
  ·
    refine sw_iload_n (n := 7) F 2 rfl rfl dX4_instalment_6 rfl ?_
    refine sw_bipush (n := 9) F (112) (by decide) dX4_instalment_7 rfl ?_
    refine sw_icmp_eq (n := 12) F (by omega) (by decide) (tgt := 24) dX4_instalment_9 (by decide) rfl (fun c_9 => ?_) (fun c_9 => ?_)
    ·
      refine sw_iconst (n := 25) F (1) (by decide) dX4_instalment_24 rfl ?_
      refine sw_goto F (n := 29) dX4_instalment_25 (by decide) ?_
      refine sw_istore_n (n := 30) F (L2 := [(3, .int (jI 1)), (0, .ref o), (1, .int (jI n)), (2, .int (jI c))]) rfl (by decide) rfl dX4_instalment_29 rfl ?_
      refine sw_aload_n (n := 31) F 1 (some o) rfl rfl rfl dX4_instalment_30 rfl ?_
      refine sw_iload_n (n := 32) F 0 rfl rfl dX4_instalment_31 rfl ?_
      refine sw_if_ne (n := 35) F (by decide) (tgt := 39) dX4_instalment_32 (by decide) rfl (fun c_32 => ?_) (fun c_32 => ?_)
      ·
        refine sw_iload_n (n := 40) F 2 rfl rfl dX4_instalment_39 rfl ?_
        refine sw_i2l (n := 41) F (by omega) dX4_instalment_40 rfl ?_
        refine sw_lconst (n := 42) F 0 (by decide) dX4_instalment_41 rfl ?_
        refine sw_aload_n (n := 43) F 1 (some o) rfl rfl rfl dX4_instalment_42 rfl ?_
        refine sw_get (n := 46) F 0 rfl (k := 39) ⟨(RX4, TX4, 50), rfl, by decide, q3838, in_X4, Or.inl rfl⟩ (v := .int (jI (z 39))) rfl dX4_instalment_43 rfl ?_
        refine sw_iconst (n := 47) F (1) (by decide) dX4_instalment_46 rfl ?_
        refine sw_isub (n := 48) F dX4_instalment_47 rfl ?_
        refine sw_i2l (n := 49) F (by omega) dX4_instalment_48 rfl ?_
        refine sw_callS (n := 52) F (ct_X4_in (g := xg x) (l := xl x) n 0 ((z 39) - 1) (by first | omega | assumption) (by first | omega | assumption) (by first | omega | assumption)) q3963 q3964 q120 q3965 nd_X4_in rfl (by decide) [0, 1, 2, 3] (perm_ok _ 4 (by decide +kernel) rfl) [tmO (xg x) o a z, aL (xg x) (a 33) 120 Ii, aL (xg x) (a 34) 120 Ip, aL (xg x) (a 35) 120 Io] rfl 0 0 ⟨by omega, by omega⟩ [.ref o] rfl (Nat.le_of_ble_eq_true rfl) dX4_instalment_49 rfl (fun _ _ h => h.elim) (fun v Ws h => ?_)
        obtain ⟨rfl, hs_3, rfl⟩ := h
        show SW x [tmO (xg x) o a z, aL (xg x) (a 33) 120 Ii, aL (xg x) (a 34) 120 Ip, aL (xg x) (a 35) 120 Io] _ _ _ _ [.int (jI (inI n 0 ((z 39) - 1))), .ref o]
        refine sw_if_eq (n := 55) F (by omega) (tgt := 59) dX4_instalment_52 (by decide) rfl (fun c_52 => ?_) (fun c_52 => ?_)
        ·
          refine sw_iconst (n := 60) F (2) (by decide) dX4_instalment_59 rfl ?_
          refine sw_loc [1, 2, 3] (L2 := [(0, .ref o), (1, .int (jI n)), (2, .int (jI c))]) rfl ?_
          exact K60 2 (by unfold imP; (repeat' split) <;> omega)
        ·
          refine sw_iconst (n := 56) F (0) (by decide) dX4_instalment_55 rfl ?_
          refine sw_goto F (n := 60) dX4_instalment_56 (by decide) ?_
          refine sw_loc [1, 2, 3] (L2 := [(0, .ref o), (1, .int (jI n)), (2, .int (jI c))]) rfl ?_
          exact K60 0 (by unfold imP; (repeat' split) <;> omega)
      · exfalso; exact absurd c_32 (by decide)
    ·
      refine sw_iload_n (n := 13) F 2 rfl rfl dX4_instalment_12 rfl ?_
      refine sw_bipush (n := 15) F (111) (by decide) dX4_instalment_13 rfl ?_
      refine sw_icmp_eq (n := 18) F (by omega) (by decide) (tgt := 24) dX4_instalment_15 (by decide) rfl (fun c_15 => ?_) (fun c_15 => ?_)
      ·
        refine sw_iconst (n := 25) F (1) (by decide) dX4_instalment_24 rfl ?_
        refine sw_goto F (n := 29) dX4_instalment_25 (by decide) ?_
        refine sw_istore_n (n := 30) F (L2 := [(3, .int (jI 1)), (0, .ref o), (1, .int (jI n)), (2, .int (jI c))]) rfl (by decide) rfl dX4_instalment_29 rfl ?_
        refine sw_aload_n (n := 31) F 1 (some o) rfl rfl rfl dX4_instalment_30 rfl ?_
        refine sw_iload_n (n := 32) F 0 rfl rfl dX4_instalment_31 rfl ?_
        refine sw_if_ne (n := 35) F (by decide) (tgt := 39) dX4_instalment_32 (by decide) rfl (fun c_32 => ?_) (fun c_32 => ?_)
        ·
          refine sw_iload_n (n := 40) F 2 rfl rfl dX4_instalment_39 rfl ?_
          refine sw_i2l (n := 41) F (by omega) dX4_instalment_40 rfl ?_
          refine sw_lconst (n := 42) F 0 (by decide) dX4_instalment_41 rfl ?_
          refine sw_aload_n (n := 43) F 1 (some o) rfl rfl rfl dX4_instalment_42 rfl ?_
          refine sw_get (n := 46) F 0 rfl (k := 39) ⟨(RX4, TX4, 50), rfl, by decide, q3838, in_X4, Or.inl rfl⟩ (v := .int (jI (z 39))) rfl dX4_instalment_43 rfl ?_
          refine sw_iconst (n := 47) F (1) (by decide) dX4_instalment_46 rfl ?_
          refine sw_isub (n := 48) F dX4_instalment_47 rfl ?_
          refine sw_i2l (n := 49) F (by omega) dX4_instalment_48 rfl ?_
          refine sw_callS (n := 52) F (ct_X4_in (g := xg x) (l := xl x) n 0 ((z 39) - 1) (by first | omega | assumption) (by first | omega | assumption) (by first | omega | assumption)) q3963 q3964 q120 q3965 nd_X4_in rfl (by decide) [0, 1, 2, 3] (perm_ok _ 4 (by decide +kernel) rfl) [tmO (xg x) o a z, aL (xg x) (a 33) 120 Ii, aL (xg x) (a 34) 120 Ip, aL (xg x) (a 35) 120 Io] rfl 0 0 ⟨by omega, by omega⟩ [.ref o] rfl (Nat.le_of_ble_eq_true rfl) dX4_instalment_49 rfl (fun _ _ h => h.elim) (fun v Ws h => ?_)
          obtain ⟨rfl, hs_4, rfl⟩ := h
          show SW x [tmO (xg x) o a z, aL (xg x) (a 33) 120 Ii, aL (xg x) (a 34) 120 Ip, aL (xg x) (a 35) 120 Io] _ _ _ _ [.int (jI (inI n 0 ((z 39) - 1))), .ref o]
          refine sw_if_eq (n := 55) F (by omega) (tgt := 59) dX4_instalment_52 (by decide) rfl (fun c_52 => ?_) (fun c_52 => ?_)
          ·
            refine sw_iconst (n := 60) F (2) (by decide) dX4_instalment_59 rfl ?_
            refine sw_loc [1, 2, 3] (L2 := [(0, .ref o), (1, .int (jI n)), (2, .int (jI c))]) rfl ?_
            exact K60 2 (by unfold imP; (repeat' split) <;> omega)
          ·
            refine sw_iconst (n := 56) F (0) (by decide) dX4_instalment_55 rfl ?_
            refine sw_goto F (n := 60) dX4_instalment_56 (by decide) ?_
            refine sw_loc [1, 2, 3] (L2 := [(0, .ref o), (1, .int (jI n)), (2, .int (jI c))]) rfl ?_
            exact K60 0 (by unfold imP; (repeat' split) <;> omega)
        · exfalso; exact absurd c_32 (by decide)
      ·
        refine sw_iload_n (n := 19) F 2 rfl rfl dX4_instalment_18 rfl ?_
        refine sw_bipush (n := 21) F (115) (by decide) dX4_instalment_19 rfl ?_
        refine sw_icmp_ne (n := 24) F (by omega) (by decide) (tgt := 28) dX4_instalment_21 (by decide) rfl (fun c_21 => ?_) (fun c_21 => ?_)
        ·
          refine sw_iconst (n := 29) F (0) (by decide) dX4_instalment_28 rfl ?_
          refine sw_istore_n (n := 30) F (L2 := [(3, .int (jI 0)), (0, .ref o), (1, .int (jI n)), (2, .int (jI c))]) rfl (by decide) rfl dX4_instalment_29 rfl ?_
          refine sw_aload_n (n := 31) F 1 (some o) rfl rfl rfl dX4_instalment_30 rfl ?_
          refine sw_iload_n (n := 32) F 0 rfl rfl dX4_instalment_31 rfl ?_
          refine sw_if_ne (n := 35) F (by decide) (tgt := 39) dX4_instalment_32 (by decide) rfl (fun c_32 => ?_) (fun c_32 => ?_)
          · exfalso; exact absurd c_32 (by decide)
          ·
            refine sw_iconst (n := 36) F (1) (by decide) dX4_instalment_35 rfl ?_
            refine sw_goto F (n := 60) dX4_instalment_36 (by decide) ?_
            refine sw_loc [1, 2, 3] (L2 := [(0, .ref o), (1, .int (jI n)), (2, .int (jI c))]) rfl ?_
            exact K60 1 (by unfold imP; (repeat' split) <;> omega)
        ·
          refine sw_iconst (n := 25) F (1) (by decide) dX4_instalment_24 rfl ?_
          refine sw_goto F (n := 29) dX4_instalment_25 (by decide) ?_
          refine sw_istore_n (n := 30) F (L2 := [(3, .int (jI 1)), (0, .ref o), (1, .int (jI n)), (2, .int (jI c))]) rfl (by decide) rfl dX4_instalment_29 rfl ?_
          refine sw_aload_n (n := 31) F 1 (some o) rfl rfl rfl dX4_instalment_30 rfl ?_
          refine sw_iload_n (n := 32) F 0 rfl rfl dX4_instalment_31 rfl ?_
          refine sw_if_ne (n := 35) F (by decide) (tgt := 39) dX4_instalment_32 (by decide) rfl (fun c_32 => ?_) (fun c_32 => ?_)
          ·
            refine sw_iload_n (n := 40) F 2 rfl rfl dX4_instalment_39 rfl ?_
            refine sw_i2l (n := 41) F (by omega) dX4_instalment_40 rfl ?_
            refine sw_lconst (n := 42) F 0 (by decide) dX4_instalment_41 rfl ?_
            refine sw_aload_n (n := 43) F 1 (some o) rfl rfl rfl dX4_instalment_42 rfl ?_
            refine sw_get (n := 46) F 0 rfl (k := 39) ⟨(RX4, TX4, 50), rfl, by decide, q3838, in_X4, Or.inl rfl⟩ (v := .int (jI (z 39))) rfl dX4_instalment_43 rfl ?_
            refine sw_iconst (n := 47) F (1) (by decide) dX4_instalment_46 rfl ?_
            refine sw_isub (n := 48) F dX4_instalment_47 rfl ?_
            refine sw_i2l (n := 49) F (by omega) dX4_instalment_48 rfl ?_
            refine sw_callS (n := 52) F (ct_X4_in (g := xg x) (l := xl x) n 0 ((z 39) - 1) (by first | omega | assumption) (by first | omega | assumption) (by first | omega | assumption)) q3963 q3964 q120 q3965 nd_X4_in rfl (by decide) [0, 1, 2, 3] (perm_ok _ 4 (by decide +kernel) rfl) [tmO (xg x) o a z, aL (xg x) (a 33) 120 Ii, aL (xg x) (a 34) 120 Ip, aL (xg x) (a 35) 120 Io] rfl 0 0 ⟨by omega, by omega⟩ [.ref o] rfl (Nat.le_of_ble_eq_true rfl) dX4_instalment_49 rfl (fun _ _ h => h.elim) (fun v Ws h => ?_)
            obtain ⟨rfl, hs_5, rfl⟩ := h
            show SW x [tmO (xg x) o a z, aL (xg x) (a 33) 120 Ii, aL (xg x) (a 34) 120 Ip, aL (xg x) (a 35) 120 Io] _ _ _ _ [.int (jI (inI n 0 ((z 39) - 1))), .ref o]
            refine sw_if_eq (n := 55) F (by omega) (tgt := 59) dX4_instalment_52 (by decide) rfl (fun c_52 => ?_) (fun c_52 => ?_)
            ·
              refine sw_iconst (n := 60) F (2) (by decide) dX4_instalment_59 rfl ?_
              refine sw_loc [1, 2, 3] (L2 := [(0, .ref o), (1, .int (jI n)), (2, .int (jI c))]) rfl ?_
              exact K60 2 (by unfold imP; (repeat' split) <;> omega)
            ·
              refine sw_iconst (n := 56) F (0) (by decide) dX4_instalment_55 rfl ?_
              refine sw_goto F (n := 60) dX4_instalment_56 (by decide) ?_
              refine sw_loc [1, 2, 3] (L2 := [(0, .ref o), (1, .int (jI n)), (2, .int (jI c))]) rfl ?_
              exact K60 0 (by unfold imP; (repeat' split) <;> omega)
          · exfalso; exact absurd c_32 (by decide)
