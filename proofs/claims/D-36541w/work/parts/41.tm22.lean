theorem if0_01 (c x : Int) (h : c = 0 ∨ c = 1) : if0 c x = 0 ∨ if0 c x = x := by unfold if0; split <;> omega
def chM (Pl Rs : Nat → Int) (c d : Nat) : Int := Pl d - Pl c - Rs (4 * c + d)
def chU (Pl Rs Rt : Nat → Int) (c d : Nat) (u : Int) : Nat := u.natAbs * (Rt (4 * c + d)).natAbs * 10 ^ (chM Pl Rs c d).toNat
def chV (Pl Rs : Nat → Int) (c d : Nat) : Nat := 1 * 10 ^ (-(chM Pl Rs c d)).toNat
def chQ (Pl Rs Rt Md : Nat → Int) (c d : Nat) (u : Int) : Nat := rnd (Md d) 0 (chU Pl Rs Rt c d u) (chV Pl Rs c d)
def chR (Pl Rs Rt Md : Nat → Int) (c d : Nat) (u z : Int) : Int := if 10 ^ 18 ≤ chQ Pl Rs Rt Md c d u then 1 else rfz (Md d) (chU Pl Rs Rt c d u) (chV Pl Rs c d) z
def chA (Pl Rs Rt Md : Nat → Int) (c d : Nat) (u z : Int) : Int := if chR Pl Rs Rt Md c d u z = 0 then (chQ Pl Rs Rt Md c d u : Int) else 0
theorem rfz_zz {m : Int} {u v : Nat} {z : Int} (h : z = 0 ∨ z = 1) : rfz m u v z = 0 ∨ rfz m u v z = 1 := by unfold rfz; split <;> omega
theorem chR_01 {Pl Rs Rt Md : Nat → Int} {c d : Nat} {u z : Int} (h : z = 0 ∨ z = 1) : chR Pl Rs Rt Md c d u z = 0 ∨ chR Pl Rs Rt Md c d u z = 1 := by
  have := rfz_zz (m := Md d) (u := chU Pl Rs Rt c d u) (v := chV Pl Rs c d) h
  unfold chR; split <;> omega
theorem chA_rng {Pl Rs Rt Md : Nat → Int} {c d : Nat} {u z : Int} : 0 ≤ chA Pl Rs Rt Md c d u z ∧ chA Pl Rs Rt Md c d u z ≤ 999999999999999999 := by
  unfold chA chR
  (repeat' split) <;> omega
def PlB (P : Nat → Int) : Prop := ∀ k, 0 ≤ P k ∧ P k ≤ 3
def CoB (P : Nat → Int) : Prop := ∀ k, 1 ≤ P k ∧ P k ≤ 100
def MdB (P : Nat → Int) : Prop := ∀ k, 0 ≤ P k ∧ P k ≤ 65535 ∧ mdI (P k) = 1
def RtB (P : Nat → Int) : Prop := ∀ k, 0 ≤ P k ∧ P k ≤ 999999999999999999
theorem l37 {x y e : Nat} (h : x ≤ 10 ^ 18) (h2 : y < 10 ^ 18) (he : e ≤ 60) : x * y < big ∧ x * y * 10 ^ e < 10 ^ 110 := by
  have h1 : x * y ≤ 10 ^ 18 * 10 ^ 18 := Nat.mul_le_mul h (Nat.le_of_lt h2)
  have h3 : x * y * 10 ^ e ≤ 10 ^ 36 * 10 ^ 60 := Nat.mul_le_mul (by omega) (Nat.pow_le_pow_right (by decide) he)
  have h4 : 10 ^ 37 ≤ big := Nat.pow_le_pow_right (by decide) (by decide)
  have h5 : 10 ^ 36 * 10 ^ 60 < 10 ^ 110 := Nat.lt_of_succ_le (Nat.le_of_ble_eq_true rfl)
  omega
def scuP (k n m c : Int) : Int := if k < 0 ∨ 3 < k then 1 else if n < 0 ∨ 3 < n ∨ mdI m = 0 ∨ c < 1 ∨ 100 < c then 2 else 0
theorem scuP_c (k n m c : Int) : (scuP k n m c = 1 ∧ (k < 0 ∨ 3 < k)) ∨ (scuP k n m c = 2 ∧ ¬(k < 0 ∨ 3 < k) ∧ (n < 0 ∨ 3 < n ∨ mdI m = 0 ∨ c < 1 ∨ 100 < c)) ∨ (scuP k n m c = 0 ∧ ¬(k < 0 ∨ 3 < k) ∧ ¬(n < 0 ∨ 3 < n ∨ mdI m = 0 ∨ c < 1 ∨ 100 < c)) := by
  unfold scuP; (repeat' split) <;> omega
def srP (c d s : Int) (H N : Nat → Int) : Int := if c < 0 ∨ 3 < c ∨ d < 0 ∨ 3 < d ∨ s < 0 ∨ 11 < s then 1 else if c = d then 2 else if H s.toNat = 0 then 3 else if N s.toNat ≤ 0 then 4 else 0
theorem srP_c (c d s : Int) (H N : Nat → Int) : (srP c d s H N = 1 ∧ (c < 0 ∨ 3 < c ∨ d < 0 ∨ 3 < d ∨ s < 0 ∨ 11 < s)) ∨ (srP c d s H N = 2 ∧ ¬(c < 0 ∨ 3 < c ∨ d < 0 ∨ 3 < d ∨ s < 0 ∨ 11 < s) ∧ (c = d)) ∨ (srP c d s H N = 3 ∧ ¬(c < 0 ∨ 3 < c ∨ d < 0 ∨ 3 < d ∨ s < 0 ∨ 11 < s) ∧ ¬(c = d) ∧ (H s.toNat = 0)) ∨ (srP c d s H N = 4 ∧ ¬(c < 0 ∨ 3 < c ∨ d < 0 ∨ 3 < d ∨ s < 0 ∨ 11 < s) ∧ ¬(c = d) ∧ ¬(H s.toNat = 0) ∧ (N s.toNat ≤ 0)) ∨ (srP c d s H N = 0 ∧ ¬(c < 0 ∨ 3 < c ∨ d < 0 ∨ 3 < d ∨ s < 0 ∨ 11 < s) ∧ ¬(c = d) ∧ ¬(H s.toNat = 0) ∧ ¬(N s.toNat ≤ 0)) := by
  unfold srP; (repeat' split) <;> omega
def nmC (c d u : Int) (Rt : Nat → Int) : Int := if c < 0 ∨ 3 < c ∨ d < 0 ∨ 3 < d then 1 else if c = d ∨ u < 0 ∨ 1000000000000 < u then 2 else if Rt (4 * c + d).toNat = 0 then 3 else 0
theorem nmC_c (c d u : Int) (Rt : Nat → Int) : (nmC c d u Rt = 1 ∧ (c < 0 ∨ 3 < c ∨ d < 0 ∨ 3 < d)) ∨ (nmC c d u Rt = 2 ∧ ¬(c < 0 ∨ 3 < c ∨ d < 0 ∨ 3 < d) ∧ (c = d ∨ u < 0 ∨ 1000000000000 < u)) ∨ (nmC c d u Rt = 3 ∧ ¬(c < 0 ∨ 3 < c ∨ d < 0 ∨ 3 < d) ∧ ¬(c = d ∨ u < 0 ∨ 1000000000000 < u) ∧ (Rt (4 * c + d).toNat = 0)) ∨ (nmC c d u Rt = 0 ∧ ¬(c < 0 ∨ 3 < c ∨ d < 0 ∨ 3 < d) ∧ ¬(c = d ∨ u < 0 ∨ 1000000000000 < u) ∧ ¬(Rt (4 * c + d).toNat = 0)) := by
  unfold nmC; (repeat' split) <;> omega
def ltC (c d u : Int) (Rt : Nat → Int) : Int := if c < 0 ∨ 3 < c ∨ d < 0 ∨ 3 < d then 1 else if c = d ∨ u < 0 ∨ 1000000000000 < u then 2 else if Rt (4 * c + d).toNat = 0 ∨ Rt (4 * d + c).toNat = 0 then 3 else 0
theorem ltC_c (c d u : Int) (Rt : Nat → Int) : (ltC c d u Rt = 1 ∧ (c < 0 ∨ 3 < c ∨ d < 0 ∨ 3 < d)) ∨ (ltC c d u Rt = 2 ∧ ¬(c < 0 ∨ 3 < c ∨ d < 0 ∨ 3 < d) ∧ (c = d ∨ u < 0 ∨ 1000000000000 < u)) ∨ (ltC c d u Rt = 3 ∧ ¬(c < 0 ∨ 3 < c ∨ d < 0 ∨ 3 < d) ∧ ¬(c = d ∨ u < 0 ∨ 1000000000000 < u) ∧ (Rt (4 * c + d).toNat = 0 ∨ Rt (4 * d + c).toNat = 0)) ∨ (ltC c d u Rt = 0 ∧ ¬(c < 0 ∨ 3 < c ∨ d < 0 ∨ 3 < d) ∧ ¬(c = d ∨ u < 0 ∨ 1000000000000 < u) ∧ ¬(Rt (4 * c + d).toNat = 0 ∨ Rt (4 * d + c).toNat = 0)) := by
  unfold ltC; (repeat' split) <;> omega
theorem nd_X4_isCurrency : yX4_isCurrency.cls ≠ "java/lang/invoke/MethodHandle" ∧ yX4_isCurrency.cls ≠ "java/lang/invoke/VarHandle" ∧ (parseMethodDescriptor yX4_isCurrency.desc).map (fun d => d.parameters.length) = some 1 := by decide +kernel
set_option maxRecDepth 100000 in
set_option maxHeartbeats 16000000 in
theorem ct_X4_isCurrency {g : GG} {l : Launch} (k : Int) (hk : -2147483648 ≤ k ∧ k ≤ 2147483647) : Ct g l yX4_isCurrency (ws_ yX4_isCurrency cX4_isCurrency 1 (Option.some Jvm.ClassFile.FieldType.boolean)) 2 37 0 0 [.int (jI k)] [] (fun v9 Ws9 => v9 = some (.int (jI (inI k 0 3))) ∧ ((inI k 0 3 = 1 ∧ 0 ≤ k ∧ k ≤ 3) ∨ (inI k 0 3 = 0 ∧ (k < 0 ∨ 3 < k))) ∧ Ws9 = []) (nox) := by
  refine Ct.of (cc := cX4_isCurrency) (nL := 1) (ret := (Option.some Jvm.ClassFile.FieldType.boolean)) (by decide) rfl (Nat.le_of_ble_eq_true rfl) ?_
  intro x hg hl hPo hPx hmc hms F
  subst hg; subst hl
  refine SW.cast (L' := [(0, .int (jI k))]) ?_ rfl rfl rfl
  refine sw_iload_n (n := 1) F 0 rfl rfl dX4_isCurrency_0 rfl ?_
  refine sw_i2l (n := 2) F (by omega) dX4_isCurrency_1 rfl ?_
  refine sw_lconst (n := 3) F 0 (by decide) dX4_isCurrency_2 rfl ?_
  refine sw_ldc2 (n := 6) F (3) q4165 (by decide) dX4_isCurrency_3 rfl ?_
  refine sw_callS (n := 9) F (ct_X4_in (g := xg x) (l := xl x) k 0 3 (by first | omega | assumption) (by first | omega | assumption) (by first | omega | assumption)) q3963 q3964 q120 q3965 nd_X4_in rfl (by decide) [] rfl [] rfl 0 0 ⟨by omega, by omega⟩ [] rfl (Nat.le_of_ble_eq_true rfl) dX4_isCurrency_6 rfl (fun _ _ h => h.elim) (fun v Ws h => ?_)
  obtain ⟨rfl, hs_1, rfl⟩ := h
  show SW x [] _ _ _ _ [.int (jI (inI k 0 3))]
  exact sw_iret F _ rfl (by first | rfl | exact jI_nz (by omega) | exact jI_nc (by omega)) dX4_isCurrency_9 (by rw [hPo]; exact ⟨rfl, (by exact inI_cases _ _ _), rfl⟩)
theorem nd_X4_setCurrency : yX4_setCurrency.cls ≠ "java/lang/invoke/MethodHandle" ∧ yX4_setCurrency.cls ≠ "java/lang/invoke/VarHandle" ∧ (parseMethodDescriptor yX4_setCurrency.desc).map (fun d => d.parameters.length) = some 4 := by decide +kernel
set_option maxRecDepth 100000 in
set_option maxHeartbeats 16000000 in
theorem ct_X4_setCurrency {g : GG} {l : Launch} (o : Nat) (a : Nat → Nat) (z : Nat → Int) (Pl : Nat → Int) (Co : Nat → Int) (Md : Nat → Int) (k : Int) (n : Int) (m : Int) (c : Int) (hk : -2147483648 ≤ k ∧ k ≤ 2147483647) (hn : -2147483648 ≤ n ∧ n ≤ 2147483647) (hm : 0 ≤ m ∧ m ≤ 65535) (hc : -2147483648 ≤ c ∧ c ≤ 2147483647) : Ct g l yX4_setCurrency (ws_ yX4_setCurrency cX4_setCurrency 6 (Option.some Jvm.ClassFile.FieldType.int)) 3 57 0 0 [.ref o, .int (jI k), .int (jI n), .int (jI m), .int (jI c)] [tmO g o a z, aI g 0 (a 9) 4 Pl, aI g 0 (a 10) 4 Co, aI g 2 (a 11) 4 Md] (fun v9 Ws9 => v9 = some (.int (jI (if0 (scuP k n m c) (Pl k.toNat)))) ∧ Ws9 = [tmO g o a (va_up z 8 (scuP k n m c)), aI g 0 (a 9) 4 (up0 (scuP k n m c) Pl k.toNat n), aI g 0 (a 10) 4 (up0 (scuP k n m c) Co k.toNat c), aI g 2 (a 11) 4 (up0 (scuP k n m c) Md k.toNat m)]) (nox) := by
  refine Ct.of (cc := cX4_setCurrency) (nL := 6) (ret := (Option.some Jvm.ClassFile.FieldType.int)) (by decide) rfl (Nat.le_of_ble_eq_true rfl) ?_
  intro x hg hl hPo hPx hmc hms F
  subst hg; subst hl
  refine SW.cast (L' := [(0, .ref o), (1, .int (jI k)), (2, .int (jI n)), (3, .int (jI m)), (4, .int (jI c))]) ?_ rfl rfl rfl
  have hmd := mdI_cases m
  refine sw_aload_n (n := 1) F 0 (some o) rfl rfl rfl dX4_setCurrency_0 rfl ?_
  have K49 : ∀ (p : Int), (p = scuP k n m c) → SW x [tmO (xg x) o a z, aI (xg x) 0 (a 9) 4 Pl, aI (xg x) 0 (a 10) 4 Co, aI (xg x) 2 (a 11) 4 Md] 0 0 49 [(0, .ref o), (1, .int (jI k)), (2, .int (jI n)), (3, .int (jI m)), (4, .int (jI c))] [.int (jI p), .ref o] := by
    intro p hpc
    subst hpc
    have hcs := scuP_c k n m c
    refine sw_callV (n := 52) F (ct_X4_fails (g := xg x) (l := xl x) o a z (scuP k n m c) (by first | omega | assumption)) (rcv_ob F 0 (ci := 3) rfl rfl) q3973 q3975 qs68 q120 q3976 nd_X4_fails rfl (by decide) [0, 1, 2, 3] rfl [aI (xg x) 0 (a 9) 4 Pl, aI (xg x) 0 (a 10) 4 Co, aI (xg x) 2 (a 11) 4 Md] rfl 0 0 ⟨by omega, by omega⟩ [] rfl (Nat.le_of_ble_eq_true rfl) dX4_setCurrency_49 rfl (fun _ _ h => h.elim) (fun v Ws h => ?_)
    obtain ⟨rfl, hps_1, rfl⟩ := h
    show SW x [tmO (xg x) o a (va_up z 8 (scuP k n m c)), aI (xg x) 0 (a 9) 4 Pl, aI (xg x) 0 (a 10) 4 Co, aI (xg x) 2 (a 11) 4 Md] _ _ _ _ [.int (jI (psI (scuP k n m c)))]
    refine sw_if_eq (n := 55) F (by omega) (tgt := 57) dX4_setCurrency_52 (by decide) rfl (fun c_52 => ?_) (fun c_52 => ?_)
    ·
      have e0 : scuP k n m c = 0 := by omega
      have rg0 : 0 ≤ k ∧ k ≤ 3 := by omega
      have rg1 : 0 ≤ n ∧ n ≤ 3 := by omega
      have rg2 : 1 ≤ c ∧ c ≤ 100 := by omega
      clear hcs c_52 hps_1
      refine sw_aload_n (n := 58) F 0 (some o) rfl rfl rfl dX4_setCurrency_57 rfl ?_
      refine sw_get (n := 61) F 0 rfl (k := 9) ⟨(RX4, TX4, 50), rfl, by decide, q3808, in_X4, Or.inl rfl⟩ (v := .ref (a 9)) rfl dX4_setCurrency_58 rfl ?_
      refine sw_iload_n (n := 62) F 1 rfl rfl dX4_setCurrency_61 rfl ?_
      refine sw_ialoadI (n := 63) F 1 rfl (fun _ => rfl) ((k : Int).toNat) (by omega) (by omega) dX4_setCurrency_62 rfl ?_
      refine sw_istore (n := 65) F (L2 := [(5, .int (jI (Pl ((k : Int).toNat)))), (0, .ref o), (1, .int (jI k)), (2, .int (jI n)), (3, .int (jI m)), (4, .int (jI c))]) rfl (by decide) dX4_setCurrency_63 rfl ?_
      refine sw_aload_n (n := 66) F 1 (some o) rfl rfl rfl dX4_setCurrency_65 rfl ?_
      refine sw_get (n := 69) F 0 rfl (k := 9) ⟨(RX4, TX4, 50), rfl, by decide, q3808, in_X4, Or.inl rfl⟩ (v := .ref (a 9)) rfl dX4_setCurrency_66 rfl ?_
      refine sw_iload_n (n := 70) F 2 rfl rfl dX4_setCurrency_69 rfl ?_
      refine sw_iload_n (n := 71) F 3 rfl rfl dX4_setCurrency_70 rfl ?_
      refine sw_iastoreI (n := 72) F 1 rfl (fun _ => rfl) ((k : Int).toNat) (by omega) (by omega) [tmO (xg x) o a (va_up z 8 (scuP k n m c)), aI (xg x) 0 (a 9) 4 (va_up Pl ((k : Int).toNat) n), aI (xg x) 0 (a 10) 4 Co, aI (xg x) 2 (a 11) 4 Md] (by simp [List.set]) dX4_setCurrency_71 rfl ?_
      refine sw_aload_n (n := 73) F 1 (some o) rfl rfl rfl dX4_setCurrency_72 rfl ?_
      refine sw_get (n := 76) F 0 rfl (k := 11) ⟨(RX4, TX4, 50), rfl, by decide, q3810, in_X4, Or.inl rfl⟩ (v := .ref (a 11)) rfl dX4_setCurrency_73 rfl ?_
      refine sw_iload_n (n := 77) F 2 rfl rfl dX4_setCurrency_76 rfl ?_
      refine sw_iload_n (n := 78) F 4 rfl rfl dX4_setCurrency_77 rfl ?_
      refine sw_castoreI (n := 79) F 3 rfl (fun _ => rfl) ((k : Int).toNat) (by omega) (by omega) (by omega) [tmO (xg x) o a (va_up z 8 (scuP k n m c)), aI (xg x) 0 (a 9) 4 (va_up Pl ((k : Int).toNat) n), aI (xg x) 0 (a 10) 4 Co, aI (xg x) 2 (a 11) 4 (va_up Md ((k : Int).toNat) m)] (by simp [List.set]) dX4_setCurrency_78 rfl ?_
      refine sw_aload_n (n := 80) F 1 (some o) rfl rfl rfl dX4_setCurrency_79 rfl ?_
      refine sw_get (n := 83) F 0 rfl (k := 10) ⟨(RX4, TX4, 50), rfl, by decide, q3809, in_X4, Or.inl rfl⟩ (v := .ref (a 10)) rfl dX4_setCurrency_80 rfl ?_
      refine sw_iload_n (n := 84) F 2 rfl rfl dX4_setCurrency_83 rfl ?_
      refine sw_iload (n := 86) F 5 rfl dX4_setCurrency_84 rfl ?_
      refine sw_iastoreI (n := 87) F 2 rfl (fun _ => rfl) ((k : Int).toNat) (by omega) (by omega) [tmO (xg x) o a (va_up z 8 (scuP k n m c)), aI (xg x) 0 (a 9) 4 (va_up Pl ((k : Int).toNat) n), aI (xg x) 0 (a 10) 4 (va_up Co ((k : Int).toNat) c), aI (xg x) 2 (a 11) 4 (va_up Md ((k : Int).toNat) m)] (by simp [List.set]) dX4_setCurrency_86 rfl ?_
      refine sw_iload (n := 89) F 0 rfl dX4_setCurrency_87 rfl ?_
      have e0 : scuP k n m c = 0 := by omega
      exact sw_iret F _ rfl (by first | rfl | exact jI_nz (by omega) | exact jI_nc (by omega)) dX4_setCurrency_89 (by rw [hPo]; exact ⟨(by rw [if0_p e0]), (by simp only [up0_p e0, up_88])⟩)
    ·
      refine sw_iconst (n := 56) F (0) (by decide) dX4_setCurrency_55 rfl ?_
      have e0 : scuP k n m c ≠ 0 := by omega
      exact sw_iret F _ rfl (by first | rfl | exact jI_nz (by omega) | exact jI_nc (by omega)) dX4_setCurrency_56 (by rw [hPo]; exact ⟨(by rw [if0_n e0]), (by simp only [up0_n e0, up_88])⟩)
  refine sw_iload_n (n := 2) F 1 rfl rfl dX4_setCurrency_1 rfl ?_
  refine sw_callS (n := 5) F (ct_X4_isCurrency (g := xg x) (l := xl x) k hk) q4162 q4163 q120 q4164 nd_X4_isCurrency rfl (by decide) [0, 1, 2, 3] rfl [tmO (xg x) o a z, aI (xg x) 0 (a 9) 4 Pl, aI (xg x) 0 (a 10) 4 Co, aI (xg x) 2 (a 11) 4 Md] rfl 0 0 ⟨by omega, by omega⟩ [.ref o] rfl (Nat.le_of_ble_eq_true rfl) dX4_setCurrency_2 rfl (fun _ _ h => h.elim) (fun v Ws h => ?_)
  obtain ⟨rfl, hs_2, rfl⟩ := h
  show SW x [tmO (xg x) o a z, aI (xg x) 0 (a 9) 4 Pl, aI (xg x) 0 (a 10) 4 Co, aI (xg x) 2 (a 11) 4 Md] _ _ _ _ [.int (jI (inI k 0 3)), .ref o]
  refine sw_if_ne (n := 8) F (by omega) (tgt := 12) dX4_setCurrency_5 (by decide) rfl (fun c_5 => ?_) (fun c_5 => ?_)
  ·
    refine sw_iload_n (n := 13) F 2 rfl rfl dX4_setCurrency_12 rfl ?_
    refine sw_i2l (n := 14) F (by omega) dX4_setCurrency_13 rfl ?_
    refine sw_lconst (n := 15) F 0 (by decide) dX4_setCurrency_14 rfl ?_
    refine sw_ldc2 (n := 18) F (3) q4165 (by decide) dX4_setCurrency_15 rfl ?_
    refine sw_callS (n := 21) F (ct_X4_in (g := xg x) (l := xl x) n 0 3 (by first | omega | assumption) (by first | omega | assumption) (by first | omega | assumption)) q3963 q3964 q120 q3965 nd_X4_in rfl (by decide) [0, 1, 2, 3] rfl [tmO (xg x) o a z, aI (xg x) 0 (a 9) 4 Pl, aI (xg x) 0 (a 10) 4 Co, aI (xg x) 2 (a 11) 4 Md] rfl 0 0 ⟨by omega, by omega⟩ [.ref o] rfl (Nat.le_of_ble_eq_true rfl) dX4_setCurrency_18 rfl (fun _ _ h => h.elim) (fun v Ws h => ?_)
    obtain ⟨rfl, hs_3, rfl⟩ := h
    show SW x [tmO (xg x) o a z, aI (xg x) 0 (a 9) 4 Pl, aI (xg x) 0 (a 10) 4 Co, aI (xg x) 2 (a 11) 4 Md] _ _ _ _ [.int (jI (inI n 0 3)), .ref o]
    refine sw_if_eq (n := 24) F (by omega) (tgt := 44) dX4_setCurrency_21 (by decide) rfl (fun c_21 => ?_) (fun c_21 => ?_)
    ·
      refine sw_iconst (n := 45) F (2) (by decide) dX4_setCurrency_44 rfl ?_
      refine sw_goto F (n := 49) dX4_setCurrency_45 (by decide) ?_
      exact K49 2 (by unfold scuP; (repeat' split) <;> omega)
    ·
      refine sw_iload_n (n := 25) F 3 rfl rfl dX4_setCurrency_24 rfl ?_
      refine sw_callS (n := 28) F (ct_X4_isMode (g := xg x) (l := xl x) m hm) q4116 q4117 q120 q4118 nd_X4_isMode rfl (by decide) [0, 1, 2, 3] rfl [tmO (xg x) o a z, aI (xg x) 0 (a 9) 4 Pl, aI (xg x) 0 (a 10) 4 Co, aI (xg x) 2 (a 11) 4 Md] rfl 0 0 ⟨by omega, by omega⟩ [.ref o] rfl (Nat.le_of_ble_eq_true rfl) dX4_setCurrency_25 rfl (fun _ _ h => h.elim) (fun v Ws h => ?_)
      obtain ⟨rfl, rfl⟩ := h
      show SW x [tmO (xg x) o a z, aI (xg x) 0 (a 9) 4 Pl, aI (xg x) 0 (a 10) 4 Co, aI (xg x) 2 (a 11) 4 Md] _ _ _ _ [.int (jI (mdI m)), .ref o]
      refine sw_if_eq (n := 31) F (by omega) (tgt := 44) dX4_setCurrency_28 (by decide) rfl (fun c_28 => ?_) (fun c_28 => ?_)
      ·
        refine sw_iconst (n := 45) F (2) (by decide) dX4_setCurrency_44 rfl ?_
        refine sw_goto F (n := 49) dX4_setCurrency_45 (by decide) ?_
        exact K49 2 (by unfold scuP; (repeat' split) <;> omega)
      ·
        refine sw_iload (n := 33) F 4 rfl dX4_setCurrency_31 rfl ?_
        refine sw_i2l (n := 34) F (by omega) dX4_setCurrency_33 rfl ?_
        refine sw_lconst (n := 35) F 1 (by decide) dX4_setCurrency_34 rfl ?_
        refine sw_ldc2 (n := 38) F (100) q4166 (by decide) dX4_setCurrency_35 rfl ?_
        refine sw_callS (n := 41) F (ct_X4_in (g := xg x) (l := xl x) c 1 100 (by first | omega | assumption) (by first | omega | assumption) (by first | omega | assumption)) q3963 q3964 q120 q3965 nd_X4_in rfl (by decide) [0, 1, 2, 3] rfl [tmO (xg x) o a z, aI (xg x) 0 (a 9) 4 Pl, aI (xg x) 0 (a 10) 4 Co, aI (xg x) 2 (a 11) 4 Md] rfl 0 0 ⟨by omega, by omega⟩ [.ref o] rfl (Nat.le_of_ble_eq_true rfl) dX4_setCurrency_38 rfl (fun _ _ h => h.elim) (fun v Ws h => ?_)
        obtain ⟨rfl, hs_4, rfl⟩ := h
        show SW x [tmO (xg x) o a z, aI (xg x) 0 (a 9) 4 Pl, aI (xg x) 0 (a 10) 4 Co, aI (xg x) 2 (a 11) 4 Md] _ _ _ _ [.int (jI (inI c 1 100)), .ref o]
        refine sw_if_ne (n := 44) F (by omega) (tgt := 48) dX4_setCurrency_41 (by decide) rfl (fun c_41 => ?_) (fun c_41 => ?_)
        ·
          refine sw_iconst (n := 49) F (0) (by decide) dX4_setCurrency_48 rfl ?_
          exact K49 0 (by unfold scuP; (repeat' split) <;> omega)
        ·
          refine sw_iconst (n := 45) F (2) (by decide) dX4_setCurrency_44 rfl ?_
          refine sw_goto F (n := 49) dX4_setCurrency_45 (by decide) ?_
          exact K49 2 (by unfold scuP; (repeat' split) <;> omega)
  ·
    refine sw_iconst (n := 9) F (1) (by decide) dX4_setCurrency_8 rfl ?_
    refine sw_goto F (n := 49) dX4_setCurrency_9 (by decide) ?_
    exact K49 1 (by unfold scuP; (repeat' split) <;> omega)
theorem nd_X4_setRate : yX4_setRate.cls ≠ "java/lang/invoke/MethodHandle" ∧ yX4_setRate.cls ≠ "java/lang/invoke/VarHandle" ∧ (parseMethodDescriptor yX4_setRate.desc).map (fun d => d.parameters.length) = some 3 := by decide +kernel
set_option maxRecDepth 100000 in
set_option maxHeartbeats 16000000 in
theorem ct_X4_setRate {g : GG} {l : Launch} (o : Nat) (a : Nat → Nat) (z : Nat → Int) (N : Nat → Int) (Sc : Nat → Int) (Hs : Nat → Int) (Rt : Nat → Int) (Rs : Nat → Int) (c : Int) (d : Int) (s : Int) (hc : -2147483648 ≤ c ∧ c ≤ 2147483647) (hd : -2147483648 ≤ d ∧ d ≤ 2147483647) (hs : -2147483648 ≤ s ∧ s ≤ 2147483647) (hN : NB N) (hSc : SB Sc) (hB : HB Hs) (hRt : RtB Rt) : Ct g l yX4_setRate (ws_ yX4_setRate cX4_setRate 6 (Option.some Jvm.ClassFile.FieldType.boolean)) 3 57 0 0 [.ref o, .int (jI c), .int (jI d), .int (jI s)] [tmO g o a z, aL g (a 3) 12 N, aI g 0 (a 4) 12 Sc, aI g 4 (a 5) 12 Hs, aL g (a 12) 16 Rt, aI g 0 (a 13) 16 Rs] (fun v9 Ws9 => v9 = some (.int (jI (if0 (srP c d s Hs N) (psI (Rt (4 * c + d).toNat))))) ∧ Ws9 = [tmO g o a (va_up z 8 (srP c d s Hs N)), aL g (a 3) 12 N, aI g 0 (a 4) 12 Sc, aI g 4 (a 5) 12 Hs, aL g (a 12) 16 (up0 (srP c d s Hs N) Rt (4 * c + d).toNat (N s.toNat)), aI g 0 (a 13) 16 (up0 (srP c d s Hs N) Rs (4 * c + d).toNat (Sc s.toNat))]) (nox) := by
  refine Ct.of (cc := cX4_setRate) (nL := 6) (ret := (Option.some Jvm.ClassFile.FieldType.boolean)) (by decide) rfl (Nat.le_of_ble_eq_true rfl) ?_
  intro x hg hl hPo hPx hmc hms F
  subst hg; subst hl
  refine SW.cast (L' := [(0, .ref o), (1, .int (jI c)), (2, .int (jI d)), (3, .int (jI s))]) ?_ rfl rfl rfl
  have hq1 := hB s.toNat
  have hn := hN s.toNat
  have hss := hSc s.toNat
  have hrt := hRt (4 * c + d).toNat
  have hps := psI_cases (Rt (4 * c + d).toNat)
  refine sw_aload_n (n := 1) F 0 (some o) rfl rfl rfl dX4_setRate_0 rfl ?_
  have K64 : ∀ (p : Int), (p = srP c d s Hs N) → SW x [tmO (xg x) o a z, aL (xg x) (a 3) 12 N, aI (xg x) 0 (a 4) 12 Sc, aI (xg x) 4 (a 5) 12 Hs, aL (xg x) (a 12) 16 Rt, aI (xg x) 0 (a 13) 16 Rs] 0 0 64 [(0, .ref o), (1, .int (jI c)), (2, .int (jI d)), (3, .int (jI s))] [.int (jI p), .ref o] := by
    intro p hpc
    subst hpc
    have hcs := srP_c c d s Hs N
    refine sw_callV (n := 67) F (ct_X4_fails (g := xg x) (l := xl x) o a z (srP c d s Hs N) (by first | omega | assumption)) (rcv_ob F 0 (ci := 3) rfl rfl) q3973 q3975 qs68 q120 q3976 nd_X4_fails rfl (by decide) [0, 1, 2, 3, 4, 5] rfl [aL (xg x) (a 3) 12 N, aI (xg x) 0 (a 4) 12 Sc, aI (xg x) 4 (a 5) 12 Hs, aL (xg x) (a 12) 16 Rt, aI (xg x) 0 (a 13) 16 Rs] rfl 0 0 ⟨by omega, by omega⟩ [] rfl (Nat.le_of_ble_eq_true rfl) dX4_setRate_64 rfl (fun _ _ h => h.elim) (fun v Ws h => ?_)
    obtain ⟨rfl, hps_1, rfl⟩ := h
    show SW x [tmO (xg x) o a (va_up z 8 (srP c d s Hs N)), aL (xg x) (a 3) 12 N, aI (xg x) 0 (a 4) 12 Sc, aI (xg x) 4 (a 5) 12 Hs, aL (xg x) (a 12) 16 Rt, aI (xg x) 0 (a 13) 16 Rs] _ _ _ _ [.int (jI (psI (srP c d s Hs N)))]
    refine sw_if_eq (n := 70) F (by omega) (tgt := 72) dX4_setRate_67 (by decide) rfl (fun c_67 => ?_) (fun c_67 => ?_)
    ·
      have e0 : srP c d s Hs N = 0 := by omega
      have rg0 : 0 ≤ c ∧ c ≤ 3 := by omega
      have rg1 : 0 ≤ d ∧ d ≤ 3 := by omega
      have rg2 : 0 ≤ s ∧ s ≤ 11 := by omega
      have rg3 : 0 < N s.toNat := by omega
      clear hcs c_67 hps_1
      refine sw_iconst (n := 73) F (4) (by decide) dX4_setRate_72 rfl ?_
      refine sw_iload_n (n := 74) F 1 rfl rfl dX4_setRate_73 rfl ?_
      refine sw_imul (n := 75) F dX4_setRate_74 rfl ?_
      refine sw_iload_n (n := 76) F 2 rfl rfl dX4_setRate_75 rfl ?_
      refine sw_iadd (n := 77) F dX4_setRate_76 rfl ?_
      refine sw_istore (n := 79) F (L2 := [(4, .int (jI ((4 * c) + d))), (0, .ref o), (1, .int (jI c)), (2, .int (jI d)), (3, .int (jI s))]) rfl (by decide) dX4_setRate_77 rfl ?_
      refine sw_aload_n (n := 80) F 1 (some o) rfl rfl rfl dX4_setRate_79 rfl ?_
      refine sw_get (n := 83) F 0 rfl (k := 12) ⟨(RX4, TX4, 50), rfl, by decide, q3811, in_X4, Or.inl rfl⟩ (v := .ref (a 12)) rfl dX4_setRate_80 rfl ?_
      refine sw_iload (n := 85) F 0 rfl dX4_setRate_83 rfl ?_
      refine sw_laloadL (n := 86) F 4 rfl (fun _ => rfl) (((4 * c) + d : Int).toNat) (by omega) (by omega) dX4_setRate_85 rfl ?_
      refine sw_lconst (n := 87) F 0 (by decide) dX4_setRate_86 rfl ?_
      refine sw_lcmp (n := 88) F (by omega) (by decide) dX4_setRate_87 rfl ?_
      refine sw_if_le (n := 91) F (by omega) (tgt := 95) dX4_setRate_88 (by decide) rfl (fun c_88 => ?_) (fun c_88 => ?_)
      ·
        have c_88 : Rt (((4 * c) + d : Int).toNat) ≤ 0 := by revert c_88; (repeat' split) <;> omega
        refine sw_iconst (n := 96) F (0) (by decide) dX4_setRate_95 rfl ?_
        refine sw_istore (n := 98) F (L2 := [(5, .int (jI 0)), (4, .int (jI ((4 * c) + d))), (0, .ref o), (1, .int (jI c)), (2, .int (jI d)), (3, .int (jI s))]) rfl (by decide) dX4_setRate_96 rfl ?_
        refine sw_aload_n (n := 99) F 2 (some o) rfl rfl rfl dX4_setRate_98 rfl ?_
        refine sw_get (n := 102) F 0 rfl (k := 12) ⟨(RX4, TX4, 50), rfl, by decide, q3811, in_X4, Or.inl rfl⟩ (v := .ref (a 12)) rfl dX4_setRate_99 rfl ?_
        refine sw_iload (n := 104) F 1 rfl dX4_setRate_102 rfl ?_
        refine sw_aload_n (n := 105) F 2 (some o) rfl rfl rfl dX4_setRate_104 rfl ?_
        refine sw_get (n := 108) F 0 rfl (k := 3) ⟨(RX4, TX4, 50), rfl, by decide, q3802, in_X4, Or.inl rfl⟩ (v := .ref (a 3)) rfl dX4_setRate_105 rfl ?_
        refine sw_iload_n (n := 109) F 5 rfl rfl dX4_setRate_108 rfl ?_
        refine sw_laloadL (n := 110) F 1 rfl (fun _ => rfl) ((s : Int).toNat) (by omega) (by omega) dX4_setRate_109 rfl ?_
        refine sw_lastoreL (n := 111) F 4 rfl (fun _ => rfl) (((4 * c) + d : Int).toNat) (by omega) (by omega) [tmO (xg x) o a (va_up z 8 (srP c d s Hs N)), aL (xg x) (a 3) 12 N, aI (xg x) 0 (a 4) 12 Sc, aI (xg x) 4 (a 5) 12 Hs, aL (xg x) (a 12) 16 (va_up Rt (((4 * c) + d : Int).toNat) (N ((s : Int).toNat))), aI (xg x) 0 (a 13) 16 Rs] (by simp [List.set]) dX4_setRate_110 rfl ?_
        refine sw_aload_n (n := 112) F 2 (some o) rfl rfl rfl dX4_setRate_111 rfl ?_
        refine sw_get (n := 115) F 0 rfl (k := 13) ⟨(RX4, TX4, 50), rfl, by decide, q3812, in_X4, Or.inl rfl⟩ (v := .ref (a 13)) rfl dX4_setRate_112 rfl ?_
        refine sw_iload (n := 117) F 1 rfl dX4_setRate_115 rfl ?_
        refine sw_aload_n (n := 118) F 2 (some o) rfl rfl rfl dX4_setRate_117 rfl ?_
        refine sw_get (n := 121) F 0 rfl (k := 4) ⟨(RX4, TX4, 50), rfl, by decide, q3803, in_X4, Or.inl rfl⟩ (v := .ref (a 4)) rfl dX4_setRate_118 rfl ?_
        refine sw_iload_n (n := 122) F 5 rfl rfl dX4_setRate_121 rfl ?_
        refine sw_ialoadI (n := 123) F 2 rfl (fun _ => rfl) ((s : Int).toNat) (by omega) (by omega) dX4_setRate_122 rfl ?_
        refine sw_iastoreI (n := 124) F 5 rfl (fun _ => rfl) (((4 * c) + d : Int).toNat) (by omega) (by omega) [tmO (xg x) o a (va_up z 8 (srP c d s Hs N)), aL (xg x) (a 3) 12 N, aI (xg x) 0 (a 4) 12 Sc, aI (xg x) 4 (a 5) 12 Hs, aL (xg x) (a 12) 16 (va_up Rt (((4 * c) + d : Int).toNat) (N ((s : Int).toNat))), aI (xg x) 0 (a 13) 16 (va_up Rs (((4 * c) + d : Int).toNat) (Sc ((s : Int).toNat)))] (by simp [List.set]) dX4_setRate_123 rfl ?_
        refine sw_iload (n := 126) F 0 rfl dX4_setRate_124 rfl ?_
        have e0 : srP c d s Hs N = 0 := by omega
        exact sw_iret F _ rfl (by first | rfl | exact jI_nz (by omega) | exact jI_nc (by omega)) dX4_setRate_126 (by rw [hPo]; exact ⟨(by rw [if0_p e0]; congr 3; omega), (by simp only [up0_p e0, up_88])⟩)
      ·
        have c_88 : Rt (((4 * c) + d : Int).toNat) > 0 := by revert c_88; (repeat' split) <;> omega
        refine sw_iconst (n := 92) F (1) (by decide) dX4_setRate_91 rfl ?_
        refine sw_goto F (n := 96) dX4_setRate_92 (by decide) ?_
        refine sw_istore (n := 98) F (L2 := [(5, .int (jI 1)), (4, .int (jI ((4 * c) + d))), (0, .ref o), (1, .int (jI c)), (2, .int (jI d)), (3, .int (jI s))]) rfl (by decide) dX4_setRate_96 rfl ?_
        refine sw_aload_n (n := 99) F 2 (some o) rfl rfl rfl dX4_setRate_98 rfl ?_
        refine sw_get (n := 102) F 0 rfl (k := 12) ⟨(RX4, TX4, 50), rfl, by decide, q3811, in_X4, Or.inl rfl⟩ (v := .ref (a 12)) rfl dX4_setRate_99 rfl ?_
        refine sw_iload (n := 104) F 1 rfl dX4_setRate_102 rfl ?_
        refine sw_aload_n (n := 105) F 2 (some o) rfl rfl rfl dX4_setRate_104 rfl ?_
        refine sw_get (n := 108) F 0 rfl (k := 3) ⟨(RX4, TX4, 50), rfl, by decide, q3802, in_X4, Or.inl rfl⟩ (v := .ref (a 3)) rfl dX4_setRate_105 rfl ?_
        refine sw_iload_n (n := 109) F 5 rfl rfl dX4_setRate_108 rfl ?_
        refine sw_laloadL (n := 110) F 1 rfl (fun _ => rfl) ((s : Int).toNat) (by omega) (by omega) dX4_setRate_109 rfl ?_
        refine sw_lastoreL (n := 111) F 4 rfl (fun _ => rfl) (((4 * c) + d : Int).toNat) (by omega) (by omega) [tmO (xg x) o a (va_up z 8 (srP c d s Hs N)), aL (xg x) (a 3) 12 N, aI (xg x) 0 (a 4) 12 Sc, aI (xg x) 4 (a 5) 12 Hs, aL (xg x) (a 12) 16 (va_up Rt (((4 * c) + d : Int).toNat) (N ((s : Int).toNat))), aI (xg x) 0 (a 13) 16 Rs] (by simp [List.set]) dX4_setRate_110 rfl ?_
        refine sw_aload_n (n := 112) F 2 (some o) rfl rfl rfl dX4_setRate_111 rfl ?_
        refine sw_get (n := 115) F 0 rfl (k := 13) ⟨(RX4, TX4, 50), rfl, by decide, q3812, in_X4, Or.inl rfl⟩ (v := .ref (a 13)) rfl dX4_setRate_112 rfl ?_
        refine sw_iload (n := 117) F 1 rfl dX4_setRate_115 rfl ?_
        refine sw_aload_n (n := 118) F 2 (some o) rfl rfl rfl dX4_setRate_117 rfl ?_
        refine sw_get (n := 121) F 0 rfl (k := 4) ⟨(RX4, TX4, 50), rfl, by decide, q3803, in_X4, Or.inl rfl⟩ (v := .ref (a 4)) rfl dX4_setRate_118 rfl ?_
        refine sw_iload_n (n := 122) F 5 rfl rfl dX4_setRate_121 rfl ?_
        refine sw_ialoadI (n := 123) F 2 rfl (fun _ => rfl) ((s : Int).toNat) (by omega) (by omega) dX4_setRate_122 rfl ?_
        refine sw_iastoreI (n := 124) F 5 rfl (fun _ => rfl) (((4 * c) + d : Int).toNat) (by omega) (by omega) [tmO (xg x) o a (va_up z 8 (srP c d s Hs N)), aL (xg x) (a 3) 12 N, aI (xg x) 0 (a 4) 12 Sc, aI (xg x) 4 (a 5) 12 Hs, aL (xg x) (a 12) 16 (va_up Rt (((4 * c) + d : Int).toNat) (N ((s : Int).toNat))), aI (xg x) 0 (a 13) 16 (va_up Rs (((4 * c) + d : Int).toNat) (Sc ((s : Int).toNat)))] (by simp [List.set]) dX4_setRate_123 rfl ?_
        refine sw_iload (n := 126) F 0 rfl dX4_setRate_124 rfl ?_
        have e0 : srP c d s Hs N = 0 := by omega
        exact sw_iret F _ rfl (by first | rfl | exact jI_nz (by omega) | exact jI_nc (by omega)) dX4_setRate_126 (by rw [hPo]; exact ⟨(by rw [if0_p e0]; congr 3; omega), (by simp only [up0_p e0, up_88])⟩)
    ·
      refine sw_iconst (n := 71) F (0) (by decide) dX4_setRate_70 rfl ?_
      have e0 : srP c d s Hs N ≠ 0 := by omega
      exact sw_iret F _ rfl (by first | rfl | exact jI_nz (by omega) | exact jI_nc (by omega)) dX4_setRate_71 (by rw [hPo]; exact ⟨(by rw [if0_n e0]), (by simp only [up0_n e0, up_88])⟩)
  refine sw_iload_n (n := 2) F 1 rfl rfl dX4_setRate_1 rfl ?_
  refine sw_callS (n := 5) F (ct_X4_isCurrency (g := xg x) (l := xl x) c hc) q4162 q4163 q120 q4164 nd_X4_isCurrency rfl (by decide) [0, 1, 2, 3, 4, 5] rfl [tmO (xg x) o a z, aL (xg x) (a 3) 12 N, aI (xg x) 0 (a 4) 12 Sc, aI (xg x) 4 (a 5) 12 Hs, aL (xg x) (a 12) 16 Rt, aI (xg x) 0 (a 13) 16 Rs] rfl 0 0 ⟨by omega, by omega⟩ [.ref o] rfl (Nat.le_of_ble_eq_true rfl) dX4_setRate_2 rfl (fun _ _ h => h.elim) (fun v Ws h => ?_)
  obtain ⟨rfl, hs_2, rfl⟩ := h
  show SW x [tmO (xg x) o a z, aL (xg x) (a 3) 12 N, aI (xg x) 0 (a 4) 12 Sc, aI (xg x) 4 (a 5) 12 Hs, aL (xg x) (a 12) 16 Rt, aI (xg x) 0 (a 13) 16 Rs] _ _ _ _ [.int (jI (inI c 0 3)), .ref o]
  refine sw_if_eq (n := 8) F (by omega) (tgt := 22) dX4_setRate_5 (by decide) rfl (fun c_5 => ?_) (fun c_5 => ?_)
  ·
    refine sw_iconst (n := 23) F (1) (by decide) dX4_setRate_22 rfl ?_
    refine sw_goto F (n := 64) dX4_setRate_23 (by decide) ?_
    exact K64 1 (by unfold srP; (repeat' split) <;> omega)
  ·
    refine sw_iload_n (n := 9) F 2 rfl rfl dX4_setRate_8 rfl ?_
    refine sw_callS (n := 12) F (ct_X4_isCurrency (g := xg x) (l := xl x) d hd) q4162 q4163 q120 q4164 nd_X4_isCurrency rfl (by decide) [0, 1, 2, 3, 4, 5] rfl [tmO (xg x) o a z, aL (xg x) (a 3) 12 N, aI (xg x) 0 (a 4) 12 Sc, aI (xg x) 4 (a 5) 12 Hs, aL (xg x) (a 12) 16 Rt, aI (xg x) 0 (a 13) 16 Rs] rfl 0 0 ⟨by omega, by omega⟩ [.ref o] rfl (Nat.le_of_ble_eq_true rfl) dX4_setRate_9 rfl (fun _ _ h => h.elim) (fun v Ws h => ?_)
    obtain ⟨rfl, hs_3, rfl⟩ := h
    show SW x [tmO (xg x) o a z, aL (xg x) (a 3) 12 N, aI (xg x) 0 (a 4) 12 Sc, aI (xg x) 4 (a 5) 12 Hs, aL (xg x) (a 12) 16 Rt, aI (xg x) 0 (a 13) 16 Rs] _ _ _ _ [.int (jI (inI d 0 3)), .ref o]
    refine sw_if_eq (n := 15) F (by omega) (tgt := 22) dX4_setRate_12 (by decide) rfl (fun c_12 => ?_) (fun c_12 => ?_)
    ·
      refine sw_iconst (n := 23) F (1) (by decide) dX4_setRate_22 rfl ?_
      refine sw_goto F (n := 64) dX4_setRate_23 (by decide) ?_
      exact K64 1 (by unfold srP; (repeat' split) <;> omega)
    ·
      refine sw_iload_n (n := 16) F 3 rfl rfl dX4_setRate_15 rfl ?_
      refine sw_callS (n := 19) F (ct_X4_isShelf (g := xg x) (l := xl x) s hs) q3959 q3960 q120 q3961 nd_X4_isShelf rfl (by decide) [0, 1, 2, 3, 4, 5] rfl [tmO (xg x) o a z, aL (xg x) (a 3) 12 N, aI (xg x) 0 (a 4) 12 Sc, aI (xg x) 4 (a 5) 12 Hs, aL (xg x) (a 12) 16 Rt, aI (xg x) 0 (a 13) 16 Rs] rfl 0 0 ⟨by omega, by omega⟩ [.ref o] rfl (Nat.le_of_ble_eq_true rfl) dX4_setRate_16 rfl (fun _ _ h => h.elim) (fun v Ws h => ?_)
      obtain ⟨rfl, hs_4, rfl⟩ := h
      show SW x [tmO (xg x) o a z, aL (xg x) (a 3) 12 N, aI (xg x) 0 (a 4) 12 Sc, aI (xg x) 4 (a 5) 12 Hs, aL (xg x) (a 12) 16 Rt, aI (xg x) 0 (a 13) 16 Rs] _ _ _ _ [.int (jI (inI s 0 11)), .ref o]
      refine sw_if_ne (n := 22) F (by omega) (tgt := 26) dX4_setRate_19 (by decide) rfl (fun c_19 => ?_) (fun c_19 => ?_)
      ·
        refine sw_iload_n (n := 27) F 1 rfl rfl dX4_setRate_26 rfl ?_
        refine sw_iload_n (n := 28) F 2 rfl rfl dX4_setRate_27 rfl ?_
        refine sw_icmp_ne (n := 31) F (by omega) (by omega) (tgt := 35) dX4_setRate_28 (by decide) rfl (fun c_28 => ?_) (fun c_28 => ?_)
        ·
          refine sw_aload_n (n := 36) F 0 (some o) rfl rfl rfl dX4_setRate_35 rfl ?_
          refine sw_get (n := 39) F 0 rfl (k := 5) ⟨(RX4, TX4, 50), rfl, by decide, q3804, in_X4, Or.inl rfl⟩ (v := .ref (a 5)) rfl dX4_setRate_36 rfl ?_
          refine sw_iload_n (n := 40) F 3 rfl rfl dX4_setRate_39 rfl ?_
          refine sw_zaloadI (n := 41) F 3 rfl (fun _ => rfl) ((s : Int).toNat) (by omega) (by omega) dX4_setRate_40 rfl ?_
          refine sw_if_ne (n := 44) F (by omega) (tgt := 48) dX4_setRate_41 (by decide) rfl (fun c_41 => ?_) (fun c_41 => ?_)
          ·
            refine sw_aload_n (n := 49) F 0 (some o) rfl rfl rfl dX4_setRate_48 rfl ?_
            refine sw_get (n := 52) F 0 rfl (k := 3) ⟨(RX4, TX4, 50), rfl, by decide, q3802, in_X4, Or.inl rfl⟩ (v := .ref (a 3)) rfl dX4_setRate_49 rfl ?_
            refine sw_iload_n (n := 53) F 3 rfl rfl dX4_setRate_52 rfl ?_
            refine sw_laloadL (n := 54) F 1 rfl (fun _ => rfl) ((s : Int).toNat) (by omega) (by omega) dX4_setRate_53 rfl ?_
            refine sw_lconst (n := 55) F 0 (by decide) dX4_setRate_54 rfl ?_
            refine sw_lcmp (n := 56) F (by omega) (by decide) dX4_setRate_55 rfl ?_
            refine sw_if_gt (n := 59) F (by omega) (tgt := 63) dX4_setRate_56 (by decide) rfl (fun c_56 => ?_) (fun c_56 => ?_)
            ·
              have c_56 : N ((s : Int).toNat) > 0 := by revert c_56; (repeat' split) <;> omega
              refine sw_iconst (n := 64) F (0) (by decide) dX4_setRate_63 rfl ?_
              exact K64 0 (by unfold srP; (repeat' split) <;> omega)
            ·
              have c_56 : N ((s : Int).toNat) ≤ 0 := by revert c_56; (repeat' split) <;> omega
              refine sw_iconst (n := 60) F (4) (by decide) dX4_setRate_59 rfl ?_
              refine sw_goto F (n := 64) dX4_setRate_60 (by decide) ?_
              exact K64 4 (by unfold srP; (repeat' split) <;> omega)
          ·
            refine sw_iconst (n := 45) F (3) (by decide) dX4_setRate_44 rfl ?_
            refine sw_goto F (n := 64) dX4_setRate_45 (by decide) ?_
            exact K64 3 (by unfold srP; (repeat' split) <;> omega)
        ·
          refine sw_iconst (n := 32) F (2) (by decide) dX4_setRate_31 rfl ?_
          refine sw_goto F (n := 64) dX4_setRate_32 (by decide) ?_
          exact K64 2 (by unfold srP; (repeat' split) <;> omega)
      ·
        refine sw_iconst (n := 23) F (1) (by decide) dX4_setRate_22 rfl ?_
        refine sw_goto F (n := 64) dX4_setRate_23 (by decide) ?_
        exact K64 1 (by unfold srP; (repeat' split) <;> omega)
theorem nd_X4_changed : yX4_changed.cls ≠ "java/lang/invoke/MethodHandle" ∧ yX4_changed.cls ≠ "java/lang/invoke/VarHandle" ∧ (parseMethodDescriptor yX4_changed.desc).map (fun d => d.parameters.length) = some 3 := by decide +kernel
set_option maxRecDepth 100000 in
set_option maxHeartbeats 16000000 in
theorem ct_X4_changed {g : GG} {l : Launch} (o : Nat) (a : Nat → Nat) (z : Nat → Int) (D : Nat → Nat) (M : Nat → Nat) (Pl : Nat → Int) (Md : Nat → Int) (Rt : Nat → Int) (Rs : Nat → Int) (c : Nat) (d : Nat) (u : Int) (hA : Dok D M) (hPl : PlB Pl) (hMd : MdB Md) (hRt : RtB Rt) (hRs : SB Rs) (hc4 : c < 4) (hd4 : d < 4) (hu : 0 ≤ u ∧ u ≤ 1000000000000000000) (hz2 : z 2 = 0 ∨ z 2 = 1) : Ct g l yX4_changed (ws_ yX4_changed cX4_changed 7 (Option.some Jvm.ClassFile.FieldType.long)) 6 127 0 0 [.ref o, .int (jI (↑c)), .int (jI (↑d)), .long (jL u)] [tmO g o a z, aN g 0 (a 0) 2400 D, aN g 0 (a 1) 10 M, aI g 0 (a 9) 4 Pl, aI g 2 (a 11) 4 Md, aL g (a 12) 16 Rt, aI g 0 (a 13) 16 Rs] (fun v9 Ws9 => ∃ D1 : Nat → Nat, ∃ M1 : Nat → Nat, v9 = some (.long (jL (chA Pl Rs Rt Md c d u (z 2)))) ∧ (RV [0, 1, 2, 3, 5, 6, 7, 8, 9] D M D1 M1) ∧ Ws9 = [tmO g o a (va_up z 2 (chR Pl Rs Rt Md c d u (z 2))), aN g 0 (a 0) 2400 D1, aN g 0 (a 1) 10 M1, aI g 0 (a 9) 4 Pl, aI g 2 (a 11) 4 Md, aL g (a 12) 16 Rt, aI g 0 (a 13) 16 Rs]) (nox) := by
  refine Ct.of (cc := cX4_changed) (nL := 7) (ret := (Option.some Jvm.ClassFile.FieldType.long)) (by decide) rfl (Nat.le_of_ble_eq_true rfl) ?_
  intro x hg hl hPo hPx hmc hms F
  subst hg; subst hl
  refine SW.cast (L' := [(0, .ref o), (1, .int (jI (↑c))), (2, .int (jI (↑d))), (3, .long (jL u))]) ?_ rfl rfl rfl
  have hpc := hPl c
  have hpd := hPl d
  have hmd := hMd d
  have hrt := hRt (4 * c + d)
  have hrs := hRs (4 * c + d)
  refine sw_iconst (n := 1) F (4) (by decide) dX4_changed_0 rfl ?_
  refine sw_iload_n (n := 2) F 1 rfl rfl dX4_changed_1 rfl ?_
  refine sw_imul (n := 3) F dX4_changed_2 rfl ?_
  refine sw_iload_n (n := 4) F 2 rfl rfl dX4_changed_3 rfl ?_
  refine sw_iadd (n := 5) F dX4_changed_4 rfl ?_
  refine sw_istore (n := 7) F (L2 := [(5, .int (jI ((4 * (↑c)) + (↑d)))), (0, .ref o), (1, .int (jI (↑c))), (2, .int (jI (↑d))), (3, .long (jL u))]) rfl (by decide) dX4_changed_5 rfl ?_
  refine sw_aload_n (n := 8) F 1 (some o) rfl rfl rfl dX4_changed_7 rfl ?_
  refine sw_get (n := 11) F 0 rfl (k := 9) ⟨(RX4, TX4, 50), rfl, by decide, q3808, in_X4, Or.inl rfl⟩ (v := .ref (a 9)) rfl dX4_changed_8 rfl ?_
  refine sw_iload_n (n := 12) F 3 rfl rfl dX4_changed_11 rfl ?_
  refine sw_ialoadI (n := 13) F 3 rfl (fun _ => rfl) d rfl (by omega) dX4_changed_12 rfl ?_
  refine sw_aload_n (n := 14) F 1 (some o) rfl rfl rfl dX4_changed_13 rfl ?_
  refine sw_get (n := 17) F 0 rfl (k := 9) ⟨(RX4, TX4, 50), rfl, by decide, q3808, in_X4, Or.inl rfl⟩ (v := .ref (a 9)) rfl dX4_changed_14 rfl ?_
  refine sw_iload_n (n := 18) F 2 rfl rfl dX4_changed_17 rfl ?_
  refine sw_ialoadI (n := 19) F 3 rfl (fun _ => rfl) c rfl (by omega) dX4_changed_18 rfl ?_
  refine sw_isub (n := 20) F dX4_changed_19 rfl ?_
  refine sw_aload_n (n := 21) F 1 (some o) rfl rfl rfl dX4_changed_20 rfl ?_
  refine sw_get (n := 24) F 0 rfl (k := 13) ⟨(RX4, TX4, 50), rfl, by decide, q3812, in_X4, Or.inl rfl⟩ (v := .ref (a 13)) rfl dX4_changed_21 rfl ?_
  refine sw_iload (n := 26) F 0 rfl dX4_changed_24 rfl ?_
  refine sw_ialoadI (n := 27) F 6 rfl (fun _ => rfl) ((4 * (c)) + (d)) (by omega) (by omega) dX4_changed_26 rfl ?_
  refine sw_isub (n := 28) F dX4_changed_27 rfl ?_
  refine sw_istore (n := 30) F (L2 := [(6, .int (jI (((Pl d) - (Pl c)) - (Rs ((4 * (c)) + (d)))))), (5, .int (jI ((4 * (↑c)) + (↑d)))), (0, .ref o), (1, .int (jI (↑c))), (2, .int (jI (↑d))), (3, .long (jL u))]) rfl (by decide) dX4_changed_28 rfl ?_
  show SW x _ _ _ _ [(6, .int (jI (chM Pl Rs c d))), (5, .int (jI ((4 * (↑c)) + (↑d)))), (0, .ref o), (1, .int (jI (↑c))), (2, .int (jI (↑d))), (3, .long (jL u))] _
  have hmo : chM Pl Rs c d = Pl d - Pl c - Rs (4 * c + d) := rfl
  have hx1 := l37 (x := u.natAbs) (y := (Rt (4 * c + d)).natAbs) (e := (chM Pl Rs c d).toNat) (by omega) (abs_18 (by omega)) (by omega)
  have hx1b := b110 hx1.2
  have hx2 := b110 (l110 (x := 1) (e := (-(chM Pl Rs c d)).toNat) (by decide) (by omega))
  have hx4 : 0 < 1 * 10 ^ (-(chM Pl Rs c d)).toNat := Nat.mul_pos (by decide) (Nat.pow_pos (by decide))
  have hrz := rfz_zz (m := Md d) (u := chU Pl Rs Rt c d u) (v := chV Pl Rs c d) hz2
  refine sw_aload_n (n := 31) F 2 (some o) rfl rfl rfl dX4_changed_30 rfl ?_
  refine sw_iconst (n := 32) F (0) (by decide) dX4_changed_31 rfl ?_
  refine sw_lload_n (n := 33) F 5 rfl rfl dX4_changed_32 rfl ?_
  refine sw_callV (n := 36) F (ct_X4_lets (g := xg x) (l := xl x) o a z D M 0 u (by first | omega | assumption) hA (by first | omega | assumption)) (rcv_ob F 0 (ci := 3) rfl rfl) q4004 q4006 qs71 q120 q4007 nd_X4_lets rfl (by decide) [0, 1, 2, 3, 4, 5, 6] rfl [aI (xg x) 0 (a 9) 4 Pl, aI (xg x) 2 (a 11) 4 Md, aL (xg x) (a 12) 16 Rt, aI (xg x) 0 (a 13) 16 Rs] rfl 0 0 ⟨by omega, by omega⟩ [] rfl (Nat.le_of_ble_eq_true rfl) dX4_changed_33 rfl (fun _ _ h => h.elim) (fun v Ws h => ?_)
  obtain ⟨D1_1, M1_2, rfl, hU_3, rfl⟩ := h
  show SW x [tmO (xg x) o a z, aN (xg x) 0 (a 0) 2400 D1_1, aN (xg x) 0 (a 1) 10 M1_2, aI (xg x) 0 (a 9) 4 Pl, aI (xg x) 2 (a 11) 4 Md, aL (xg x) (a 12) 16 Rt, aI (xg x) 0 (a 13) 16 Rs] _ _ _ _ []
  have a_4 := hU_3.1
  have r_5 : rok D1_1 M1_2 0 u.natAbs := hU_3.2.2.2
  have v_6 := hU_3.rv
  refine sw_aload_n (n := 37) F 2 (some o) rfl rfl rfl dX4_changed_36 rfl ?_
  refine sw_iconst (n := 38) F (5) (by decide) dX4_changed_37 rfl ?_
  refine sw_aload_n (n := 39) F 2 (some o) rfl rfl rfl dX4_changed_38 rfl ?_
  refine sw_get (n := 42) F 0 rfl (k := 12) ⟨(RX4, TX4, 50), rfl, by decide, q3811, in_X4, Or.inl rfl⟩ (v := .ref (a 12)) rfl dX4_changed_39 rfl ?_
  refine sw_iload (n := 44) F 1 rfl dX4_changed_42 rfl ?_
  refine sw_laloadL (n := 45) F 5 rfl (fun _ => rfl) ((4 * (c)) + (d)) (by omega) (by omega) dX4_changed_44 rfl ?_
  refine sw_callV (n := 48) F (ct_X4_lets (g := xg x) (l := xl x) o a z D1_1 M1_2 5 (Rt ((4 * (c)) + (d))) (by first | omega | assumption) a_4 (by first | omega | assumption)) (rcv_ob F 0 (ci := 3) rfl rfl) q4004 q4006 qs71 q120 q4007 nd_X4_lets rfl (by decide) [0, 1, 2, 3, 4, 5, 6] rfl [aI (xg x) 0 (a 9) 4 Pl, aI (xg x) 2 (a 11) 4 Md, aL (xg x) (a 12) 16 Rt, aI (xg x) 0 (a 13) 16 Rs] rfl 0 0 ⟨by omega, by omega⟩ [] rfl (Nat.le_of_ble_eq_true rfl) dX4_changed_45 rfl (fun _ _ h => h.elim) (fun v Ws h => ?_)
  obtain ⟨D1_7, M1_8, rfl, hU_9, rfl⟩ := h
  show SW x [tmO (xg x) o a z, aN (xg x) 0 (a 0) 2400 D1_7, aN (xg x) 0 (a 1) 10 M1_8, aI (xg x) 0 (a 9) 4 Pl, aI (xg x) 2 (a 11) 4 Md, aL (xg x) (a 12) 16 Rt, aI (xg x) 0 (a 13) 16 Rs] _ _ _ _ []
  have a_10 := hU_9.1
  have r_11 : rok D1_7 M1_8 5 ((Rt ((4 * (c)) + (d))).natAbs) := hU_9.2.2.2
  have k_12 := hU_9.keep (r := 0) (by first | omega | simp | (simp; omega)) r_5
  have v_13 := (v_6.mono (T := [0, 5]) (by simp)).trans hU_9.rv (by simp)
  refine sw_aload_n (n := 49) F 2 (some o) rfl rfl rfl dX4_changed_48 rfl ?_
  refine sw_iconst (n := 50) F (0) (by decide) dX4_changed_49 rfl ?_
  refine sw_iconst (n := 51) F (5) (by decide) dX4_changed_50 rfl ?_
  refine sw_callV (n := 54) F (ct_X4_times (g := xg x) (l := xl x) o a z D1_7 M1_8 0 5 u.natAbs ((Rt ((4 * (c)) + (d))).natAbs) (by first | omega | assumption) (by first | omega | assumption) (by decide) (by decide) a_10 k_12 r_11 (by first | omega | assumption)) (rcv_ob F 0 (ci := 3) rfl rfl) q4083 q4085 qs85 q120 q4086 nd_X4_times rfl (by decide) [0, 1, 2, 3, 4, 5, 6] rfl [aI (xg x) 0 (a 9) 4 Pl, aI (xg x) 2 (a 11) 4 Md, aL (xg x) (a 12) 16 Rt, aI (xg x) 0 (a 13) 16 Rs] rfl 0 0 ⟨by omega, by omega⟩ [] rfl (Nat.le_of_ble_eq_true rfl) dX4_changed_51 rfl (fun _ _ h => h.elim) (fun v Ws h => ?_)
  obtain ⟨D1_14, M1_15, rfl, hV_16, hr_17, rfl⟩ := h
  show SW x [tmO (xg x) o a z, aN (xg x) 0 (a 0) 2400 D1_14, aN (xg x) 0 (a 1) 10 M1_15, aI (xg x) 0 (a 9) 4 Pl, aI (xg x) 2 (a 11) 4 Md, aL (xg x) (a 12) 16 Rt, aI (xg x) 0 (a 13) 16 Rs] _ _ _ _ []
  have a_18 := hV_16.1
  have k_19 := hV_16.keep (r := 5) (by first | omega | simp | (simp; omega)) r_11
  have v_20 := (v_13.mono (T := [0, 5, 6, 7]) (by simp)).trans hV_16 (by simp)
  refine sw_aload_n (n := 55) F 2 (some o) rfl rfl rfl dX4_changed_54 rfl ?_
  refine sw_iconst (n := 56) F (0) (by decide) dX4_changed_55 rfl ?_
  refine sw_iload (n := 58) F 0 rfl dX4_changed_56 rfl ?_
  refine sw_callV (n := 61) F (ct_X4_shifts (g := xg x) (l := xl x) o a z D1_14 M1_15 0 (chM Pl Rs c d) (u.natAbs * ((Rt ((4 * (c)) + (d))).natAbs)) (by first | omega | assumption) a_18 hr_17 (by first | omega | assumption) (by first | omega | assumption)) (rcv_ob F 0 (ci := 3) rfl rfl) q4000 q4002 qs70 q120 q4003 nd_X4_shifts rfl (by decide) [0, 1, 2, 3, 4, 5, 6] rfl [aI (xg x) 0 (a 9) 4 Pl, aI (xg x) 2 (a 11) 4 Md, aL (xg x) (a 12) 16 Rt, aI (xg x) 0 (a 13) 16 Rs] rfl 0 0 ⟨by omega, by omega⟩ [] rfl (Nat.le_of_ble_eq_true rfl) dX4_changed_58 rfl (fun _ _ h => h.elim) (fun v Ws h => ?_)
  obtain ⟨D1_21, M1_22, rfl, hU_23, rfl⟩ := h
  show SW x [tmO (xg x) o a z, aN (xg x) 0 (a 0) 2400 D1_21, aN (xg x) 0 (a 1) 10 M1_22, aI (xg x) 0 (a 9) 4 Pl, aI (xg x) 2 (a 11) 4 Md, aL (xg x) (a 12) 16 Rt, aI (xg x) 0 (a 13) 16 Rs] _ _ _ _ []
  have a_24 := hU_23.1
  have r_25 : rok D1_21 M1_22 0 ((u.natAbs * ((Rt ((4 * (c)) + (d))).natAbs)) * 10 ^ (chM Pl Rs c d).toNat) := hU_23.2.2.2
  have k_26 := hU_23.keep (r := 5) (by first | omega | simp | (simp; omega)) k_19
  have v_27 := (v_20.mono (T := [0, 5, 6, 7]) (by simp)).trans hU_23.rv (by simp)
  refine sw_aload_n (n := 62) F 2 (some o) rfl rfl rfl dX4_changed_61 rfl ?_
  refine sw_iconst (n := 63) F (1) (by decide) dX4_changed_62 rfl ?_
  refine sw_lconst (n := 64) F 1 (by decide) dX4_changed_63 rfl ?_
  refine sw_callV (n := 67) F (ct_X4_lets (g := xg x) (l := xl x) o a z D1_21 M1_22 1 1 (by first | omega | assumption) a_24 (by first | omega | assumption)) (rcv_ob F 0 (ci := 3) rfl rfl) q4004 q4006 qs71 q120 q4007 nd_X4_lets rfl (by decide) [0, 1, 2, 3, 4, 5, 6] rfl [aI (xg x) 0 (a 9) 4 Pl, aI (xg x) 2 (a 11) 4 Md, aL (xg x) (a 12) 16 Rt, aI (xg x) 0 (a 13) 16 Rs] rfl 0 0 ⟨by omega, by omega⟩ [] rfl (Nat.le_of_ble_eq_true rfl) dX4_changed_64 rfl (fun _ _ h => h.elim) (fun v Ws h => ?_)
  obtain ⟨D1_28, M1_29, rfl, hU_30, rfl⟩ := h
  show SW x [tmO (xg x) o a z, aN (xg x) 0 (a 0) 2400 D1_28, aN (xg x) 0 (a 1) 10 M1_29, aI (xg x) 0 (a 9) 4 Pl, aI (xg x) 2 (a 11) 4 Md, aL (xg x) (a 12) 16 Rt, aI (xg x) 0 (a 13) 16 Rs] _ _ _ _ []
  have a_31 := hU_30.1
  have r_32 : rok D1_28 M1_29 1 1 := hU_30.2.2.2
  have k_33 := hU_30.keep (r := 5) (by first | omega | simp | (simp; omega)) k_26
  have k_34 := hU_30.keep (r := 0) (by first | omega | simp | (simp; omega)) r_25
  have v_35 := (v_27.mono (T := [0, 5, 6, 7, 1]) (by simp)).trans hU_30.rv (by simp)
  refine sw_aload_n (n := 68) F 2 (some o) rfl rfl rfl dX4_changed_67 rfl ?_
  refine sw_iconst (n := 69) F (1) (by decide) dX4_changed_68 rfl ?_
  refine sw_iload (n := 71) F 0 rfl dX4_changed_69 rfl ?_
  refine sw_ineg (n := 72) F dX4_changed_71 rfl ?_
  refine sw_callV (n := 75) F (ct_X4_shifts (g := xg x) (l := xl x) o a z D1_28 M1_29 1 (-(chM Pl Rs c d)) 1 (by first | omega | assumption) a_31 r_32 (by first | omega | assumption) (by first | omega | assumption)) (rcv_ob F 0 (ci := 3) rfl rfl) q4000 q4002 qs70 q120 q4003 nd_X4_shifts rfl (by decide) [0, 1, 2, 3, 4, 5, 6] rfl [aI (xg x) 0 (a 9) 4 Pl, aI (xg x) 2 (a 11) 4 Md, aL (xg x) (a 12) 16 Rt, aI (xg x) 0 (a 13) 16 Rs] rfl 0 0 ⟨by omega, by omega⟩ [] rfl (Nat.le_of_ble_eq_true rfl) dX4_changed_72 rfl (fun _ _ h => h.elim) (fun v Ws h => ?_)
  obtain ⟨D1_36, M1_37, rfl, hU_38, rfl⟩ := h
  show SW x [tmO (xg x) o a z, aN (xg x) 0 (a 0) 2400 D1_36, aN (xg x) 0 (a 1) 10 M1_37, aI (xg x) 0 (a 9) 4 Pl, aI (xg x) 2 (a 11) 4 Md, aL (xg x) (a 12) 16 Rt, aI (xg x) 0 (a 13) 16 Rs] _ _ _ _ []
  have a_39 := hU_38.1
  have r_40 : rok D1_36 M1_37 1 (1 * 10 ^ (-(chM Pl Rs c d)).toNat) := hU_38.2.2.2
  have k_41 := hU_38.keep (r := 0) (by first | omega | simp | (simp; omega)) k_34
  have k_42 := hU_38.keep (r := 5) (by first | omega | simp | (simp; omega)) k_33
  have v_43 := (v_35.mono (T := [0, 5, 6, 7, 1]) (by simp)).trans hU_38.rv (by simp)
  refine sw_aload_n (n := 76) F 2 (some o) rfl rfl rfl dX4_changed_75 rfl ?_
  refine sw_iconst (n := 77) F (0) (by decide) dX4_changed_76 rfl ?_
  refine sw_aload_n (n := 78) F 2 (some o) rfl rfl rfl dX4_changed_77 rfl ?_
  refine sw_get (n := 81) F 0 rfl (k := 11) ⟨(RX4, TX4, 50), rfl, by decide, q3810, in_X4, Or.inl rfl⟩ (v := .ref (a 11)) rfl dX4_changed_78 rfl ?_
  refine sw_iload_n (n := 82) F 4 rfl rfl dX4_changed_81 rfl ?_
  refine sw_caloadI (n := 83) F 4 rfl (fun _ => rfl) d rfl (by omega) dX4_changed_82 rfl ?_
  refine sw_callV (n := 86) F (ct_X4_rounds (g := xg x) (l := xl x) o a z D1_36 M1_37 ((u.natAbs * ((Rt ((4 * (c)) + (d))).natAbs)) * 10 ^ (chM Pl Rs c d).toNat) (1 * 10 ^ (-(chM Pl Rs c d)).toNat) 0 (Md d) a_39 k_41 r_40 hx4 (by first | omega | assumption) (by first | omega | assumption) (by decide) (by omega) hz2) (rcv_ob F 0 (ci := 3) rfl rfl) q4123 q4125 qs90 q120 q4126 nd_X4_rounds rfl (by decide) [0, 1, 2, 3, 4, 5, 6] rfl [aI (xg x) 0 (a 9) 4 Pl, aI (xg x) 2 (a 11) 4 Md, aL (xg x) (a 12) 16 Rt, aI (xg x) 0 (a 13) 16 Rs] rfl 0 0 ⟨by omega, by omega⟩ [] rfl (Nat.le_of_ble_eq_true rfl) dX4_changed_83 rfl (fun _ _ h => h.elim) (fun v Ws h => ?_)
  obtain ⟨D1_44, M1_45, rfl, hV_46, hr_47, rfl⟩ := h
  show SW x [tmO (xg x) o a (va_up z 2 (rfz (Md d) ((u.natAbs * ((Rt ((4 * (c)) + (d))).natAbs)) * 10 ^ (chM Pl Rs c d).toNat) (1 * 10 ^ (-(chM Pl Rs c d)).toNat) (z 2))), aN (xg x) 0 (a 0) 2400 D1_44, aN (xg x) 0 (a 1) 10 M1_45, aI (xg x) 0 (a 9) 4 Pl, aI (xg x) 2 (a 11) 4 Md, aL (xg x) (a 12) 16 Rt, aI (xg x) 0 (a 13) 16 Rs] _ _ _ _ []
  have a_48 := hV_46.1
  have k_49 := hV_46.keep (r := 5) (by first | omega | simp | (simp; omega)) k_42
  have k_50 := hV_46.keep (r := 0) (by first | omega | simp | (simp; omega)) k_41
  have k_51 := hV_46.keep (r := 1) (by first | omega | simp | (simp; omega)) r_40
  have v_52 := (v_43.mono (T := [0, 5, 6, 7, 1, 2, 3, 8, 9]) (by simp)).trans hV_46 (by simp)
  show SW x [tmO (xg x) o a (va_up z 2 (rfz (Md d) (chU Pl Rs Rt c d u) (chV Pl Rs c d) (z 2))), aN (xg x) 0 (a 0) 2400 D1_44, aN (xg x) 0 (a 1) 10 M1_45, aI (xg x) 0 (a 9) 4 Pl, aI (xg x) 2 (a 11) 4 Md, aL (xg x) (a 12) 16 Rt, aI (xg x) 0 (a 13) 16 Rs] _ _ _ _ []
  have hm2 := a_48.2 2 (by decide)
  refine sw_aload_n (n := 87) F 2 (some o) rfl rfl rfl dX4_changed_86 rfl ?_
  refine sw_dup (n := 88) F rfl dX4_changed_87 rfl ?_
  refine sw_get (n := 91) F 0 rfl (k := 2) ⟨(RX4, TX4, 50), rfl, by decide, q3801, in_X4, Or.inl rfl⟩ (v := .int (jI (rfz (Md d) (chU Pl Rs Rt c d u) (chV Pl Rs c d) (z 2)))) rfl dX4_changed_88 rfl ?_
  refine sw_aload_n (n := 92) F 2 (some o) rfl rfl rfl dX4_changed_91 rfl ?_
  refine sw_get (n := 95) F 0 rfl (k := 1) ⟨(RX4, TX4, 50), rfl, by decide, q3800, in_X4, Or.inl rfl⟩ (v := .ref (a 1)) rfl dX4_changed_92 rfl ?_
  refine sw_iconst (n := 96) F (2) (by decide) dX4_changed_95 rfl ?_
  refine sw_ialoadN (n := 97) F 2 rfl (fun _ => rfl) 2 rfl (by omega) dX4_changed_96 rfl ?_
  refine sw_bipush (n := 99) F (18) (by decide) dX4_changed_97 rfl ?_
  refine sw_icmp_le (n := 102) F (by omega) (by decide) (tgt := 106) dX4_changed_99 (by decide) rfl (fun c_99 => ?_) (fun c_99 => ?_)
  ·
    have hq2 : rok D1_44 M1_45 2 (chQ Pl Rs Rt Md c d u) := hr_47
    have h18 : ¬ 10 ^ 18 ≤ chQ Pl Rs Rt Md c d u := by have := rok_18 hq2 (by omega); omega
    refine sw_iconst (n := 107) F (0) (by decide) dX4_changed_106 rfl ?_
    refine sw_ior (n := 108) F _ (jI_or0 (by omega)) dX4_changed_107 rfl ?_
    refine sw_put (n := 111) F 0 rfl (k := 2) ⟨(RX4, TX4, 50), rfl, by decide, q3801, in_X4, Or.inl rfl⟩ .boolean ⟨(RX4, TX4, 50), rfl, rfl, tyX4_ok 2 (by decide), nmX4, tyX4, tyX4_ok⟩ (jI_nz (by first | decide | omega)) (jI_fz (by first | decide | omega)) (Nat.le_of_ble_eq_true rfl) (fs' := tmF a (va_up z 2 (rfz (Md d) (chU Pl Rs Rt c d u) (chV Pl Rs c d) (z 2)))) rfl [tmO (xg x) o a (va_up z 2 (rfz (Md d) (chU Pl Rs Rt c d u) (chV Pl Rs c d) (z 2))), aN (xg x) 0 (a 0) 2400 D1_44, aN (xg x) 0 (a 1) 10 M1_45, aI (xg x) 0 (a 9) 4 Pl, aI (xg x) 2 (a 11) 4 Md, aL (xg x) (a 12) 16 Rt, aI (xg x) 0 (a 13) 16 Rs] rfl dX4_changed_108 rfl ?_
    refine sw_aload_n (n := 112) F 2 (some o) rfl rfl rfl dX4_changed_111 rfl ?_
    refine sw_get (n := 115) F 0 rfl (k := 2) ⟨(RX4, TX4, 50), rfl, by decide, q3801, in_X4, Or.inl rfl⟩ (v := .int (jI (rfz (Md d) (chU Pl Rs Rt c d u) (chV Pl Rs c d) (z 2)))) rfl dX4_changed_112 rfl ?_
    refine sw_if_eq (n := 118) F (by omega) (tgt := 122) dX4_changed_115 (by decide) rfl (fun c_115 => ?_) (fun c_115 => ?_)
    ·
      refine sw_aload_n (n := 123) F 2 (some o) rfl rfl rfl dX4_changed_122 rfl ?_
      refine sw_iconst (n := 124) F (2) (by decide) dX4_changed_123 rfl ?_
      refine sw_callV (n := 127) F (ct_X4_value (g := xg x) (l := xl x) o a (va_up z 2 (rfz (Md d) (chU Pl Rs Rt c d u) (chV Pl Rs c d) (z 2))) D1_44 M1_45 2 (chQ Pl Rs Rt Md c d u) (by first | omega | assumption) a_48 hq2) (rcv_ob F 0 (ci := 3) rfl rfl) q4024 q4026 qs76 q120 q4027 nd_X4_value rfl (by decide) [0, 1, 2, 3, 4, 5, 6] rfl [aI (xg x) 0 (a 9) 4 Pl, aI (xg x) 2 (a 11) 4 Md, aL (xg x) (a 12) 16 Rt, aI (xg x) 0 (a 13) 16 Rs] rfl 0 0 ⟨by omega, by omega⟩ [] rfl (Nat.le_of_ble_eq_true rfl) dX4_changed_124 rfl (fun _ _ h => h.elim) (fun v Ws h => ?_)
      obtain ⟨rfl, rfl⟩ := h
      show SW x [tmO (xg x) o a (va_up z 2 (rfz (Md d) (chU Pl Rs Rt c d u) (chV Pl Rs c d) (z 2))), aN (xg x) 0 (a 0) 2400 D1_44, aN (xg x) 0 (a 1) 10 M1_45, aI (xg x) 0 (a 9) 4 Pl, aI (xg x) 2 (a 11) 4 Md, aL (xg x) (a 12) 16 Rt, aI (xg x) 0 (a 13) 16 Rs] _ _ _ _ [.long (jL (↑(chQ Pl Rs Rt Md c d u)))]
      have eR : chR Pl Rs Rt Md c d u (z 2) = rfz (Md d) (chU Pl Rs Rt c d u) (chV Pl Rs c d) (z 2) := if_neg h18
      exact sw_lret F rfl dX4_changed_127 (by rw [hPo]; exact ⟨D1_44, M1_45, (by unfold chA; rw [eR]; first | rw [if_pos (by assumption)] | rw [if_neg (by assumption)] | (rw [if_pos (by omega)]; rfl) | (rw [if_neg (by omega)])), (by exact v_52.mono (by simp)), (by simp only [eR, up_upI])⟩)
    ·
      refine sw_lconst (n := 119) F 0 (by decide) dX4_changed_118 rfl ?_
      refine sw_goto F (n := 127) dX4_changed_119 (by decide) ?_
      have eR : chR Pl Rs Rt Md c d u (z 2) = rfz (Md d) (chU Pl Rs Rt c d u) (chV Pl Rs c d) (z 2) := if_neg h18
      exact sw_lret F rfl dX4_changed_127 (by rw [hPo]; exact ⟨D1_44, M1_45, (by unfold chA; rw [eR]; first | rw [if_pos (by assumption)] | rw [if_neg (by assumption)] | (rw [if_pos (by omega)]; rfl) | (rw [if_neg (by omega)])), (by exact v_52.mono (by simp)), (by simp only [eR, up_upI])⟩)
  ·
    have hq2 : rok D1_44 M1_45 2 (chQ Pl Rs Rt Md c d u) := hr_47
    have h18 : 10 ^ 18 ≤ chQ Pl Rs Rt Md c d u := rok_19 hq2 (by omega)
    refine sw_iconst (n := 103) F (1) (by decide) dX4_changed_102 rfl ?_
    refine sw_goto F (n := 107) dX4_changed_103 (by decide) ?_
    refine sw_ior (n := 108) F _ (jI_or1 (by omega)) dX4_changed_107 rfl ?_
    refine sw_put (n := 111) F 0 rfl (k := 2) ⟨(RX4, TX4, 50), rfl, by decide, q3801, in_X4, Or.inl rfl⟩ .boolean ⟨(RX4, TX4, 50), rfl, rfl, tyX4_ok 2 (by decide), nmX4, tyX4, tyX4_ok⟩ (jI_nz (by first | decide | omega)) (jI_fz (by first | decide | omega)) (Nat.le_of_ble_eq_true rfl) (fs' := tmF a (va_up z 2 1)) rfl [tmO (xg x) o a (va_up z 2 1), aN (xg x) 0 (a 0) 2400 D1_44, aN (xg x) 0 (a 1) 10 M1_45, aI (xg x) 0 (a 9) 4 Pl, aI (xg x) 2 (a 11) 4 Md, aL (xg x) (a 12) 16 Rt, aI (xg x) 0 (a 13) 16 Rs] rfl dX4_changed_108 rfl ?_
    refine sw_aload_n (n := 112) F 2 (some o) rfl rfl rfl dX4_changed_111 rfl ?_
    refine sw_get (n := 115) F 0 rfl (k := 2) ⟨(RX4, TX4, 50), rfl, by decide, q3801, in_X4, Or.inl rfl⟩ (v := .int (jI 1)) rfl dX4_changed_112 rfl ?_
    refine sw_if_eq (n := 118) F (by decide) (tgt := 122) dX4_changed_115 (by decide) rfl (fun c_115 => ?_) (fun c_115 => ?_)
    · exfalso; exact absurd c_115 (by decide)
    ·
      refine sw_lconst (n := 119) F 0 (by decide) dX4_changed_118 rfl ?_
      refine sw_goto F (n := 127) dX4_changed_119 (by decide) ?_
      have eR : chR Pl Rs Rt Md c d u (z 2) = 1 := if_pos h18
      exact sw_lret F rfl dX4_changed_127 (by rw [hPo]; exact ⟨D1_44, M1_45, (by show _ = some (Value.long (jL (if chR Pl Rs Rt Md c d u (z 2) = 0 then _ else 0))); rw [eR]; rfl), (by exact v_52.mono (by simp)), (by simp only [eR, up_upI])⟩)
