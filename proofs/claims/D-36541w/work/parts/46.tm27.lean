def opP (d c I : Int) : Int := if c < 0 ∨ 3 < c then 1 else if d < 0 ∨ 9999 < d then 2 else if I = 20 then 3 else 0
theorem opP_c (d c I : Int) : (opP d c I = 1 ∧ (c < 0 ∨ 3 < c)) ∨ (opP d c I = 2 ∧ ¬(c < 0 ∨ 3 < c) ∧ (d < 0 ∨ 9999 < d)) ∨ (opP d c I = 3 ∧ ¬(c < 0 ∨ 3 < c) ∧ ¬(d < 0 ∨ 9999 < d) ∧ (I = 20)) ∨ (opP d c I = 0 ∧ ¬(c < 0 ∨ 3 < c) ∧ ¬(d < 0 ∨ 9999 < d) ∧ ¬(I = 20)) := by
  unfold opP
  by_cases h0 : c < 0 ∨ 3 < c
  · rw [if_pos h0]; exact Or.inl ⟨rfl, h0⟩
  · rw [if_neg h0]
    by_cases h1 : d < 0 ∨ 9999 < d
    · rw [if_pos h1]; exact Or.inr (Or.inl ⟨rfl, h0, h1⟩)
    · rw [if_neg h1]
      by_cases h2 : I = 20
      · rw [if_pos h2]; exact Or.inr (Or.inr (Or.inl ⟨rfl, h0, h1, h2⟩))
      · rw [if_neg h2]
        exact Or.inr (Or.inr (Or.inr (⟨rfl, h0, h1, h2⟩)))
theorem opP_nn (d c I : Int) : 0 ≤ opP d c I ∧ opP d c I ≤ 3 := by
  unfold opP
  by_cases h0 : c < 0 ∨ 3 < c
  · rw [if_pos h0]; decide
  · rw [if_neg h0]
    by_cases h1 : d < 0 ∨ 9999 < d
    · rw [if_pos h1]; decide
    · rw [if_neg h1]
      by_cases h2 : I = 20
      · rw [if_pos h2]; decide
      · rw [if_neg h2]
        decide
theorem opP_0 (d c I : Int) (h : opP d c I = 0) : ¬(c < 0 ∨ 3 < c) ∧ ¬(d < 0 ∨ 9999 < d) ∧ ¬(I = 20) := by
  revert h
  unfold opP
  by_cases h0 : c < 0 ∨ 3 < c
  · rw [if_pos h0]; exact fun h => absurd h (by decide)
  · rw [if_neg h0]
    by_cases h1 : d < 0 ∨ 9999 < d
    · rw [if_pos h1]; exact fun h => absurd h (by decide)
    · rw [if_neg h1]
      by_cases h2 : I = 20
      · rw [if_pos h2]; exact fun h => absurd h (by decide)
      · rw [if_neg h2]
        exact fun _ => ⟨h0, h1, h2⟩
def lnP (v k q p I n hb : Int) : Int := if v < 0 ∨ I - 1 < v ∨ k < 0 ∨ 5 < k then 1 else if q < 1 ∨ 999999 < q ∨ p < 0 ∨ 9999999 < p then 2 else if hb ≠ 0 then 3 else if n = 12 then 4 else 0
theorem lnP_c (v k q p I n hb : Int) : (lnP v k q p I n hb = 1 ∧ (v < 0 ∨ I - 1 < v ∨ k < 0 ∨ 5 < k)) ∨ (lnP v k q p I n hb = 2 ∧ ¬(v < 0 ∨ I - 1 < v ∨ k < 0 ∨ 5 < k) ∧ (q < 1 ∨ 999999 < q ∨ p < 0 ∨ 9999999 < p)) ∨ (lnP v k q p I n hb = 3 ∧ ¬(v < 0 ∨ I - 1 < v ∨ k < 0 ∨ 5 < k) ∧ ¬(q < 1 ∨ 999999 < q ∨ p < 0 ∨ 9999999 < p) ∧ (hb ≠ 0)) ∨ (lnP v k q p I n hb = 4 ∧ ¬(v < 0 ∨ I - 1 < v ∨ k < 0 ∨ 5 < k) ∧ ¬(q < 1 ∨ 999999 < q ∨ p < 0 ∨ 9999999 < p) ∧ ¬(hb ≠ 0) ∧ (n = 12)) ∨ (lnP v k q p I n hb = 0 ∧ ¬(v < 0 ∨ I - 1 < v ∨ k < 0 ∨ 5 < k) ∧ ¬(q < 1 ∨ 999999 < q ∨ p < 0 ∨ 9999999 < p) ∧ ¬(hb ≠ 0) ∧ ¬(n = 12)) := by
  unfold lnP
  by_cases h0 : v < 0 ∨ I - 1 < v ∨ k < 0 ∨ 5 < k
  · rw [if_pos h0]; exact Or.inl ⟨rfl, h0⟩
  · rw [if_neg h0]
    by_cases h1 : q < 1 ∨ 999999 < q ∨ p < 0 ∨ 9999999 < p
    · rw [if_pos h1]; exact Or.inr (Or.inl ⟨rfl, h0, h1⟩)
    · rw [if_neg h1]
      by_cases h2 : hb ≠ 0
      · rw [if_pos h2]; exact Or.inr (Or.inr (Or.inl ⟨rfl, h0, h1, h2⟩))
      · rw [if_neg h2]
        by_cases h3 : n = 12
        · rw [if_pos h3]; exact Or.inr (Or.inr (Or.inr (Or.inl ⟨rfl, h0, h1, h2, h3⟩)))
        · rw [if_neg h3]
          exact Or.inr (Or.inr (Or.inr (Or.inr (⟨rfl, h0, h1, h2, h3⟩))))
theorem lnP_nn (v k q p I n hb : Int) : 0 ≤ lnP v k q p I n hb ∧ lnP v k q p I n hb ≤ 4 := by
  unfold lnP
  by_cases h0 : v < 0 ∨ I - 1 < v ∨ k < 0 ∨ 5 < k
  · rw [if_pos h0]; decide
  · rw [if_neg h0]
    by_cases h1 : q < 1 ∨ 999999 < q ∨ p < 0 ∨ 9999999 < p
    · rw [if_pos h1]; decide
    · rw [if_neg h1]
      by_cases h2 : hb ≠ 0
      · rw [if_pos h2]; decide
      · rw [if_neg h2]
        by_cases h3 : n = 12
        · rw [if_pos h3]; decide
        · rw [if_neg h3]
          decide
theorem lnP_0 (v k q p I n hb : Int) (h : lnP v k q p I n hb = 0) : ¬(v < 0 ∨ I - 1 < v ∨ k < 0 ∨ 5 < k) ∧ ¬(q < 1 ∨ 999999 < q ∨ p < 0 ∨ 9999999 < p) ∧ ¬(hb ≠ 0) ∧ ¬(n = 12) := by
  revert h
  unfold lnP
  by_cases h0 : v < 0 ∨ I - 1 < v ∨ k < 0 ∨ 5 < k
  · rw [if_pos h0]; exact fun h => absurd h (by decide)
  · rw [if_neg h0]
    by_cases h1 : q < 1 ∨ 999999 < q ∨ p < 0 ∨ 9999999 < p
    · rw [if_pos h1]; exact fun h => absurd h (by decide)
    · rw [if_neg h1]
      by_cases h2 : hb ≠ 0
      · rw [if_pos h2]; exact fun h => absurd h (by decide)
      · rw [if_neg h2]
        by_cases h3 : n = 12
        · rw [if_pos h3]; exact fun h => absurd h (by decide)
        · rw [if_neg h3]
          exact fun _ => ⟨h0, h1, h2, h3⟩
def nlP (v l I n : Int) : Int := if v < 0 ∨ I - 1 < v ∨ l < 0 ∨ n - 1 < l then 1 else 0
theorem nlP_c (v l I n : Int) : (nlP v l I n = 1 ∧ (v < 0 ∨ I - 1 < v ∨ l < 0 ∨ n - 1 < l)) ∨ (nlP v l I n = 0 ∧ ¬(v < 0 ∨ I - 1 < v ∨ l < 0 ∨ n - 1 < l)) := by
  unfold nlP
  by_cases h0 : v < 0 ∨ I - 1 < v ∨ l < 0 ∨ n - 1 < l
  · rw [if_pos h0]; exact Or.inl ⟨rfl, h0⟩
  · rw [if_neg h0]
    exact Or.inr (⟨rfl, h0⟩)
theorem nlP_nn (v l I n : Int) : 0 ≤ nlP v l I n ∧ nlP v l I n ≤ 1 := by
  unfold nlP
  by_cases h0 : v < 0 ∨ I - 1 < v ∨ l < 0 ∨ n - 1 < l
  · rw [if_pos h0]; decide
  · rw [if_neg h0]
    decide
theorem nlP_0 (v l I n : Int) (h : nlP v l I n = 0) : ¬(v < 0 ∨ I - 1 < v ∨ l < 0 ∨ n - 1 < l) := by
  revert h
  unfold nlP
  by_cases h0 : v < 0 ∨ I - 1 < v ∨ l < 0 ∨ n - 1 < l
  · rw [if_pos h0]; exact fun h => absurd h (by decide)
  · rw [if_neg h0]
    exact fun _ => h0
def ivP (v I : Int) : Int := if v < 0 ∨ I - 1 < v then 1 else 0
theorem ivP_c (v I : Int) : (ivP v I = 1 ∧ (v < 0 ∨ I - 1 < v)) ∨ (ivP v I = 0 ∧ ¬(v < 0 ∨ I - 1 < v)) := by
  unfold ivP
  by_cases h0 : v < 0 ∨ I - 1 < v
  · rw [if_pos h0]; exact Or.inl ⟨rfl, h0⟩
  · rw [if_neg h0]
    exact Or.inr (⟨rfl, h0⟩)
theorem ivP_nn (v I : Int) : 0 ≤ ivP v I ∧ ivP v I ≤ 1 := by
  unfold ivP
  by_cases h0 : v < 0 ∨ I - 1 < v
  · rw [if_pos h0]; decide
  · rw [if_neg h0]
    decide
theorem ivP_0 (v I : Int) (h : ivP v I = 0) : ¬(v < 0 ∨ I - 1 < v) := by
  revert h
  unfold ivP
  by_cases h0 : v < 0 ∨ I - 1 < v
  · rw [if_pos h0]; exact fun h => absurd h (by decide)
  · rw [if_neg h0]
    exact fun _ => h0
def caV (g c : Int) : Int := g - g % c + (if c ≤ 2 * (g % c) then c else 0)
def csG (Md Cu Nt Lt : Nat → Int) (i : Nat) (b : Int) (n : Nat) : Int := ntV Md Cu Nt i b n + tsS Md Cu Nt Lt i b n n
def csZ (Md Cu Nt Lt : Nat → Int) (i : Nat) (b : Int) (n : Nat) (z : Int) : Int := tsZ Md Cu Nt Lt i b n (ntZ Md Cu Nt i b z n) n
theorem csZ_01 {Md Cu Nt Lt : Nat → Int} {i : Nat} {b z : Int} {n : Nat} (h : z = 0 ∨ z = 1) : csZ Md Cu Nt Lt i b n z = 0 ∨ csZ Md Cu Nt Lt i b n z = 1 := tsZ_01 (ntZ_01 h) n
theorem csG_rng {Md Cu Nt Lt : Nat → Int} {i : Nat} {b : Int} {n : Nat} (h : BD 0 10000000000000000 Nt) (hl : BD 0 9999 Lt) (hn : n ≤ 12) : 0 ≤ csG Md Cu Nt Lt i b n ∧ csG Md Cu Nt Lt i b n ≤ 3000000000000 := by
  have h1 := ntV_rng (Md := Md) (Cu := Cu) (i := i) (b := b) h hn
  have h2 := tsS_rng (Md := Md) (Cu := Cu) (i := i) (b := b) h hl hn n
  unfold csG; omega
theorem nd_X4_isInvoice : yX4_isInvoice.cls ≠ "java/lang/invoke/MethodHandle" ∧ yX4_isInvoice.cls ≠ "java/lang/invoke/VarHandle" ∧ (parseMethodDescriptor yX4_isInvoice.desc).map (fun d => d.parameters.length) = some 1 := by decide +kernel
set_option maxRecDepth 100000 in
set_option maxHeartbeats 16000000 in
theorem ct_X4_isInvoice {g : GG} {l : Launch} (o : Nat) (a : Nat → Nat) (z : Nat → Int) (k : Int) (hk : -2147483648 ≤ k ∧ k ≤ 2147483647) (hz27 : 0 ≤ z 27 ∧ z 27 ≤ 20) : Ct g l yX4_isInvoice (ws_ yX4_isInvoice cX4_isInvoice 2 (Option.some Jvm.ClassFile.FieldType.boolean)) 2 37 0 0 [.ref o, .int (jI k)] [tmO g o a z] (fun v9 Ws9 => v9 = some (.int (jI (inI k 0 (z 27 - 1)))) ∧ ((inI k 0 (z 27 - 1) = 1 ∧ 0 ≤ k ∧ k ≤ z 27 - 1) ∨ (inI k 0 (z 27 - 1) = 0 ∧ (k < 0 ∨ z 27 - 1 < k))) ∧ Ws9 = [tmO g o a z]) (nox) := by
  refine Ct.of (cc := cX4_isInvoice) (nL := 2) (ret := (Option.some Jvm.ClassFile.FieldType.boolean)) (by decide) rfl (Nat.le_of_ble_eq_true rfl) ?_
  intro x hg hl hPo hPx hmc hms F
  subst hg; subst hl
  refine SW.cast (L' := [(0, .ref o), (1, .int (jI k))]) ?_ rfl rfl rfl
  refine sw_iload_n (n := 1) F 1 rfl rfl dX4_isInvoice_0 rfl ?_
  refine sw_i2l (n := 2) F (by omega) dX4_isInvoice_1 rfl ?_
  refine sw_lconst (n := 3) F 0 (by decide) dX4_isInvoice_2 rfl ?_
  refine sw_aload_n (n := 4) F 0 (some o) rfl rfl rfl dX4_isInvoice_3 rfl ?_
  refine sw_get (n := 7) F 0 rfl (k := 27) ⟨(RX4, TX4, 50), rfl, by decide, q3826, in_X4, Or.inl rfl⟩ (v := .int (jI (z 27))) rfl dX4_isInvoice_4 rfl ?_
  refine sw_iconst (n := 8) F (1) (by decide) dX4_isInvoice_7 rfl ?_
  refine sw_isub (n := 9) F dX4_isInvoice_8 rfl ?_
  refine sw_i2l (n := 10) F (by omega) dX4_isInvoice_9 rfl ?_
  refine sw_callS (n := 13) F (ct_X4_in (g := xg x) (l := xl x) k 0 ((z 27) - 1) (by first | omega | assumption) (by first | omega | assumption) (by first | omega | assumption)) q3963 q3964 q120 q3965 nd_X4_in rfl (by decide) [0] rfl [tmO (xg x) o a z] rfl 0 0 ⟨by omega, by omega⟩ [] rfl (Nat.le_of_ble_eq_true rfl) dX4_isInvoice_10 rfl (fun _ _ h => h.elim) (fun v Ws h => ?_)
  obtain ⟨rfl, hs_1, rfl⟩ := h
  show SW x [tmO (xg x) o a z] _ _ _ _ [.int (jI (inI k 0 ((z 27) - 1)))]
  exact sw_iret F _ rfl (by first | rfl | exact jI_nz (by omega) | exact jI_nc (by omega)) dX4_isInvoice_13 (by rw [hPo]; exact ⟨(by first | (congr 3; omega) | (congr 2; omega) | rfl), (by exact inI_cases _ _ _), rfl⟩)
theorem nd_X4_open : yX4_open.cls ≠ "java/lang/invoke/MethodHandle" ∧ yX4_open.cls ≠ "java/lang/invoke/VarHandle" ∧ (parseMethodDescriptor yX4_open.desc).map (fun d => d.parameters.length) = some 3 := by decide +kernel
set_option maxRecDepth 100000 in
set_option maxHeartbeats 16000000 in
theorem ct_X4_open {g : GG} {l : Launch} (o : Nat) (a : Nat → Nat) (z : Nat → Int) (Dy : Nat → Int) (Cu : Nat → Int) (Bl : Nat → Int) (d : Int) (c : Int) (b : Int) (hd : -2147483648 ≤ d ∧ d ≤ 2147483647) (hc : -2147483648 ≤ c ∧ c ≤ 2147483647) (hb : b = 0 ∨ b = 1) (hz27 : 0 ≤ z 27 ∧ z 27 ≤ 20) : Ct g l yX4_open (ws_ yX4_open cX4_open 4 (Option.some Jvm.ClassFile.FieldType.int)) 3 57 0 0 [.ref o, .int (jI d), .int (jI c), .int (jI b)] [tmO g o a z, aI g 0 (a 20) 20 Dy, aI g 0 (a 21) 20 Cu, aI g 4 (a 23) 20 Bl] (fun v9 Ws9 => v9 = some (.int (jI (if0 (opP d c (z 27)) ((z 27 + 1) - 1)))) ∧ Ws9 = [tmO g o a (up0 (opP d c (z 27)) (va_up z 8 (opP d c (z 27))) 27 (z 27 + 1)), aI g 0 (a 20) 20 (up0 (opP d c (z 27)) Dy (z 27).toNat d), aI g 0 (a 21) 20 (up0 (opP d c (z 27)) Cu (z 27).toNat c), aI g 4 (a 23) 20 (up0 (opP d c (z 27)) Bl (z 27).toNat b)]) (nox) := by
  refine Ct.of (cc := cX4_open) (nL := 4) (ret := (Option.some Jvm.ClassFile.FieldType.int)) (by decide) rfl (Nat.le_of_ble_eq_true rfl) ?_
  intro x hg hl hPo hPx hmc hms F
  subst hg; subst hl
  refine SW.cast (L' := [(0, .ref o), (1, .int (jI d)), (2, .int (jI c)), (3, .int (jI b))]) ?_ rfl rfl rfl
  refine sw_aload_n (n := 1) F 0 (some o) rfl rfl rfl dX4_open_0 rfl ?_
  have K42 : ∀ (p9 : Int), (p9 = opP d c (z 27)) → SW x [tmO (xg x) o a z, aI (xg x) 0 (a 20) 20 Dy, aI (xg x) 0 (a 21) 20 Cu, aI (xg x) 4 (a 23) 20 Bl] 0 0 42 [(0, .ref o), (1, .int (jI d)), (2, .int (jI c)), (3, .int (jI b))] [.int (jI p9), .ref o] := by
    intro p9 hpc
    subst hpc
    have hcs := opP_nn d c (z 27)
    refine sw_callV (n := 45) F (ct_X4_fails (g := xg x) (l := xl x) o a z (opP d c (z 27)) (by first | omega | assumption)) (rcv_ob F 0 (ci := 3) rfl rfl) q3973 q3975 qs68 q120 q3976 nd_X4_fails rfl (by decide) [0, 1, 2, 3] (perm_ok _ 4 (by decide +kernel) rfl) [aI (xg x) 0 (a 20) 20 Dy, aI (xg x) 0 (a 21) 20 Cu, aI (xg x) 4 (a 23) 20 Bl] rfl 0 0 ⟨by omega, by omega⟩ [] rfl (Nat.le_of_ble_eq_true rfl) dX4_open_42 rfl (fun _ _ h => h.elim) (fun v Ws h => ?_)
    obtain ⟨rfl, hps_1, rfl⟩ := h
    show SW x [tmO (xg x) o a (va_up z 8 (opP d c (z 27))), aI (xg x) 0 (a 20) 20 Dy, aI (xg x) 0 (a 21) 20 Cu, aI (xg x) 4 (a 23) 20 Bl] _ _ _ _ [.int (jI (psI (opP d c (z 27))))]
    refine sw_if_eq (n := 48) F (by omega) (tgt := 50) dX4_open_45 (by decide) rfl (fun c_45 => ?_) (fun c_45 => ?_)
    ·
      have e0 : opP d c (z 27) = 0 := by omega
      obtain ⟨hz0, hz1, hz2⟩ := opP_0 d c (z 27) e0
      have rg0 : 0 ≤ d ∧ d ≤ 9999 := by omega
      have rg1 : 0 ≤ c ∧ c ≤ 3 := by omega
      have rg2 : z 27 ≤ 19 := by omega
      clear hz0 hz1 hz2 hcs c_45 hps_1
      refine sw_aload_n (n := 51) F 0 (some o) rfl rfl rfl dX4_open_50 rfl ?_
      refine sw_get (n := 54) F 0 rfl (k := 20) ⟨(RX4, TX4, 50), rfl, by decide, q3819, in_X4, Or.inl rfl⟩ (v := .ref (a 20)) rfl dX4_open_51 rfl ?_
      refine sw_aload_n (n := 55) F 0 (some o) rfl rfl rfl dX4_open_54 rfl ?_
      refine sw_get (n := 58) F 0 rfl (k := 27) ⟨(RX4, TX4, 50), rfl, by decide, q3826, in_X4, Or.inl rfl⟩ (v := .int (jI (z 27))) rfl dX4_open_55 rfl ?_
      refine sw_iload_n (n := 59) F 1 rfl rfl dX4_open_58 rfl ?_
      refine sw_iastoreI (n := 60) F 1 rfl (fun _ => rfl) ((z 27 : Int).toNat) (by omega) (by omega) [tmO (xg x) o a (va_up z 8 (opP d c (z 27))), aI (xg x) 0 (a 20) 20 (va_up Dy ((z 27 : Int).toNat) d), aI (xg x) 0 (a 21) 20 Cu, aI (xg x) 4 (a 23) 20 Bl] (by simp [List.set]) dX4_open_59 rfl ?_
      refine sw_aload_n (n := 61) F 0 (some o) rfl rfl rfl dX4_open_60 rfl ?_
      refine sw_get (n := 64) F 0 rfl (k := 21) ⟨(RX4, TX4, 50), rfl, by decide, q3820, in_X4, Or.inl rfl⟩ (v := .ref (a 21)) rfl dX4_open_61 rfl ?_
      refine sw_aload_n (n := 65) F 0 (some o) rfl rfl rfl dX4_open_64 rfl ?_
      refine sw_get (n := 68) F 0 rfl (k := 27) ⟨(RX4, TX4, 50), rfl, by decide, q3826, in_X4, Or.inl rfl⟩ (v := .int (jI (z 27))) rfl dX4_open_65 rfl ?_
      refine sw_iload_n (n := 69) F 2 rfl rfl dX4_open_68 rfl ?_
      refine sw_iastoreI (n := 70) F 2 rfl (fun _ => rfl) ((z 27 : Int).toNat) (by omega) (by omega) [tmO (xg x) o a (va_up z 8 (opP d c (z 27))), aI (xg x) 0 (a 20) 20 (va_up Dy ((z 27 : Int).toNat) d), aI (xg x) 0 (a 21) 20 (va_up Cu ((z 27 : Int).toNat) c), aI (xg x) 4 (a 23) 20 Bl] (by simp [List.set]) dX4_open_69 rfl ?_
      refine sw_aload_n (n := 71) F 0 (some o) rfl rfl rfl dX4_open_70 rfl ?_
      refine sw_get (n := 74) F 0 rfl (k := 23) ⟨(RX4, TX4, 50), rfl, by decide, q3822, in_X4, Or.inl rfl⟩ (v := .ref (a 23)) rfl dX4_open_71 rfl ?_
      refine sw_aload_n (n := 75) F 0 (some o) rfl rfl rfl dX4_open_74 rfl ?_
      refine sw_get (n := 78) F 0 rfl (k := 27) ⟨(RX4, TX4, 50), rfl, by decide, q3826, in_X4, Or.inl rfl⟩ (v := .int (jI (z 27))) rfl dX4_open_75 rfl ?_
      refine sw_iload_n (n := 79) F 3 rfl rfl dX4_open_78 rfl ?_
      refine sw_zastoreI (n := 80) F 3 rfl (fun _ => rfl) ((z 27 : Int).toNat) (by omega) (by omega) (by omega) [tmO (xg x) o a (va_up z 8 (opP d c (z 27))), aI (xg x) 0 (a 20) 20 (va_up Dy ((z 27 : Int).toNat) d), aI (xg x) 0 (a 21) 20 (va_up Cu ((z 27 : Int).toNat) c), aI (xg x) 4 (a 23) 20 (va_up Bl ((z 27 : Int).toNat) b)] (by simp [List.set]) dX4_open_79 rfl ?_
      refine sw_aload_n (n := 81) F 0 (some o) rfl rfl rfl dX4_open_80 rfl ?_
      refine sw_dup (n := 82) F rfl dX4_open_81 rfl ?_
      refine sw_get (n := 85) F 0 rfl (k := 27) ⟨(RX4, TX4, 50), rfl, by decide, q3826, in_X4, Or.inl rfl⟩ (v := .int (jI (z 27))) rfl dX4_open_82 rfl ?_
      refine sw_iconst (n := 86) F (1) (by decide) dX4_open_85 rfl ?_
      refine sw_iadd (n := 87) F dX4_open_86 rfl ?_
      refine sw_put (n := 90) F 0 rfl (k := 27) ⟨(RX4, TX4, 50), rfl, by decide, q3826, in_X4, Or.inl rfl⟩ .int ⟨(RX4, TX4, 50), rfl, rfl, tyX4_ok 27 (by decide), nmX4, tyX4, tyX4_ok⟩ rfl rfl (Nat.le_of_ble_eq_true rfl) (fs' := tmF a (va_up (va_up z 8 (opP d c (z 27))) 27 ((z 27) + 1))) rfl [tmO (xg x) o a (va_up (va_up z 8 (opP d c (z 27))) 27 ((z 27) + 1)), aI (xg x) 0 (a 20) 20 (va_up Dy ((z 27 : Int).toNat) d), aI (xg x) 0 (a 21) 20 (va_up Cu ((z 27 : Int).toNat) c), aI (xg x) 4 (a 23) 20 (va_up Bl ((z 27 : Int).toNat) b)] rfl dX4_open_87 rfl ?_
      refine sw_aload_n (n := 91) F 0 (some o) rfl rfl rfl dX4_open_90 rfl ?_
      refine sw_get (n := 94) F 0 rfl (k := 27) ⟨(RX4, TX4, 50), rfl, by decide, q3826, in_X4, Or.inl rfl⟩ (v := .int (jI ((z 27) + 1))) rfl dX4_open_91 rfl ?_
      refine sw_iconst (n := 95) F (1) (by decide) dX4_open_94 rfl ?_
      refine sw_isub (n := 96) F dX4_open_95 rfl ?_
      have e0 : opP d c (z 27) = 0 := by omega
      exact sw_iret F _ rfl (by first | rfl | exact jI_nz (by omega) | exact jI_nc (by omega)) dX4_open_96 (by rw [hPo]; exact ⟨(by rw [if0_p e0]), (by simp only [up0_p e0, up_88])⟩)
    ·
      refine sw_iconst (n := 49) F (0) (by decide) dX4_open_48 rfl ?_
      have e0 : opP d c (z 27) ≠ 0 := by omega
      exact sw_iret F _ rfl (by first | rfl | exact jI_nz (by omega) | exact jI_nc (by omega)) dX4_open_49 (by rw [hPo]; exact ⟨(by rw [if0_n e0]), (by simp only [up0_n e0, up_88])⟩)
  refine sw_iload_n (n := 2) F 2 rfl rfl dX4_open_1 rfl ?_
  refine sw_callS (n := 5) F (ct_X4_isCurrency (g := xg x) (l := xl x) c hc) q4162 q4163 q120 q4164 nd_X4_isCurrency rfl (by decide) [0, 1, 2, 3] (perm_ok _ 4 (by decide +kernel) rfl) [tmO (xg x) o a z, aI (xg x) 0 (a 20) 20 Dy, aI (xg x) 0 (a 21) 20 Cu, aI (xg x) 4 (a 23) 20 Bl] rfl 0 0 ⟨by omega, by omega⟩ [.ref o] rfl (Nat.le_of_ble_eq_true rfl) dX4_open_2 rfl (fun _ _ h => h.elim) (fun v Ws h => ?_)
  obtain ⟨rfl, hs_2, rfl⟩ := h
  show SW x [tmO (xg x) o a z, aI (xg x) 0 (a 20) 20 Dy, aI (xg x) 0 (a 21) 20 Cu, aI (xg x) 4 (a 23) 20 Bl] _ _ _ _ [.int (jI (inI c 0 3)), .ref o]
  refine sw_if_ne (n := 8) F (by omega) (tgt := 12) dX4_open_5 (by decide) rfl (fun c_5 => ?_) (fun c_5 => ?_)
  ·
    refine sw_iload_n (n := 13) F 1 rfl rfl dX4_open_12 rfl ?_
    refine sw_i2l (n := 14) F (by omega) dX4_open_13 rfl ?_
    refine sw_lconst (n := 15) F 0 (by decide) dX4_open_14 rfl ?_
    refine sw_ldc2 (n := 18) F (9999) q4195 (by decide) dX4_open_15 rfl ?_
    refine sw_callS (n := 21) F (ct_X4_in (g := xg x) (l := xl x) d 0 9999 (by first | omega | assumption) (by first | omega | assumption) (by first | omega | assumption)) q3963 q3964 q120 q3965 nd_X4_in rfl (by decide) [0, 1, 2, 3] (perm_ok _ 4 (by decide +kernel) rfl) [tmO (xg x) o a z, aI (xg x) 0 (a 20) 20 Dy, aI (xg x) 0 (a 21) 20 Cu, aI (xg x) 4 (a 23) 20 Bl] rfl 0 0 ⟨by omega, by omega⟩ [.ref o] rfl (Nat.le_of_ble_eq_true rfl) dX4_open_18 rfl (fun _ _ h => h.elim) (fun v Ws h => ?_)
    obtain ⟨rfl, hs_3, rfl⟩ := h
    show SW x [tmO (xg x) o a z, aI (xg x) 0 (a 20) 20 Dy, aI (xg x) 0 (a 21) 20 Cu, aI (xg x) 4 (a 23) 20 Bl] _ _ _ _ [.int (jI (inI d 0 9999)), .ref o]
    refine sw_if_ne (n := 24) F (by omega) (tgt := 28) dX4_open_21 (by decide) rfl (fun c_21 => ?_) (fun c_21 => ?_)
    ·
      refine sw_aload_n (n := 29) F 0 (some o) rfl rfl rfl dX4_open_28 rfl ?_
      refine sw_get (n := 32) F 0 rfl (k := 27) ⟨(RX4, TX4, 50), rfl, by decide, q3826, in_X4, Or.inl rfl⟩ (v := .int (jI (z 27))) rfl dX4_open_29 rfl ?_
      refine sw_bipush (n := 34) F (20) (by decide) dX4_open_32 rfl ?_
      refine sw_icmp_ne (n := 37) F (by omega) (by decide) (tgt := 41) dX4_open_34 (by decide) rfl (fun c_34 => ?_) (fun c_34 => ?_)
      ·
        refine sw_iconst (n := 42) F (0) (by decide) dX4_open_41 rfl ?_
        exact K42 0 (by unfold opP; (repeat' split) <;> omega)
      ·
        refine sw_iconst (n := 38) F (3) (by decide) dX4_open_37 rfl ?_
        refine sw_goto F (n := 42) dX4_open_38 (by decide) ?_
        exact K42 3 (by unfold opP; (repeat' split) <;> omega)
    ·
      refine sw_iconst (n := 25) F (2) (by decide) dX4_open_24 rfl ?_
      refine sw_goto F (n := 42) dX4_open_25 (by decide) ?_
      exact K42 2 (by unfold opP; (repeat' split) <;> omega)
  ·
    refine sw_iconst (n := 9) F (1) (by decide) dX4_open_8 rfl ?_
    refine sw_goto F (n := 42) dX4_open_9 (by decide) ?_
    exact K42 1 (by unfold opP; (repeat' split) <;> omega)
theorem nd_X4_line : yX4_line.cls ≠ "java/lang/invoke/MethodHandle" ∧ yX4_line.cls ≠ "java/lang/invoke/VarHandle" ∧ (parseMethodDescriptor yX4_line.desc).map (fun d => d.parameters.length) = some 4 := by decide +kernel
set_option maxRecDepth 100000 in
set_option maxHeartbeats 16000000 in
theorem ct_X4_line {g : GG} {l : Launch} (o : Nat) (a : Nat → Nat) (z : Nat → Int) (Td : Nat → Int) (Tx : Nat → Int) (Tm : Nat → Int) (Qt : Nat → Int) (Ds : Nat → Int) (Dm : Nat → Int) (Dy : Nat → Int) (Ln : Nat → Int) (Hb : Nat → Int) (Nt : Nat → Int) (Lt : Nat → Int) (v : Int) (k : Int) (q : Int) (p : Int) (hTd : BD 0 999999 Td) (hTx : BD 0 9999 Tx) (hTm : BD 0 500 Tm) (hQt : BD 0 999999 Qt) (hDs : BD 0 999 Ds) (hDm : BD 0 500 Dm) (hLn : BD 0 12 Ln) (hHb : HB Hb) (hDy : BD 0 9999 Dy) (hv : -2147483648 ≤ v ∧ v ≤ 2147483647) (hk : -2147483648 ≤ k ∧ k ≤ 2147483647) (hq : -2147483648 ≤ q ∧ q ≤ 2147483647) (hp : -2147483648 ≤ p ∧ p ≤ 2147483647) (hz27 : 0 ≤ z 27 ∧ z 27 ≤ 20) : Ct g l yX4_line (ws_ yX4_line cX4_line 6 (Option.some Jvm.ClassFile.FieldType.int)) 3 60 0 0 [.ref o, .int (jI v), .int (jI k), .int (jI q), .int (jI p)] [tmO g o a z, aI g 0 (a 14) 3600 Td, aI g 0 (a 15) 3600 Tx, aI g 0 (a 18) 6 Tm, aI g 0 (a 16) 3600 Qt, aI g 0 (a 17) 3600 Ds, aI g 0 (a 19) 6 Dm, aI g 0 (a 20) 20 Dy, aI g 0 (a 22) 20 Ln, aI g 4 (a 24) 20 Hb, aL g (a 25) 240 Nt, aI g 0 (a 26) 240 Lt] (fun v9 Ws9 => v9 = some (.int (jI (if0 (lnP v k q p (z 27) (Ln v.toNat) (Hb v.toNat)) (Ln v.toNat)))) ∧ Ws9 = [tmO g o a (va_up z 8 (lnP v k q p (z 27) (Ln v.toNat) (Hb v.toNat))), aI g 0 (a 14) 3600 Td, aI g 0 (a 15) 3600 Tx, aI g 0 (a 18) 6 Tm, aI g 0 (a 16) 3600 Qt, aI g 0 (a 17) 3600 Ds, aI g 0 (a 19) 6 Dm, aI g 0 (a 20) 20 Dy, aI g 0 (a 22) 20 (up0 (lnP v k q p (z 27) (Ln v.toNat) (Hb v.toNat)) Ln v.toNat (Ln v.toNat + 1)), aI g 4 (a 24) 20 Hb, aL g (a 25) 240 (up0 (lnP v k q p (z 27) (Ln v.toNat) (Hb v.toNat)) Nt (12 * v.toNat + (Ln v.toNat).toNat) (p * q * (1000 - txA Qt Ds Dm k.toNat q))), aI g 0 (a 26) 240 (up0 (lnP v k q p (z 27) (Ln v.toNat) (Hb v.toNat)) Lt (12 * v.toNat + (Ln v.toNat).toNat) (txA Td Tx Tm k.toNat (Dy v.toNat)))]) (nox) := by
  refine Ct.of (cc := cX4_line) (nL := 6) (ret := (Option.some Jvm.ClassFile.FieldType.int)) (by decide) rfl (Nat.le_of_ble_eq_true rfl) ?_
  intro x hg hl hPo hPx hmc hms F
  subst hg; subst hl
  refine SW.cast (L' := [(0, .ref o), (1, .int (jI v)), (2, .int (jI k)), (3, .int (jI q)), (4, .int (jI p))]) ?_ rfl rfl rfl
  have hln := hLn v.toNat
  have hhb := hHb v.toNat
  have hdy := hDy v.toNat
  have hdm := hDm k.toNat
  refine sw_aload_n (n := 1) F 0 (some o) rfl rfl rfl dX4_line_0 rfl ?_
  have K78 : ∀ (p9 : Int), (p9 = lnP v k q p (z 27) (Ln v.toNat) (Hb v.toNat)) → SW x [tmO (xg x) o a z, aI (xg x) 0 (a 14) 3600 Td, aI (xg x) 0 (a 15) 3600 Tx, aI (xg x) 0 (a 18) 6 Tm, aI (xg x) 0 (a 16) 3600 Qt, aI (xg x) 0 (a 17) 3600 Ds, aI (xg x) 0 (a 19) 6 Dm, aI (xg x) 0 (a 20) 20 Dy, aI (xg x) 0 (a 22) 20 Ln, aI (xg x) 4 (a 24) 20 Hb, aL (xg x) (a 25) 240 Nt, aI (xg x) 0 (a 26) 240 Lt] 0 0 78 [(0, .ref o), (1, .int (jI v)), (2, .int (jI k)), (3, .int (jI q)), (4, .int (jI p))] [.int (jI p9), .ref o] := by
    intro p9 hpc
    subst hpc
    have hcs := lnP_nn v k q p (z 27) (Ln v.toNat) (Hb v.toNat)
    refine sw_callV (n := 81) F (ct_X4_fails (g := xg x) (l := xl x) o a z (lnP v k q p (z 27) (Ln v.toNat) (Hb v.toNat)) (by first | omega | assumption)) (rcv_ob F 0 (ci := 3) rfl rfl) q3973 q3975 qs68 q120 q3976 nd_X4_fails rfl (by decide) [0, 1, 2, 3, 4, 5, 6, 7, 8, 9, 10, 11] (perm_ok _ 12 (by decide +kernel) rfl) [aI (xg x) 0 (a 14) 3600 Td, aI (xg x) 0 (a 15) 3600 Tx, aI (xg x) 0 (a 18) 6 Tm, aI (xg x) 0 (a 16) 3600 Qt, aI (xg x) 0 (a 17) 3600 Ds, aI (xg x) 0 (a 19) 6 Dm, aI (xg x) 0 (a 20) 20 Dy, aI (xg x) 0 (a 22) 20 Ln, aI (xg x) 4 (a 24) 20 Hb, aL (xg x) (a 25) 240 Nt, aI (xg x) 0 (a 26) 240 Lt] rfl 0 0 ⟨by omega, by omega⟩ [] rfl (Nat.le_of_ble_eq_true rfl) dX4_line_78 rfl (fun _ _ h => h.elim) (fun v Ws h => ?_)
    obtain ⟨rfl, hps_1, rfl⟩ := h
    show SW x [tmO (xg x) o a (va_up z 8 (lnP v k q p (z 27) (Ln v.toNat) (Hb v.toNat))), aI (xg x) 0 (a 14) 3600 Td, aI (xg x) 0 (a 15) 3600 Tx, aI (xg x) 0 (a 18) 6 Tm, aI (xg x) 0 (a 16) 3600 Qt, aI (xg x) 0 (a 17) 3600 Ds, aI (xg x) 0 (a 19) 6 Dm, aI (xg x) 0 (a 20) 20 Dy, aI (xg x) 0 (a 22) 20 Ln, aI (xg x) 4 (a 24) 20 Hb, aL (xg x) (a 25) 240 Nt, aI (xg x) 0 (a 26) 240 Lt] _ _ _ _ [.int (jI (psI (lnP v k q p (z 27) (Ln v.toNat) (Hb v.toNat))))]
    refine sw_if_eq (n := 84) F (by omega) (tgt := 86) dX4_line_81 (by decide) rfl (fun c_81 => ?_) (fun c_81 => ?_)
    ·
      have e0 : lnP v k q p (z 27) (Ln v.toNat) (Hb v.toNat) = 0 := by omega
      obtain ⟨hz0, hz1, hz2, hz3⟩ := lnP_0 v k q p (z 27) (Ln v.toNat) (Hb v.toNat) e0
      have rg0 : 0 ≤ v ∧ v ≤ 19 := by omega
      have rg1 : 0 ≤ k ∧ k ≤ 5 := by omega
      have rg2 : 1 ≤ q ∧ q ≤ 999999 := by omega
      have rg3 : 0 ≤ p ∧ p ≤ 9999999 := by omega
      have rg4 : Ln v.toNat ≤ 11 := by omega
      clear hz0 hz1 hz2 hz3 hcs c_81 hps_1
      refine SW.cast (L' := [(0, .ref o), (1, .int (jI (↑(v.toNat)))), (2, .int (jI (↑(k.toNat)))), (3, .int (jI q)), (4, .int (jI p))]) ?_ rfl (by rw [Int.toNat_of_nonneg (show 0 ≤ v by omega), Int.toNat_of_nonneg (show 0 ≤ k by omega)]) rfl
      refine sw_bipush (n := 88) F (12) (by decide) dX4_line_86 rfl ?_
      refine sw_iload_n (n := 89) F 1 rfl rfl dX4_line_88 rfl ?_
      refine sw_imul (n := 90) F dX4_line_89 rfl ?_
      refine sw_aload_n (n := 91) F 0 (some o) rfl rfl rfl dX4_line_90 rfl ?_
      refine sw_get (n := 94) F 0 rfl (k := 22) ⟨(RX4, TX4, 50), rfl, by decide, q3821, in_X4, Or.inl rfl⟩ (v := .ref (a 22)) rfl dX4_line_91 rfl ?_
      refine sw_iload_n (n := 95) F 1 rfl rfl dX4_line_94 rfl ?_
      refine sw_ialoadI (n := 96) F 8 rfl (fun _ => rfl) v.toNat (by omega) (by omega) dX4_line_95 rfl ?_
      refine sw_iadd (n := 97) F dX4_line_96 rfl ?_
      refine sw_istore (n := 99) F (L2 := [(5, .int (jI ((12 * (↑(v.toNat))) + (Ln v.toNat)))), (0, .ref o), (1, .int (jI (↑(v.toNat)))), (2, .int (jI (↑(k.toNat)))), (3, .int (jI q)), (4, .int (jI p))]) rfl (by decide) dX4_line_97 rfl ?_
      refine sw_aload_n (n := 100) F 1 (some o) rfl rfl rfl dX4_line_99 rfl ?_
      refine sw_get (n := 103) F 0 rfl (k := 25) ⟨(RX4, TX4, 50), rfl, by decide, q3824, in_X4, Or.inl rfl⟩ (v := .ref (a 25)) rfl dX4_line_100 rfl ?_
      refine sw_iload (n := 105) F 0 rfl dX4_line_103 rfl ?_
      refine sw_iload (n := 107) F 5 rfl dX4_line_105 rfl ?_
      refine sw_i2l (n := 108) F (by omega) dX4_line_107 rfl ?_
      refine sw_iload_n (n := 109) F 4 rfl rfl dX4_line_108 rfl ?_
      refine sw_i2l (n := 110) F (by omega) dX4_line_109 rfl ?_
      refine sw_lmul (n := 111) F dX4_line_110 rfl ?_
      refine sw_sipush (n := 114) F (1000) (by decide) dX4_line_111 rfl ?_
      refine sw_aload_n (n := 115) F 1 (some o) rfl rfl rfl dX4_line_114 rfl ?_
      refine sw_get (n := 118) F 0 rfl (k := 16) ⟨(RX4, TX4, 50), rfl, by decide, q3815, in_X4, Or.inl rfl⟩ (v := .ref (a 16)) rfl dX4_line_115 rfl ?_
      refine sw_aload_n (n := 119) F 1 (some o) rfl rfl rfl dX4_line_118 rfl ?_
      refine sw_get (n := 122) F 0 rfl (k := 17) ⟨(RX4, TX4, 50), rfl, by decide, q3816, in_X4, Or.inl rfl⟩ (v := .ref (a 17)) rfl dX4_line_119 rfl ?_
      refine sw_iload_n (n := 123) F 3 rfl rfl dX4_line_122 rfl ?_
      refine sw_aload_n (n := 124) F 1 (some o) rfl rfl rfl dX4_line_123 rfl ?_
      refine sw_get (n := 127) F 0 rfl (k := 19) ⟨(RX4, TX4, 50), rfl, by decide, q3818, in_X4, Or.inl rfl⟩ (v := .ref (a 19)) rfl dX4_line_124 rfl ?_
      refine sw_iload_n (n := 128) F 3 rfl rfl dX4_line_127 rfl ?_
      refine sw_ialoadI (n := 129) F 6 rfl (fun _ => rfl) k.toNat (by omega) (by omega) dX4_line_128 rfl ?_
      refine sw_iload_n (n := 130) F 4 rfl rfl dX4_line_129 rfl ?_
      rw [show (Dm k.toNat : Int) = ↑((Dm k.toNat : Int).toNat) by omega]
      refine sw_callS (n := 133) F (ct_X4_told (g := xg x) (l := xl x) (a 16) (a 17) Qt Ds k.toNat ((Dm k.toNat : Int).toNat) q (by first | omega | assumption) (by first | omega | assumption) hQt hq) q4207 q4208 q120 q4209 nd_X4_told rfl (by decide) [4, 5, 0, 1, 2, 3, 6, 7, 8, 9, 10, 11] (perm_ok _ 12 (by decide +kernel) rfl) [tmO (xg x) o a (va_up z 8 (lnP v k q p (z 27) (Ln v.toNat) (Hb v.toNat))), aI (xg x) 0 (a 14) 3600 Td, aI (xg x) 0 (a 15) 3600 Tx, aI (xg x) 0 (a 18) 6 Tm, aI (xg x) 0 (a 19) 6 Dm, aI (xg x) 0 (a 20) 20 Dy, aI (xg x) 0 (a 22) 20 Ln, aI (xg x) 4 (a 24) 20 Hb, aL (xg x) (a 25) 240 Nt, aI (xg x) 0 (a 26) 240 Lt] rfl 0 0 ⟨by omega, by omega⟩ [.int (jI 1000), .long (jL (p * q)), .int (jI ((12 * (↑(v.toNat))) + (Ln v.toNat))), .ref (a 25)] rfl (Nat.le_of_ble_eq_true rfl) dX4_line_130 rfl (fun _ _ h => h.elim) (fun v Ws h => ?_)
      obtain ⟨rfl, rfl⟩ := h
      show SW x [aI (xg x) 0 (a 16) 3600 Qt, aI (xg x) 0 (a 17) 3600 Ds, tmO (xg x) o a (va_up z 8 (lnP v k q p (z 27) (Ln v.toNat) (Hb v.toNat))), aI (xg x) 0 (a 14) 3600 Td, aI (xg x) 0 (a 15) 3600 Tx, aI (xg x) 0 (a 18) 6 Tm, aI (xg x) 0 (a 19) 6 Dm, aI (xg x) 0 (a 20) 20 Dy, aI (xg x) 0 (a 22) 20 Ln, aI (xg x) 4 (a 24) 20 Hb, aL (xg x) (a 25) 240 Nt, aI (xg x) 0 (a 26) 240 Lt] _ _ _ _ [.int (jI (toR Qt Ds (600 * k.toNat) q ((Dm k.toNat : Int).toNat))), .int (jI 1000), .long (jL (p * q)), .int (jI ((12 * (↑(v.toNat))) + (Ln v.toNat))), .ref (a 25)]
      have htr := toR_rng (f := Qt) (s := 600 * k.toNat) (p := q) (n := (Dm k.toNat).toNat) hDs (by omega)
      refine sw_isub (n := 134) F dX4_line_133 rfl ?_
      refine sw_i2l (n := 135) F (by omega) dX4_line_134 rfl ?_
      refine sw_lmul (n := 136) F dX4_line_135 rfl ?_
      refine sw_lastoreL (n := 137) F 10 rfl (fun _ => rfl) (12 * v.toNat + (Ln v.toNat).toNat) (by omega) (by omega) [aI (xg x) 0 (a 16) 3600 Qt, aI (xg x) 0 (a 17) 3600 Ds, tmO (xg x) o a (va_up z 8 (lnP v k q p (z 27) (Ln v.toNat) (Hb v.toNat))), aI (xg x) 0 (a 14) 3600 Td, aI (xg x) 0 (a 15) 3600 Tx, aI (xg x) 0 (a 18) 6 Tm, aI (xg x) 0 (a 19) 6 Dm, aI (xg x) 0 (a 20) 20 Dy, aI (xg x) 0 (a 22) 20 Ln, aI (xg x) 4 (a 24) 20 Hb, aL (xg x) (a 25) 240 (va_up Nt (12 * v.toNat + (Ln v.toNat).toNat) ((p * q) * (1000 - (toR Qt Ds (600 * k.toNat) q ((Dm k.toNat : Int).toNat))))), aI (xg x) 0 (a 26) 240 Lt] (by simp [List.set]) dX4_line_136 rfl ?_
      refine sw_aload_n (n := 138) F 1 (some o) rfl rfl rfl dX4_line_137 rfl ?_
      refine sw_get (n := 141) F 2 rfl (k := 26) ⟨(RX4, TX4, 50), rfl, by decide, q3825, in_X4, Or.inl rfl⟩ (v := .ref (a 26)) rfl dX4_line_138 rfl ?_
      refine sw_iload (n := 143) F 0 rfl dX4_line_141 rfl ?_
      refine sw_aload_n (n := 144) F 1 (some o) rfl rfl rfl dX4_line_143 rfl ?_
      refine sw_iload_n (n := 145) F 3 rfl rfl dX4_line_144 rfl ?_
      refine sw_aload_n (n := 146) F 1 (some o) rfl rfl rfl dX4_line_145 rfl ?_
      refine sw_get (n := 149) F 2 rfl (k := 20) ⟨(RX4, TX4, 50), rfl, by decide, q3819, in_X4, Or.inl rfl⟩ (v := .ref (a 20)) rfl dX4_line_146 rfl ?_
      refine sw_iload_n (n := 150) F 2 rfl rfl dX4_line_149 rfl ?_
      refine sw_ialoadI (n := 151) F 7 rfl (fun _ => rfl) v.toNat (by omega) (by omega) dX4_line_150 rfl ?_
      refine sw_callV (n := 154) F (ct_X4_taxAt (g := xg x) (l := xl x) o a (va_up z 8 (lnP v k q p (z 27) (Ln v.toNat) (Hb v.toNat))) Td Tx Tm k.toNat (Dy v.toNat) hTd hTx hTm (by first | omega | assumption) (by first | omega | assumption)) (rcv_ob F 2 (ci := 3) rfl rfl) q4203 q4205 qs94 q120 q4206 nd_X4_taxAt rfl (by decide) [2, 3, 4, 5, 0, 1, 6, 7, 8, 9, 10, 11] (perm_ok _ 12 (by decide +kernel) rfl) [aI (xg x) 0 (a 16) 3600 Qt, aI (xg x) 0 (a 17) 3600 Ds, aI (xg x) 0 (a 19) 6 Dm, aI (xg x) 0 (a 20) 20 Dy, aI (xg x) 0 (a 22) 20 Ln, aI (xg x) 4 (a 24) 20 Hb, aL (xg x) (a 25) 240 (va_up Nt (12 * v.toNat + (Ln v.toNat).toNat) ((p * q) * (1000 - (toR Qt Ds (600 * k.toNat) q ((Dm k.toNat : Int).toNat))))), aI (xg x) 0 (a 26) 240 Lt] rfl 0 0 ⟨by omega, by omega⟩ [.int (jI ((12 * (↑(v.toNat))) + (Ln v.toNat))), .ref (a 26)] rfl (Nat.le_of_ble_eq_true rfl) dX4_line_151 rfl (fun _ _ h => h.elim) (fun v Ws h => ?_)
      obtain ⟨rfl, rfl⟩ := h
      show SW x [tmO (xg x) o a (va_up z 8 (lnP v k q p (z 27) (Ln v.toNat) (Hb v.toNat))), aI (xg x) 0 (a 14) 3600 Td, aI (xg x) 0 (a 15) 3600 Tx, aI (xg x) 0 (a 18) 6 Tm, aI (xg x) 0 (a 16) 3600 Qt, aI (xg x) 0 (a 17) 3600 Ds, aI (xg x) 0 (a 19) 6 Dm, aI (xg x) 0 (a 20) 20 Dy, aI (xg x) 0 (a 22) 20 Ln, aI (xg x) 4 (a 24) 20 Hb, aL (xg x) (a 25) 240 (va_up Nt (12 * v.toNat + (Ln v.toNat).toNat) ((p * q) * (1000 - (toR Qt Ds (600 * k.toNat) q ((Dm k.toNat : Int).toNat))))), aI (xg x) 0 (a 26) 240 Lt] _ _ _ _ [.int (jI (txA Td Tx Tm k.toNat (Dy v.toNat))), .int (jI ((12 * (↑(v.toNat))) + (Ln v.toNat))), .ref (a 26)]
      refine sw_iastoreI (n := 155) F 11 rfl (fun _ => rfl) (12 * v.toNat + (Ln v.toNat).toNat) (by omega) (by omega) [tmO (xg x) o a (va_up z 8 (lnP v k q p (z 27) (Ln v.toNat) (Hb v.toNat))), aI (xg x) 0 (a 14) 3600 Td, aI (xg x) 0 (a 15) 3600 Tx, aI (xg x) 0 (a 18) 6 Tm, aI (xg x) 0 (a 16) 3600 Qt, aI (xg x) 0 (a 17) 3600 Ds, aI (xg x) 0 (a 19) 6 Dm, aI (xg x) 0 (a 20) 20 Dy, aI (xg x) 0 (a 22) 20 Ln, aI (xg x) 4 (a 24) 20 Hb, aL (xg x) (a 25) 240 (va_up Nt (12 * v.toNat + (Ln v.toNat).toNat) ((p * q) * (1000 - (toR Qt Ds (600 * k.toNat) q ((Dm k.toNat : Int).toNat))))), aI (xg x) 0 (a 26) 240 (va_up Lt (12 * v.toNat + (Ln v.toNat).toNat) (txA Td Tx Tm k.toNat (Dy v.toNat)))] (by simp [List.set]) dX4_line_154 rfl ?_
      refine sw_aload_n (n := 156) F 1 (some o) rfl rfl rfl dX4_line_155 rfl ?_
      refine sw_get (n := 159) F 0 rfl (k := 22) ⟨(RX4, TX4, 50), rfl, by decide, q3821, in_X4, Or.inl rfl⟩ (v := .ref (a 22)) rfl dX4_line_156 rfl ?_
      refine sw_iload_n (n := 160) F 2 rfl rfl dX4_line_159 rfl ?_
      refine sw_dup2_1 (n := 161) F rfl rfl dX4_line_160 rfl ?_
      refine sw_ialoadI (n := 162) F 8 rfl (fun _ => rfl) v.toNat (by omega) (by omega) dX4_line_161 rfl ?_
      refine sw_iconst (n := 163) F (1) (by decide) dX4_line_162 rfl ?_
      refine sw_iadd (n := 164) F dX4_line_163 rfl ?_
      refine sw_iastoreI (n := 165) F 8 rfl (fun _ => rfl) v.toNat (by omega) (by omega) [tmO (xg x) o a (va_up z 8 (lnP v k q p (z 27) (Ln v.toNat) (Hb v.toNat))), aI (xg x) 0 (a 14) 3600 Td, aI (xg x) 0 (a 15) 3600 Tx, aI (xg x) 0 (a 18) 6 Tm, aI (xg x) 0 (a 16) 3600 Qt, aI (xg x) 0 (a 17) 3600 Ds, aI (xg x) 0 (a 19) 6 Dm, aI (xg x) 0 (a 20) 20 Dy, aI (xg x) 0 (a 22) 20 (va_up Ln v.toNat ((Ln v.toNat) + 1)), aI (xg x) 4 (a 24) 20 Hb, aL (xg x) (a 25) 240 (va_up Nt (12 * v.toNat + (Ln v.toNat).toNat) ((p * q) * (1000 - (toR Qt Ds (600 * k.toNat) q ((Dm k.toNat : Int).toNat))))), aI (xg x) 0 (a 26) 240 (va_up Lt (12 * v.toNat + (Ln v.toNat).toNat) (txA Td Tx Tm k.toNat (Dy v.toNat)))] (by simp [List.set]) dX4_line_164 rfl ?_
      refine sw_aload_n (n := 166) F 1 (some o) rfl rfl rfl dX4_line_165 rfl ?_
      refine sw_get (n := 169) F 0 rfl (k := 22) ⟨(RX4, TX4, 50), rfl, by decide, q3821, in_X4, Or.inl rfl⟩ (v := .ref (a 22)) rfl dX4_line_166 rfl ?_
      refine sw_iload_n (n := 170) F 2 rfl rfl dX4_line_169 rfl ?_
      refine sw_ialoadI (n := 171) F 8 rfl (fun _ => rfl) v.toNat (by omega) (by omega) dX4_line_170 rfl ?_
      rw [show (va_up Ln v.toNat ((Ln v.toNat) + 1)) v.toNat = ((Ln v.toNat) + 1) from va_up_self _ _ _]
      refine sw_iconst (n := 172) F (1) (by decide) dX4_line_171 rfl ?_
      refine sw_isub (n := 173) F dX4_line_172 rfl ?_
      have e0 : lnP v k q p (z 27) (Ln v.toNat) (Hb v.toNat) = 0 := by omega
      exact sw_iret F _ rfl (by first | rfl | exact jI_nz (by omega) | exact jI_nc (by omega)) dX4_line_173 (by rw [hPo]; exact ⟨(by rw [if0_p e0]; first | rfl | (congr 3; omega)), (by simp only [up0_p e0, up_88]; rfl)⟩)
    ·
      refine sw_iconst (n := 85) F (0) (by decide) dX4_line_84 rfl ?_
      have e0 : lnP v k q p (z 27) (Ln v.toNat) (Hb v.toNat) ≠ 0 := by omega
      exact sw_iret F _ rfl (by first | rfl | exact jI_nz (by omega) | exact jI_nc (by omega)) dX4_line_85 (by rw [hPo]; exact ⟨(by rw [if0_n e0]), (by simp only [up0_n e0, up_88])⟩)
  refine sw_aload_n (n := 2) F 0 (some o) rfl rfl rfl dX4_line_1 rfl ?_
  refine sw_iload_n (n := 3) F 1 rfl rfl dX4_line_2 rfl ?_
  refine sw_callV (n := 6) F (ct_X4_isInvoice (g := xg x) (l := xl x) o a z v hv hz27) (rcv_ob F 0 (ci := 3) rfl rfl) q4224 q4226 qs95 q120 q4227 nd_X4_isInvoice rfl (by decide) [0, 1, 2, 3, 4, 5, 6, 7, 8, 9, 10, 11] (perm_ok _ 12 (by decide +kernel) rfl) [aI (xg x) 0 (a 14) 3600 Td, aI (xg x) 0 (a 15) 3600 Tx, aI (xg x) 0 (a 18) 6 Tm, aI (xg x) 0 (a 16) 3600 Qt, aI (xg x) 0 (a 17) 3600 Ds, aI (xg x) 0 (a 19) 6 Dm, aI (xg x) 0 (a 20) 20 Dy, aI (xg x) 0 (a 22) 20 Ln, aI (xg x) 4 (a 24) 20 Hb, aL (xg x) (a 25) 240 Nt, aI (xg x) 0 (a 26) 240 Lt] rfl 0 0 ⟨by omega, by omega⟩ [.ref o] rfl (Nat.le_of_ble_eq_true rfl) dX4_line_3 rfl (fun _ _ h => h.elim) (fun v Ws h => ?_)
  obtain ⟨rfl, hs_2, rfl⟩ := h
  show SW x [tmO (xg x) o a z, aI (xg x) 0 (a 14) 3600 Td, aI (xg x) 0 (a 15) 3600 Tx, aI (xg x) 0 (a 18) 6 Tm, aI (xg x) 0 (a 16) 3600 Qt, aI (xg x) 0 (a 17) 3600 Ds, aI (xg x) 0 (a 19) 6 Dm, aI (xg x) 0 (a 20) 20 Dy, aI (xg x) 0 (a 22) 20 Ln, aI (xg x) 4 (a 24) 20 Hb, aL (xg x) (a 25) 240 Nt, aI (xg x) 0 (a 26) 240 Lt] _ _ _ _ [.int (jI (inI v 0 (z 27 - 1))), .ref o]
  refine sw_if_eq (n := 9) F (by omega) (tgt := 16) dX4_line_6 (by decide) rfl (fun c_6 => ?_) (fun c_6 => ?_)
  ·
    refine sw_iconst (n := 17) F (1) (by decide) dX4_line_16 rfl ?_
    refine sw_goto F (n := 78) dX4_line_17 (by decide) ?_
    exact K78 1 (by unfold lnP; (repeat' split) <;> omega)
  ·
    refine sw_iload_n (n := 10) F 2 rfl rfl dX4_line_9 rfl ?_
    refine sw_callS (n := 13) F (ct_X4_isKind (g := xg x) (l := xl x) k hk) q4192 q4193 q120 q4194 nd_X4_isKind rfl (by decide) [0, 1, 2, 3, 4, 5, 6, 7, 8, 9, 10, 11] (perm_ok _ 12 (by decide +kernel) rfl) [tmO (xg x) o a z, aI (xg x) 0 (a 14) 3600 Td, aI (xg x) 0 (a 15) 3600 Tx, aI (xg x) 0 (a 18) 6 Tm, aI (xg x) 0 (a 16) 3600 Qt, aI (xg x) 0 (a 17) 3600 Ds, aI (xg x) 0 (a 19) 6 Dm, aI (xg x) 0 (a 20) 20 Dy, aI (xg x) 0 (a 22) 20 Ln, aI (xg x) 4 (a 24) 20 Hb, aL (xg x) (a 25) 240 Nt, aI (xg x) 0 (a 26) 240 Lt] rfl 0 0 ⟨by omega, by omega⟩ [.ref o] rfl (Nat.le_of_ble_eq_true rfl) dX4_line_10 rfl (fun _ _ h => h.elim) (fun v Ws h => ?_)
    obtain ⟨rfl, hs_3, rfl⟩ := h
    show SW x [tmO (xg x) o a z, aI (xg x) 0 (a 14) 3600 Td, aI (xg x) 0 (a 15) 3600 Tx, aI (xg x) 0 (a 18) 6 Tm, aI (xg x) 0 (a 16) 3600 Qt, aI (xg x) 0 (a 17) 3600 Ds, aI (xg x) 0 (a 19) 6 Dm, aI (xg x) 0 (a 20) 20 Dy, aI (xg x) 0 (a 22) 20 Ln, aI (xg x) 4 (a 24) 20 Hb, aL (xg x) (a 25) 240 Nt, aI (xg x) 0 (a 26) 240 Lt] _ _ _ _ [.int (jI (inI k 0 5)), .ref o]
    refine sw_if_ne (n := 16) F (by omega) (tgt := 20) dX4_line_13 (by decide) rfl (fun c_13 => ?_) (fun c_13 => ?_)
    ·
      refine sw_iload_n (n := 21) F 3 rfl rfl dX4_line_20 rfl ?_
      refine sw_i2l (n := 22) F (by omega) dX4_line_21 rfl ?_
      refine sw_lconst (n := 23) F 1 (by decide) dX4_line_22 rfl ?_
      refine sw_ldc2 (n := 26) F (999999) q4214 (by decide) dX4_line_23 rfl ?_
      refine sw_callS (n := 29) F (ct_X4_in (g := xg x) (l := xl x) q 1 999999 (by first | omega | assumption) (by first | omega | assumption) (by first | omega | assumption)) q3963 q3964 q120 q3965 nd_X4_in rfl (by decide) [0, 1, 2, 3, 4, 5, 6, 7, 8, 9, 10, 11] (perm_ok _ 12 (by decide +kernel) rfl) [tmO (xg x) o a z, aI (xg x) 0 (a 14) 3600 Td, aI (xg x) 0 (a 15) 3600 Tx, aI (xg x) 0 (a 18) 6 Tm, aI (xg x) 0 (a 16) 3600 Qt, aI (xg x) 0 (a 17) 3600 Ds, aI (xg x) 0 (a 19) 6 Dm, aI (xg x) 0 (a 20) 20 Dy, aI (xg x) 0 (a 22) 20 Ln, aI (xg x) 4 (a 24) 20 Hb, aL (xg x) (a 25) 240 Nt, aI (xg x) 0 (a 26) 240 Lt] rfl 0 0 ⟨by omega, by omega⟩ [.ref o] rfl (Nat.le_of_ble_eq_true rfl) dX4_line_26 rfl (fun _ _ h => h.elim) (fun v Ws h => ?_)
      obtain ⟨rfl, hs_4, rfl⟩ := h
      show SW x [tmO (xg x) o a z, aI (xg x) 0 (a 14) 3600 Td, aI (xg x) 0 (a 15) 3600 Tx, aI (xg x) 0 (a 18) 6 Tm, aI (xg x) 0 (a 16) 3600 Qt, aI (xg x) 0 (a 17) 3600 Ds, aI (xg x) 0 (a 19) 6 Dm, aI (xg x) 0 (a 20) 20 Dy, aI (xg x) 0 (a 22) 20 Ln, aI (xg x) 4 (a 24) 20 Hb, aL (xg x) (a 25) 240 Nt, aI (xg x) 0 (a 26) 240 Lt] _ _ _ _ [.int (jI (inI q 1 999999)), .ref o]
      refine sw_if_eq (n := 32) F (by omega) (tgt := 45) dX4_line_29 (by decide) rfl (fun c_29 => ?_) (fun c_29 => ?_)
      ·
        refine sw_iconst (n := 46) F (2) (by decide) dX4_line_45 rfl ?_
        refine sw_goto F (n := 78) dX4_line_46 (by decide) ?_
        exact K78 2 (by unfold lnP; (repeat' split) <;> omega)
      ·
        refine sw_iload (n := 34) F 4 rfl dX4_line_32 rfl ?_
        refine sw_i2l (n := 35) F (by omega) dX4_line_34 rfl ?_
        refine sw_lconst (n := 36) F 0 (by decide) dX4_line_35 rfl ?_
        refine sw_ldc2 (n := 39) F (9999999) q4228 (by decide) dX4_line_36 rfl ?_
        refine sw_callS (n := 42) F (ct_X4_in (g := xg x) (l := xl x) p 0 9999999 (by first | omega | assumption) (by first | omega | assumption) (by first | omega | assumption)) q3963 q3964 q120 q3965 nd_X4_in rfl (by decide) [0, 1, 2, 3, 4, 5, 6, 7, 8, 9, 10, 11] (perm_ok _ 12 (by decide +kernel) rfl) [tmO (xg x) o a z, aI (xg x) 0 (a 14) 3600 Td, aI (xg x) 0 (a 15) 3600 Tx, aI (xg x) 0 (a 18) 6 Tm, aI (xg x) 0 (a 16) 3600 Qt, aI (xg x) 0 (a 17) 3600 Ds, aI (xg x) 0 (a 19) 6 Dm, aI (xg x) 0 (a 20) 20 Dy, aI (xg x) 0 (a 22) 20 Ln, aI (xg x) 4 (a 24) 20 Hb, aL (xg x) (a 25) 240 Nt, aI (xg x) 0 (a 26) 240 Lt] rfl 0 0 ⟨by omega, by omega⟩ [.ref o] rfl (Nat.le_of_ble_eq_true rfl) dX4_line_39 rfl (fun _ _ h => h.elim) (fun v Ws h => ?_)
        obtain ⟨rfl, hs_5, rfl⟩ := h
        show SW x [tmO (xg x) o a z, aI (xg x) 0 (a 14) 3600 Td, aI (xg x) 0 (a 15) 3600 Tx, aI (xg x) 0 (a 18) 6 Tm, aI (xg x) 0 (a 16) 3600 Qt, aI (xg x) 0 (a 17) 3600 Ds, aI (xg x) 0 (a 19) 6 Dm, aI (xg x) 0 (a 20) 20 Dy, aI (xg x) 0 (a 22) 20 Ln, aI (xg x) 4 (a 24) 20 Hb, aL (xg x) (a 25) 240 Nt, aI (xg x) 0 (a 26) 240 Lt] _ _ _ _ [.int (jI (inI p 0 9999999)), .ref o]
        refine sw_if_ne (n := 45) F (by omega) (tgt := 49) dX4_line_42 (by decide) rfl (fun c_42 => ?_) (fun c_42 => ?_)
        ·
          refine sw_aload_n (n := 50) F 0 (some o) rfl rfl rfl dX4_line_49 rfl ?_
          refine sw_get (n := 53) F 0 rfl (k := 24) ⟨(RX4, TX4, 50), rfl, by decide, q3823, in_X4, Or.inl rfl⟩ (v := .ref (a 24)) rfl dX4_line_50 rfl ?_
          refine sw_iload_n (n := 54) F 1 rfl rfl dX4_line_53 rfl ?_
          refine sw_zaloadI (n := 55) F 9 rfl (fun _ => rfl) ((v : Int).toNat) (by omega) (by omega) dX4_line_54 rfl ?_
          refine sw_if_eq (n := 58) F (by omega) (tgt := 62) dX4_line_55 (by decide) rfl (fun c_55 => ?_) (fun c_55 => ?_)
          ·
            refine sw_aload_n (n := 63) F 0 (some o) rfl rfl rfl dX4_line_62 rfl ?_
            refine sw_get (n := 66) F 0 rfl (k := 22) ⟨(RX4, TX4, 50), rfl, by decide, q3821, in_X4, Or.inl rfl⟩ (v := .ref (a 22)) rfl dX4_line_63 rfl ?_
            refine sw_iload_n (n := 67) F 1 rfl rfl dX4_line_66 rfl ?_
            refine sw_ialoadI (n := 68) F 8 rfl (fun _ => rfl) ((v : Int).toNat) (by omega) (by omega) dX4_line_67 rfl ?_
            refine sw_bipush (n := 70) F (12) (by decide) dX4_line_68 rfl ?_
            refine sw_icmp_ne (n := 73) F (by omega) (by decide) (tgt := 77) dX4_line_70 (by decide) rfl (fun c_70 => ?_) (fun c_70 => ?_)
            ·
              refine sw_iconst (n := 78) F (0) (by decide) dX4_line_77 rfl ?_
              exact K78 0 (by unfold lnP; (repeat' split) <;> omega)
            ·
              refine sw_iconst (n := 74) F (4) (by decide) dX4_line_73 rfl ?_
              refine sw_goto F (n := 78) dX4_line_74 (by decide) ?_
              exact K78 4 (by unfold lnP; (repeat' split) <;> omega)
          ·
            refine sw_iconst (n := 59) F (3) (by decide) dX4_line_58 rfl ?_
            refine sw_goto F (n := 78) dX4_line_59 (by decide) ?_
            exact K78 3 (by unfold lnP; (repeat' split) <;> omega)
        ·
          refine sw_iconst (n := 46) F (2) (by decide) dX4_line_45 rfl ?_
          refine sw_goto F (n := 78) dX4_line_46 (by decide) ?_
          exact K78 2 (by unfold lnP; (repeat' split) <;> omega)
    ·
      refine sw_iconst (n := 17) F (1) (by decide) dX4_line_16 rfl ?_
      refine sw_goto F (n := 78) dX4_line_17 (by decide) ?_
      exact K78 1 (by unfold lnP; (repeat' split) <;> omega)
theorem nd_X4_netOfLine : yX4_netOfLine.cls ≠ "java/lang/invoke/MethodHandle" ∧ yX4_netOfLine.cls ≠ "java/lang/invoke/VarHandle" ∧ (parseMethodDescriptor yX4_netOfLine.desc).map (fun d => d.parameters.length) = some 2 := by decide +kernel
set_option maxRecDepth 100000 in
set_option maxHeartbeats 16000000 in
theorem ct_X4_netOfLine {g : GG} {l : Launch} (o : Nat) (a : Nat → Nat) (z : Nat → Int) (D : Nat → Nat) (M : Nat → Nat) (Md : Nat → Int) (Cu : Nat → Int) (Ln : Nat → Int) (Nt : Nat → Int) (v : Int) (l9 : Int) (hA : Dok D M) (hMd : MdB Md) (hCu : BD 0 3 Cu) (hLn : BD 0 12 Ln) (hNt : BD 0 10000000000000000 Nt) (hv : -2147483648 ≤ v ∧ v ≤ 2147483647) (hl : -2147483648 ≤ l9 ∧ l9 ≤ 2147483647) (hz27 : 0 ≤ z 27 ∧ z 27 ≤ 20) : Ct g l yX4_netOfLine (ws_ yX4_netOfLine cX4_netOfLine 5 (Option.some Jvm.ClassFile.FieldType.long)) 8 176 0 0 [.ref o, .int (jI v), .int (jI l9)] [tmO g o a z, aN g 0 (a 0) 2400 D, aN g 0 (a 1) 10 M, aI g 2 (a 11) 4 Md, aI g 0 (a 21) 20 Cu, aI g 0 (a 22) 20 Ln, aL g (a 25) 240 Nt] (fun v9 Ws9 => ∃ D1 : Nat → Nat, ∃ M1 : Nat → Nat, v9 = some (.long (jL (if0 (cd2 2 (nlP v l9 (z 27) (Ln v.toNat)) (lrI (paZ Md Cu v.toNat (Nt (12 * v.toNat + l9.toNat)) 1 1000000 0) 1)) (↑(paQ Md Cu v.toNat (Nt (12 * v.toNat + l9.toNat)) 1 1000000))))) ∧ (RV [0, 1, 2, 3, 5, 6, 7, 8, 9] D M D1 M1) ∧ Ws9 = [tmO g o a (va_up (up0 (nlP v l9 (z 27) (Ln v.toNat)) z 2 (paZ Md Cu v.toNat (Nt (12 * v.toNat + l9.toNat)) 1 1000000 0)) 8 (cd2 2 (nlP v l9 (z 27) (Ln v.toNat)) (lrI (paZ Md Cu v.toNat (Nt (12 * v.toNat + l9.toNat)) 1 1000000 0) 1))), aN g 0 (a 0) 2400 D1, aN g 0 (a 1) 10 M1, aI g 2 (a 11) 4 Md, aI g 0 (a 21) 20 Cu, aI g 0 (a 22) 20 Ln, aL g (a 25) 240 Nt]) (nox) := by
  refine Ct.of (cc := cX4_netOfLine) (nL := 5) (ret := (Option.some Jvm.ClassFile.FieldType.long)) (by decide) rfl (Nat.le_of_ble_eq_true rfl) ?_
  intro x hg hl hPo hPx hmc hms F
  subst hg; subst hl
  refine SW.cast (L' := [(0, .ref o), (1, .int (jI v)), (2, .int (jI l9))]) ?_ rfl rfl rfl
  have hln := hLn v.toNat
  refine sw_aload_n (n := 1) F 0 (some o) rfl rfl rfl dX4_netOfLine_0 rfl ?_
  have K32 : ∀ (p9 : Int), (p9 = nlP v l9 (z 27) (Ln v.toNat)) → SW x [tmO (xg x) o a z, aN (xg x) 0 (a 0) 2400 D, aN (xg x) 0 (a 1) 10 M, aI (xg x) 2 (a 11) 4 Md, aI (xg x) 0 (a 21) 20 Cu, aI (xg x) 0 (a 22) 20 Ln, aL (xg x) (a 25) 240 Nt] 0 0 32 [(0, .ref o), (1, .int (jI v)), (2, .int (jI l9))] [.int (jI p9), .ref o] := by
    intro p9 hpc
    subst hpc
    have hcs := nlP_nn v l9 (z 27) (Ln v.toNat)
    refine sw_callV (n := 35) F (ct_X4_fails (g := xg x) (l := xl x) o a z (nlP v l9 (z 27) (Ln v.toNat)) (by first | omega | assumption)) (rcv_ob F 0 (ci := 3) rfl rfl) q3973 q3975 qs68 q120 q3976 nd_X4_fails rfl (by decide) [0, 1, 2, 3, 4, 5, 6] (perm_ok _ 7 (by decide +kernel) rfl) [aN (xg x) 0 (a 0) 2400 D, aN (xg x) 0 (a 1) 10 M, aI (xg x) 2 (a 11) 4 Md, aI (xg x) 0 (a 21) 20 Cu, aI (xg x) 0 (a 22) 20 Ln, aL (xg x) (a 25) 240 Nt] rfl 0 0 ⟨by omega, by omega⟩ [] rfl (Nat.le_of_ble_eq_true rfl) dX4_netOfLine_32 rfl (fun _ _ h => h.elim) (fun v Ws h => ?_)
    obtain ⟨rfl, hps_1, rfl⟩ := h
    show SW x [tmO (xg x) o a (va_up z 8 (nlP v l9 (z 27) (Ln v.toNat))), aN (xg x) 0 (a 0) 2400 D, aN (xg x) 0 (a 1) 10 M, aI (xg x) 2 (a 11) 4 Md, aI (xg x) 0 (a 21) 20 Cu, aI (xg x) 0 (a 22) 20 Ln, aL (xg x) (a 25) 240 Nt] _ _ _ _ [.int (jI (psI (nlP v l9 (z 27) (Ln v.toNat))))]
    refine sw_if_eq (n := 38) F (by omega) (tgt := 40) dX4_netOfLine_35 (by decide) rfl (fun c_35 => ?_) (fun c_35 => ?_)
    ·
      have e0 : nlP v l9 (z 27) (Ln v.toNat) = 0 := by omega
      obtain hz0 := nlP_0 v l9 (z 27) (Ln v.toNat) e0
      have rg0 : 0 ≤ v ∧ v ≤ 19 := by omega
      have rg1 : 0 ≤ l9 ∧ l9 ≤ 11 := by omega
      clear hz0 hcs c_35 hps_1
      refine SW.cast (L' := [(0, .ref o), (1, .int (jI (↑(v.toNat)))), (2, .int (jI (↑(l9.toNat))))]) ?_ rfl (by rw [Int.toNat_of_nonneg (show 0 ≤ v by omega), Int.toNat_of_nonneg (show 0 ≤ l9 by omega)]) rfl
      have hnt := hNt (12 * v.toNat + l9.toNat)
      refine sw_aload_n (n := 41) F 0 (some o) rfl rfl rfl dX4_netOfLine_40 rfl ?_
      refine sw_iconst (n := 42) F (0) (by decide) dX4_netOfLine_41 rfl ?_
      refine sw_put (n := 45) F 0 rfl (k := 2) ⟨(RX4, TX4, 50), rfl, by decide, q3801, in_X4, Or.inl rfl⟩ .boolean ⟨(RX4, TX4, 50), rfl, rfl, tyX4_ok 2 (by decide), nmX4, tyX4, tyX4_ok⟩ (jI_nz (by first | decide | omega)) (jI_fz (by first | decide | omega)) (Nat.le_of_ble_eq_true rfl) (fs' := tmF a (va_up (va_up z 2 0) 8 (nlP v l9 (z 27) (Ln v.toNat)))) rfl [tmO (xg x) o a (va_up (va_up z 2 0) 8 (nlP v l9 (z 27) (Ln v.toNat))), aN (xg x) 0 (a 0) 2400 D, aN (xg x) 0 (a 1) 10 M, aI (xg x) 2 (a 11) 4 Md, aI (xg x) 0 (a 21) 20 Cu, aI (xg x) 0 (a 22) 20 Ln, aL (xg x) (a 25) 240 Nt] rfl dX4_netOfLine_42 rfl ?_
      refine sw_aload_n (n := 46) F 0 (some o) rfl rfl rfl dX4_netOfLine_45 rfl ?_
      refine sw_aload_n (n := 47) F 0 (some o) rfl rfl rfl dX4_netOfLine_46 rfl ?_
      refine sw_get (n := 50) F 0 rfl (k := 25) ⟨(RX4, TX4, 50), rfl, by decide, q3824, in_X4, Or.inl rfl⟩ (v := .ref (a 25)) rfl dX4_netOfLine_47 rfl ?_
      refine sw_bipush (n := 52) F (12) (by decide) dX4_netOfLine_50 rfl ?_
      refine sw_iload_n (n := 53) F 1 rfl rfl dX4_netOfLine_52 rfl ?_
      refine sw_imul (n := 54) F dX4_netOfLine_53 rfl ?_
      refine sw_iload_n (n := 55) F 2 rfl rfl dX4_netOfLine_54 rfl ?_
      refine sw_iadd (n := 56) F dX4_netOfLine_55 rfl ?_
      refine sw_laloadL (n := 57) F 6 rfl (fun _ => rfl) ((12 * ((v.toNat))) + ((l9.toNat))) (by omega) (by omega) dX4_netOfLine_56 rfl ?_
      refine sw_iload_n (n := 58) F 1 rfl rfl dX4_netOfLine_57 rfl ?_
      refine sw_callV (n := 61) F (ct_X4_roundedNet (g := xg x) (l := xl x) o a (va_up (va_up z 2 0) 8 (nlP v l9 (z 27) (Ln v.toNat))) D M Md Cu (Nt ((12 * ((v.toNat))) + ((l9.toNat)))) v.toNat hA hMd hCu (by first | omega | assumption) (by first | omega | assumption) (by exact Or.inl rfl)) (rcv_ob F 0 (ci := 3) rfl rfl) q4233 q4235 qs96 q120 q4236 nd_X4_roundedNet rfl (by decide) [0, 1, 2, 3, 4, 5, 6] (perm_ok _ 7 (by decide +kernel) rfl) [aI (xg x) 0 (a 22) 20 Ln, aL (xg x) (a 25) 240 Nt] rfl 0 0 ⟨by omega, by omega⟩ [] rfl (Nat.le_of_ble_eq_true rfl) dX4_netOfLine_58 rfl (fun _ _ h => h.elim) (fun v Ws h => ?_)
      obtain ⟨D1_2, M1_3, rfl, hV_4, rfl⟩ := h
      show SW x [tmO (xg x) o a (va_up (va_up (va_up z 2 0) 8 (nlP v l9 (z 27) (Ln v.toNat))) 2 (paZ Md Cu v.toNat (Nt ((12 * ((v.toNat))) + ((l9.toNat)))) 1 1000000 (0))), aN (xg x) 0 (a 0) 2400 D1_2, aN (xg x) 0 (a 1) 10 M1_3, aI (xg x) 2 (a 11) 4 Md, aI (xg x) 0 (a 21) 20 Cu, aI (xg x) 0 (a 22) 20 Ln, aL (xg x) (a 25) 240 Nt] _ _ _ _ [.long (jL (↑(paQ Md Cu v.toNat (Nt ((12 * ((v.toNat))) + ((l9.toNat)))) 1 1000000)))]
      have a_5 := hV_4.1
      refine sw_lstore_n (n := 62) F (L2 := [(3, .long (jL (↑(paQ Md Cu v.toNat (Nt ((12 * ((v.toNat))) + ((l9.toNat)))) 1 1000000)))), (0, .ref o), (1, .int (jI (↑(v.toNat)))), (2, .int (jI (↑(l9.toNat))))]) rfl (by decide) rfl dX4_netOfLine_61 rfl ?_
      have hr1 : paZ Md Cu v.toNat (Nt (12 * v.toNat + l9.toNat)) 1 1000000 0 = 0 ∨ paZ Md Cu v.toNat (Nt (12 * v.toNat + l9.toNat)) 1 1000000 0 = 1 := paZ_01 (Or.inl rfl)
      refine sw_aload_n (n := 63) F 1 (some o) rfl rfl rfl dX4_netOfLine_62 rfl ?_
      refine sw_aload_n (n := 64) F 1 (some o) rfl rfl rfl dX4_netOfLine_63 rfl ?_
      refine sw_get (n := 67) F 0 rfl (k := 2) ⟨(RX4, TX4, 50), rfl, by decide, q3801, in_X4, Or.inl rfl⟩ (v := .int (jI (paZ Md Cu v.toNat (Nt ((12 * ((v.toNat))) + ((l9.toNat)))) 1 1000000 (0)))) rfl dX4_netOfLine_64 rfl ?_
      refine sw_if_eq (n := 70) F (by omega) (tgt := 74) dX4_netOfLine_67 (by decide) rfl (fun c_67 => ?_) (fun c_67 => ?_)
      ·
        refine sw_iconst (n := 75) F (0) (by decide) dX4_netOfLine_74 rfl ?_
        refine sw_callV (n := 78) F (ct_X4_fails (g := xg x) (l := xl x) o a (va_up (va_up (va_up z 2 0) 8 (nlP v l9 (z 27) (Ln v.toNat))) 2 (paZ Md Cu v.toNat (Nt ((12 * ((v.toNat))) + ((l9.toNat)))) 1 1000000 (0))) 0 (by first | omega | assumption)) (rcv_ob F 0 (ci := 3) rfl rfl) q3973 q3975 qs68 q120 q3976 nd_X4_fails rfl (by decide) [0, 1, 2, 3, 4, 5, 6] (perm_ok _ 7 (by decide +kernel) rfl) [aN (xg x) 0 (a 0) 2400 D1_2, aN (xg x) 0 (a 1) 10 M1_3, aI (xg x) 2 (a 11) 4 Md, aI (xg x) 0 (a 21) 20 Cu, aI (xg x) 0 (a 22) 20 Ln, aL (xg x) (a 25) 240 Nt] rfl 0 0 ⟨by omega, by omega⟩ [] rfl (Nat.le_of_ble_eq_true rfl) dX4_netOfLine_75 rfl (fun _ _ h => h.elim) (fun v Ws h => ?_)
        obtain ⟨rfl, hps_6, rfl⟩ := h
        show SW x [tmO (xg x) o a (va_up (va_up (va_up (va_up z 2 0) 8 (nlP v l9 (z 27) (Ln v.toNat))) 2 (paZ Md Cu v.toNat (Nt ((12 * ((v.toNat))) + ((l9.toNat)))) 1 1000000 (0))) 8 0), aN (xg x) 0 (a 0) 2400 D1_2, aN (xg x) 0 (a 1) 10 M1_3, aI (xg x) 2 (a 11) 4 Md, aI (xg x) 0 (a 21) 20 Cu, aI (xg x) 0 (a 22) 20 Ln, aL (xg x) (a 25) 240 Nt] _ _ _ _ [.int (jI 0)]
        refine sw_if_eq (n := 81) F (by decide) (tgt := 85) dX4_netOfLine_78 (by decide) rfl (fun c_78 => ?_) (fun c_78 => ?_)
        ·
          refine sw_lload_n (n := 86) F 0 rfl rfl dX4_netOfLine_85 rfl ?_
          have e0 : nlP v l9 (z 27) (Ln v.toNat) = 0 := by omega
          have e : cd2 2 (nlP v l9 (z 27) (Ln v.toNat)) (lrI (paZ Md Cu v.toNat (Nt (12 * v.toNat + l9.toNat)) 1 1000000 0) 1) = 0 := cd2_lt e0 (by omega)
          exact sw_lret F rfl dX4_netOfLine_86 (by rw [hPo]; exact ⟨D1_2, M1_3, (by rw [e]; rfl), (by exact hV_4.mono (by simp)), (by rw [e]; simp only [up0_p e0, up_828, up_88, up_upI])⟩)
        · exfalso; exact absurd c_78 (by decide)
      ·
        refine sw_iconst (n := 71) F (2) (by decide) dX4_netOfLine_70 rfl ?_
        refine sw_goto F (n := 75) dX4_netOfLine_71 (by decide) ?_
        refine sw_callV (n := 78) F (ct_X4_fails (g := xg x) (l := xl x) o a (va_up (va_up (va_up z 2 0) 8 (nlP v l9 (z 27) (Ln v.toNat))) 2 (paZ Md Cu v.toNat (Nt ((12 * ((v.toNat))) + ((l9.toNat)))) 1 1000000 (0))) 2 (by first | omega | assumption)) (rcv_ob F 0 (ci := 3) rfl rfl) q3973 q3975 qs68 q120 q3976 nd_X4_fails rfl (by decide) [0, 1, 2, 3, 4, 5, 6] (perm_ok _ 7 (by decide +kernel) rfl) [aN (xg x) 0 (a 0) 2400 D1_2, aN (xg x) 0 (a 1) 10 M1_3, aI (xg x) 2 (a 11) 4 Md, aI (xg x) 0 (a 21) 20 Cu, aI (xg x) 0 (a 22) 20 Ln, aL (xg x) (a 25) 240 Nt] rfl 0 0 ⟨by omega, by omega⟩ [] rfl (Nat.le_of_ble_eq_true rfl) dX4_netOfLine_75 rfl (fun _ _ h => h.elim) (fun v Ws h => ?_)
        obtain ⟨rfl, hps_7, rfl⟩ := h
        show SW x [tmO (xg x) o a (va_up (va_up (va_up (va_up z 2 0) 8 (nlP v l9 (z 27) (Ln v.toNat))) 2 (paZ Md Cu v.toNat (Nt ((12 * ((v.toNat))) + ((l9.toNat)))) 1 1000000 (0))) 8 2), aN (xg x) 0 (a 0) 2400 D1_2, aN (xg x) 0 (a 1) 10 M1_3, aI (xg x) 2 (a 11) 4 Md, aI (xg x) 0 (a 21) 20 Cu, aI (xg x) 0 (a 22) 20 Ln, aL (xg x) (a 25) 240 Nt] _ _ _ _ [.int (jI 1)]
        refine sw_if_eq (n := 81) F (by decide) (tgt := 85) dX4_netOfLine_78 (by decide) rfl (fun c_78 => ?_) (fun c_78 => ?_)
        · exfalso; exact absurd c_78 (by decide)
        ·
          refine sw_lconst (n := 82) F 0 (by decide) dX4_netOfLine_81 rfl ?_
          refine sw_goto F (n := 86) dX4_netOfLine_82 (by decide) ?_
          have e0 : nlP v l9 (z 27) (Ln v.toNat) = 0 := by omega
          have e : cd2 2 (nlP v l9 (z 27) (Ln v.toNat)) (lrI (paZ Md Cu v.toNat (Nt (12 * v.toNat + l9.toNat)) 1 1000000 0) 1) = 2 := cd2_r e0 (by omega)
          exact sw_lret F rfl dX4_netOfLine_86 (by rw [hPo]; exact ⟨D1_2, M1_3, (by rw [e]; rfl), (by exact hV_4.mono (by simp)), (by rw [e]; simp only [up0_p e0, up_828, up_88, up_upI])⟩)
    ·
      refine sw_lconst (n := 39) F 0 (by decide) dX4_netOfLine_38 rfl ?_
      have e0 : nlP v l9 (z 27) (Ln v.toNat) ≠ 0 := by omega
      have e : cd2 2 (nlP v l9 (z 27) (Ln v.toNat)) (lrI (paZ Md Cu v.toNat (Nt (12 * v.toNat + l9.toNat)) 1 1000000 0) 1) = nlP v l9 (z 27) (Ln v.toNat) := cd2_n e0
      exact sw_lret F rfl dX4_netOfLine_39 (by rw [hPo]; exact ⟨D, M, (by first | rw [e, if0_n e0] | (rw [e]; exact congrArg _ (congrArg _ (if0_n e0)))), (by exact (RV.rf hA).mono (S := []) (by simp)), (by rw [e]; simp only [up0_n e0, up_828, up_88, up_upI])⟩)
  refine sw_aload_n (n := 2) F 0 (some o) rfl rfl rfl dX4_netOfLine_1 rfl ?_
  refine sw_iload_n (n := 3) F 1 rfl rfl dX4_netOfLine_2 rfl ?_
  refine sw_callV (n := 6) F (ct_X4_isInvoice (g := xg x) (l := xl x) o a z v hv hz27) (rcv_ob F 0 (ci := 3) rfl rfl) q4224 q4226 qs95 q120 q4227 nd_X4_isInvoice rfl (by decide) [0, 1, 2, 3, 4, 5, 6] (perm_ok _ 7 (by decide +kernel) rfl) [aN (xg x) 0 (a 0) 2400 D, aN (xg x) 0 (a 1) 10 M, aI (xg x) 2 (a 11) 4 Md, aI (xg x) 0 (a 21) 20 Cu, aI (xg x) 0 (a 22) 20 Ln, aL (xg x) (a 25) 240 Nt] rfl 0 0 ⟨by omega, by omega⟩ [.ref o] rfl (Nat.le_of_ble_eq_true rfl) dX4_netOfLine_3 rfl (fun _ _ h => h.elim) (fun v Ws h => ?_)
  obtain ⟨rfl, hs_8, rfl⟩ := h
  show SW x [tmO (xg x) o a z, aN (xg x) 0 (a 0) 2400 D, aN (xg x) 0 (a 1) 10 M, aI (xg x) 2 (a 11) 4 Md, aI (xg x) 0 (a 21) 20 Cu, aI (xg x) 0 (a 22) 20 Ln, aL (xg x) (a 25) 240 Nt] _ _ _ _ [.int (jI (inI v 0 (z 27 - 1))), .ref o]
  refine sw_if_eq (n := 9) F (by omega) (tgt := 27) dX4_netOfLine_6 (by decide) rfl (fun c_6 => ?_) (fun c_6 => ?_)
  ·
    refine sw_iconst (n := 28) F (1) (by decide) dX4_netOfLine_27 rfl ?_
    refine sw_goto F (n := 32) dX4_netOfLine_28 (by decide) ?_
    exact K32 1 (by unfold nlP; (repeat' split) <;> omega)
  ·
    refine sw_iload_n (n := 10) F 2 rfl rfl dX4_netOfLine_9 rfl ?_
    refine sw_i2l (n := 11) F (by omega) dX4_netOfLine_10 rfl ?_
    refine sw_lconst (n := 12) F 0 (by decide) dX4_netOfLine_11 rfl ?_
    refine sw_aload_n (n := 13) F 0 (some o) rfl rfl rfl dX4_netOfLine_12 rfl ?_
    refine sw_get (n := 16) F 0 rfl (k := 22) ⟨(RX4, TX4, 50), rfl, by decide, q3821, in_X4, Or.inl rfl⟩ (v := .ref (a 22)) rfl dX4_netOfLine_13 rfl ?_
    refine sw_iload_n (n := 17) F 1 rfl rfl dX4_netOfLine_16 rfl ?_
    refine sw_ialoadI (n := 18) F 5 rfl (fun _ => rfl) ((v : Int).toNat) (by omega) (by omega) dX4_netOfLine_17 rfl ?_
    refine sw_iconst (n := 19) F (1) (by decide) dX4_netOfLine_18 rfl ?_
    refine sw_isub (n := 20) F dX4_netOfLine_19 rfl ?_
    refine sw_i2l (n := 21) F (by omega) dX4_netOfLine_20 rfl ?_
    refine sw_callS (n := 24) F (ct_X4_in (g := xg x) (l := xl x) l9 0 ((Ln ((v : Int).toNat)) - 1) (by first | omega | assumption) (by first | omega | assumption) (by first | omega | assumption)) q3963 q3964 q120 q3965 nd_X4_in rfl (by decide) [0, 1, 2, 3, 4, 5, 6] (perm_ok _ 7 (by decide +kernel) rfl) [tmO (xg x) o a z, aN (xg x) 0 (a 0) 2400 D, aN (xg x) 0 (a 1) 10 M, aI (xg x) 2 (a 11) 4 Md, aI (xg x) 0 (a 21) 20 Cu, aI (xg x) 0 (a 22) 20 Ln, aL (xg x) (a 25) 240 Nt] rfl 0 0 ⟨by omega, by omega⟩ [.ref o] rfl (Nat.le_of_ble_eq_true rfl) dX4_netOfLine_21 rfl (fun _ _ h => h.elim) (fun v Ws h => ?_)
    obtain ⟨rfl, hs_9, rfl⟩ := h
    show SW x [tmO (xg x) o a z, aN (xg x) 0 (a 0) 2400 D, aN (xg x) 0 (a 1) 10 M, aI (xg x) 2 (a 11) 4 Md, aI (xg x) 0 (a 21) 20 Cu, aI (xg x) 0 (a 22) 20 Ln, aL (xg x) (a 25) 240 Nt] _ _ _ _ [.int (jI (inI l9 0 ((Ln ((v : Int).toNat)) - 1))), .ref o]
    refine sw_if_ne (n := 27) F (by omega) (tgt := 31) dX4_netOfLine_24 (by decide) rfl (fun c_24 => ?_) (fun c_24 => ?_)
    ·
      refine sw_iconst (n := 32) F (0) (by decide) dX4_netOfLine_31 rfl ?_
      exact K32 0 (by unfold nlP; (repeat' split) <;> omega)
    ·
      refine sw_iconst (n := 28) F (1) (by decide) dX4_netOfLine_27 rfl ?_
      refine sw_goto F (n := 32) dX4_netOfLine_28 (by decide) ?_
      exact K32 1 (by unfold nlP; (repeat' split) <;> omega)
theorem nd_X4_net : yX4_net.cls ≠ "java/lang/invoke/MethodHandle" ∧ yX4_net.cls ≠ "java/lang/invoke/VarHandle" ∧ (parseMethodDescriptor yX4_net.desc).map (fun d => d.parameters.length) = some 1 := by decide +kernel
set_option maxRecDepth 100000 in
set_option maxHeartbeats 16000000 in
theorem ct_X4_net {g : GG} {l : Launch} (o : Nat) (a : Nat → Nat) (z : Nat → Int) (D : Nat → Nat) (M : Nat → Nat) (Md : Nat → Int) (Cu : Nat → Int) (Ln : Nat → Int) (Bl : Nat → Int) (Nt : Nat → Int) (v : Int) (hA : Dok D M) (hMd : MdB Md) (hCu : BD 0 3 Cu) (hLn : BD 0 12 Ln) (hBl : HB Bl) (hNt : BD 0 10000000000000000 Nt) (hv : -2147483648 ≤ v ∧ v ≤ 2147483647) (hz27 : 0 ≤ z 27 ∧ z 27 ≤ 20) : Ct g l yX4_net (ws_ yX4_net cX4_net 4 (Option.some Jvm.ClassFile.FieldType.long)) 9 202 0 0 [.ref o, .int (jI v)] [tmO g o a z, aN g 0 (a 0) 2400 D, aN g 0 (a 1) 10 M, aI g 2 (a 11) 4 Md, aI g 0 (a 21) 20 Cu, aI g 0 (a 22) 20 Ln, aI g 4 (a 23) 20 Bl, aL g (a 25) 240 Nt] (fun v9 Ws9 => ∃ D1 : Nat → Nat, ∃ M1 : Nat → Nat, v9 = some (.long (jL (if0 (cd2 2 (ivP v (z 27)) (lrI (ntZ Md Cu Nt v.toNat (Bl v.toNat) 0 (Ln v.toNat).toNat) 1)) (ntV Md Cu Nt v.toNat (Bl v.toNat) (Ln v.toNat).toNat)))) ∧ (RV [0, 1, 2, 3, 5, 6, 7, 8, 9] D M D1 M1) ∧ Ws9 = [tmO g o a (va_up (up0 (ivP v (z 27)) z 2 (ntZ Md Cu Nt v.toNat (Bl v.toNat) 0 (Ln v.toNat).toNat)) 8 (cd2 2 (ivP v (z 27)) (lrI (ntZ Md Cu Nt v.toNat (Bl v.toNat) 0 (Ln v.toNat).toNat) 1))), aN g 0 (a 0) 2400 D1, aN g 0 (a 1) 10 M1, aI g 2 (a 11) 4 Md, aI g 0 (a 21) 20 Cu, aI g 0 (a 22) 20 Ln, aI g 4 (a 23) 20 Bl, aL g (a 25) 240 Nt]) (nox) := by
  refine Ct.of (cc := cX4_net) (nL := 4) (ret := (Option.some Jvm.ClassFile.FieldType.long)) (by decide) rfl (Nat.le_of_ble_eq_true rfl) ?_
  intro x hg hl hPo hPx hmc hms F
  subst hg; subst hl
  refine SW.cast (L' := [(0, .ref o), (1, .int (jI v))]) ?_ rfl rfl rfl
  refine sw_aload_n (n := 1) F 0 (some o) rfl rfl rfl dX4_net_0 rfl ?_
  have K14 : ∀ (p9 : Int), (p9 = ivP v (z 27)) → SW x [tmO (xg x) o a z, aN (xg x) 0 (a 0) 2400 D, aN (xg x) 0 (a 1) 10 M, aI (xg x) 2 (a 11) 4 Md, aI (xg x) 0 (a 21) 20 Cu, aI (xg x) 0 (a 22) 20 Ln, aI (xg x) 4 (a 23) 20 Bl, aL (xg x) (a 25) 240 Nt] 0 0 14 [(0, .ref o), (1, .int (jI v))] [.int (jI p9), .ref o] := by
    intro p9 hpc
    subst hpc
    have hcs := ivP_nn v (z 27)
    refine sw_callV (n := 17) F (ct_X4_fails (g := xg x) (l := xl x) o a z (ivP v (z 27)) (by first | omega | assumption)) (rcv_ob F 0 (ci := 3) rfl rfl) q3973 q3975 qs68 q120 q3976 nd_X4_fails rfl (by decide) [0, 1, 2, 3, 4, 5, 6, 7] (perm_ok _ 8 (by decide +kernel) rfl) [aN (xg x) 0 (a 0) 2400 D, aN (xg x) 0 (a 1) 10 M, aI (xg x) 2 (a 11) 4 Md, aI (xg x) 0 (a 21) 20 Cu, aI (xg x) 0 (a 22) 20 Ln, aI (xg x) 4 (a 23) 20 Bl, aL (xg x) (a 25) 240 Nt] rfl 0 0 ⟨by omega, by omega⟩ [] rfl (Nat.le_of_ble_eq_true rfl) dX4_net_14 rfl (fun _ _ h => h.elim) (fun v Ws h => ?_)
    obtain ⟨rfl, hps_1, rfl⟩ := h
    show SW x [tmO (xg x) o a (va_up z 8 (ivP v (z 27))), aN (xg x) 0 (a 0) 2400 D, aN (xg x) 0 (a 1) 10 M, aI (xg x) 2 (a 11) 4 Md, aI (xg x) 0 (a 21) 20 Cu, aI (xg x) 0 (a 22) 20 Ln, aI (xg x) 4 (a 23) 20 Bl, aL (xg x) (a 25) 240 Nt] _ _ _ _ [.int (jI (psI (ivP v (z 27))))]
    refine sw_if_eq (n := 20) F (by omega) (tgt := 22) dX4_net_17 (by decide) rfl (fun c_17 => ?_) (fun c_17 => ?_)
    ·
      have e0 : ivP v (z 27) = 0 := by omega
      obtain hz0 := ivP_0 v (z 27) e0
      have rg0 : 0 ≤ v ∧ v ≤ 19 := by omega
      clear hz0 hcs c_17 hps_1
      refine SW.cast (L' := [(0, .ref o), (1, .int (jI (↑(v.toNat))))]) ?_ rfl (by rw [Int.toNat_of_nonneg (show 0 ≤ v by omega)]) rfl
      refine sw_aload_n (n := 23) F 0 (some o) rfl rfl rfl dX4_net_22 rfl ?_
      refine sw_iconst (n := 24) F (0) (by decide) dX4_net_23 rfl ?_
      refine sw_put (n := 27) F 0 rfl (k := 2) ⟨(RX4, TX4, 50), rfl, by decide, q3801, in_X4, Or.inl rfl⟩ .boolean ⟨(RX4, TX4, 50), rfl, rfl, tyX4_ok 2 (by decide), nmX4, tyX4, tyX4_ok⟩ (jI_nz (by first | decide | omega)) (jI_fz (by first | decide | omega)) (Nat.le_of_ble_eq_true rfl) (fs' := tmF a (va_up (va_up z 2 0) 8 (ivP v (z 27)))) rfl [tmO (xg x) o a (va_up (va_up z 2 0) 8 (ivP v (z 27))), aN (xg x) 0 (a 0) 2400 D, aN (xg x) 0 (a 1) 10 M, aI (xg x) 2 (a 11) 4 Md, aI (xg x) 0 (a 21) 20 Cu, aI (xg x) 0 (a 22) 20 Ln, aI (xg x) 4 (a 23) 20 Bl, aL (xg x) (a 25) 240 Nt] rfl dX4_net_24 rfl ?_
      refine sw_aload_n (n := 28) F 0 (some o) rfl rfl rfl dX4_net_27 rfl ?_
      refine sw_iload_n (n := 29) F 1 rfl rfl dX4_net_28 rfl ?_
      refine sw_callV (n := 32) F (ct_X4_netOf (g := xg x) (l := xl x) o a (va_up (va_up z 2 0) 8 (ivP v (z 27))) D M Md Cu Ln Bl Nt v.toNat hA hMd hCu hLn hBl hNt (by first | omega | assumption) (by first | exact Or.inl rfl | exact ntZ_01 (Or.inl rfl))) (rcv_ob F 0 (ci := 3) rfl rfl) q4246 q4248 qs98 q120 q4249 nd_X4_netOf rfl (by decide) [0, 1, 2, 3, 4, 5, 6, 7] (perm_ok _ 8 (by decide +kernel) rfl) [] rfl 0 0 ⟨by omega, by omega⟩ [] rfl (Nat.le_of_ble_eq_true rfl) dX4_net_29 rfl (fun _ _ h => h.elim) (fun v Ws h => ?_)
      obtain ⟨D1_2, M1_3, rfl, hV_4, rfl⟩ := h
      show SW x [tmO (xg x) o a (va_up (va_up (va_up z 2 0) 8 (ivP v (z 27))) 2 (ntZ Md Cu Nt v.toNat (Bl v.toNat) (0) (Ln v.toNat).toNat)), aN (xg x) 0 (a 0) 2400 D1_2, aN (xg x) 0 (a 1) 10 M1_3, aI (xg x) 2 (a 11) 4 Md, aI (xg x) 0 (a 21) 20 Cu, aI (xg x) 0 (a 22) 20 Ln, aI (xg x) 4 (a 23) 20 Bl, aL (xg x) (a 25) 240 Nt] _ _ _ _ [.long (jL (ntV Md Cu Nt v.toNat (Bl v.toNat) (Ln v.toNat).toNat))]
      have a_5 := hV_4.1
      refine sw_lstore_n (n := 33) F (L2 := [(2, .long (jL (ntV Md Cu Nt v.toNat (Bl v.toNat) (Ln v.toNat).toNat))), (0, .ref o), (1, .int (jI (↑(v.toNat))))]) rfl (by decide) rfl dX4_net_32 rfl ?_
      have hr1 : ntZ Md Cu Nt v.toNat (Bl v.toNat) 0 (Ln v.toNat).toNat = 0 ∨ ntZ Md Cu Nt v.toNat (Bl v.toNat) 0 (Ln v.toNat).toNat = 1 := ntZ_01 (Or.inl rfl)
      refine sw_aload_n (n := 34) F 1 (some o) rfl rfl rfl dX4_net_33 rfl ?_
      refine sw_aload_n (n := 35) F 1 (some o) rfl rfl rfl dX4_net_34 rfl ?_
      refine sw_get (n := 38) F 0 rfl (k := 2) ⟨(RX4, TX4, 50), rfl, by decide, q3801, in_X4, Or.inl rfl⟩ (v := .int (jI (ntZ Md Cu Nt v.toNat (Bl v.toNat) (0) (Ln v.toNat).toNat))) rfl dX4_net_35 rfl ?_
      refine sw_if_eq (n := 41) F (by omega) (tgt := 45) dX4_net_38 (by decide) rfl (fun c_38 => ?_) (fun c_38 => ?_)
      ·
        refine sw_iconst (n := 46) F (0) (by decide) dX4_net_45 rfl ?_
        refine sw_callV (n := 49) F (ct_X4_fails (g := xg x) (l := xl x) o a (va_up (va_up (va_up z 2 0) 8 (ivP v (z 27))) 2 (ntZ Md Cu Nt v.toNat (Bl v.toNat) (0) (Ln v.toNat).toNat)) 0 (by first | omega | assumption)) (rcv_ob F 0 (ci := 3) rfl rfl) q3973 q3975 qs68 q120 q3976 nd_X4_fails rfl (by decide) [0, 1, 2, 3, 4, 5, 6, 7] (perm_ok _ 8 (by decide +kernel) rfl) [aN (xg x) 0 (a 0) 2400 D1_2, aN (xg x) 0 (a 1) 10 M1_3, aI (xg x) 2 (a 11) 4 Md, aI (xg x) 0 (a 21) 20 Cu, aI (xg x) 0 (a 22) 20 Ln, aI (xg x) 4 (a 23) 20 Bl, aL (xg x) (a 25) 240 Nt] rfl 0 0 ⟨by omega, by omega⟩ [] rfl (Nat.le_of_ble_eq_true rfl) dX4_net_46 rfl (fun _ _ h => h.elim) (fun v Ws h => ?_)
        obtain ⟨rfl, hps_6, rfl⟩ := h
        show SW x [tmO (xg x) o a (va_up (va_up (va_up (va_up z 2 0) 8 (ivP v (z 27))) 2 (ntZ Md Cu Nt v.toNat (Bl v.toNat) (0) (Ln v.toNat).toNat)) 8 0), aN (xg x) 0 (a 0) 2400 D1_2, aN (xg x) 0 (a 1) 10 M1_3, aI (xg x) 2 (a 11) 4 Md, aI (xg x) 0 (a 21) 20 Cu, aI (xg x) 0 (a 22) 20 Ln, aI (xg x) 4 (a 23) 20 Bl, aL (xg x) (a 25) 240 Nt] _ _ _ _ [.int (jI 0)]
        refine sw_if_eq (n := 52) F (by decide) (tgt := 56) dX4_net_49 (by decide) rfl (fun c_49 => ?_) (fun c_49 => ?_)
        ·
          refine sw_lload_n (n := 57) F 0 rfl rfl dX4_net_56 rfl ?_
          have e0 : ivP v (z 27) = 0 := by omega
          have e : cd2 2 (ivP v (z 27)) (lrI (ntZ Md Cu Nt v.toNat (Bl v.toNat) 0 (Ln v.toNat).toNat) 1) = 0 := cd2_lt e0 (by omega)
          exact sw_lret F rfl dX4_net_57 (by rw [hPo]; exact ⟨D1_2, M1_3, (by rw [e]; rfl), (by exact hV_4.mono (by simp)), (by rw [e]; simp only [up0_p e0, up_828, up_88, up_upI])⟩)
        · exfalso; exact absurd c_49 (by decide)
      ·
        refine sw_iconst (n := 42) F (2) (by decide) dX4_net_41 rfl ?_
        refine sw_goto F (n := 46) dX4_net_42 (by decide) ?_
        refine sw_callV (n := 49) F (ct_X4_fails (g := xg x) (l := xl x) o a (va_up (va_up (va_up z 2 0) 8 (ivP v (z 27))) 2 (ntZ Md Cu Nt v.toNat (Bl v.toNat) (0) (Ln v.toNat).toNat)) 2 (by first | omega | assumption)) (rcv_ob F 0 (ci := 3) rfl rfl) q3973 q3975 qs68 q120 q3976 nd_X4_fails rfl (by decide) [0, 1, 2, 3, 4, 5, 6, 7] (perm_ok _ 8 (by decide +kernel) rfl) [aN (xg x) 0 (a 0) 2400 D1_2, aN (xg x) 0 (a 1) 10 M1_3, aI (xg x) 2 (a 11) 4 Md, aI (xg x) 0 (a 21) 20 Cu, aI (xg x) 0 (a 22) 20 Ln, aI (xg x) 4 (a 23) 20 Bl, aL (xg x) (a 25) 240 Nt] rfl 0 0 ⟨by omega, by omega⟩ [] rfl (Nat.le_of_ble_eq_true rfl) dX4_net_46 rfl (fun _ _ h => h.elim) (fun v Ws h => ?_)
        obtain ⟨rfl, hps_7, rfl⟩ := h
        show SW x [tmO (xg x) o a (va_up (va_up (va_up (va_up z 2 0) 8 (ivP v (z 27))) 2 (ntZ Md Cu Nt v.toNat (Bl v.toNat) (0) (Ln v.toNat).toNat)) 8 2), aN (xg x) 0 (a 0) 2400 D1_2, aN (xg x) 0 (a 1) 10 M1_3, aI (xg x) 2 (a 11) 4 Md, aI (xg x) 0 (a 21) 20 Cu, aI (xg x) 0 (a 22) 20 Ln, aI (xg x) 4 (a 23) 20 Bl, aL (xg x) (a 25) 240 Nt] _ _ _ _ [.int (jI 1)]
        refine sw_if_eq (n := 52) F (by decide) (tgt := 56) dX4_net_49 (by decide) rfl (fun c_49 => ?_) (fun c_49 => ?_)
        · exfalso; exact absurd c_49 (by decide)
        ·
          refine sw_lconst (n := 53) F 0 (by decide) dX4_net_52 rfl ?_
          refine sw_goto F (n := 57) dX4_net_53 (by decide) ?_
          have e0 : ivP v (z 27) = 0 := by omega
          have e : cd2 2 (ivP v (z 27)) (lrI (ntZ Md Cu Nt v.toNat (Bl v.toNat) 0 (Ln v.toNat).toNat) 1) = 2 := cd2_r e0 (by omega)
          exact sw_lret F rfl dX4_net_57 (by rw [hPo]; exact ⟨D1_2, M1_3, (by rw [e]; rfl), (by exact hV_4.mono (by simp)), (by rw [e]; simp only [up0_p e0, up_828, up_88, up_upI])⟩)
    ·
      refine sw_lconst (n := 21) F 0 (by decide) dX4_net_20 rfl ?_
      have e0 : ivP v (z 27) ≠ 0 := by omega
      have e : cd2 2 (ivP v (z 27)) (lrI (ntZ Md Cu Nt v.toNat (Bl v.toNat) 0 (Ln v.toNat).toNat) 1) = ivP v (z 27) := cd2_n e0
      exact sw_lret F rfl dX4_net_21 (by rw [hPo]; exact ⟨D, M, (by first | rw [e, if0_n e0] | (rw [e]; exact congrArg _ (congrArg _ (if0_n e0)))), (by exact (RV.rf hA).mono (S := []) (by simp)), (by rw [e]; simp only [up0_n e0, up_828, up_88, up_upI])⟩)
  refine sw_aload_n (n := 2) F 0 (some o) rfl rfl rfl dX4_net_1 rfl ?_
  refine sw_iload_n (n := 3) F 1 rfl rfl dX4_net_2 rfl ?_
  refine sw_callV (n := 6) F (ct_X4_isInvoice (g := xg x) (l := xl x) o a z v hv hz27) (rcv_ob F 0 (ci := 3) rfl rfl) q4224 q4226 qs95 q120 q4227 nd_X4_isInvoice rfl (by decide) [0, 1, 2, 3, 4, 5, 6, 7] (perm_ok _ 8 (by decide +kernel) rfl) [aN (xg x) 0 (a 0) 2400 D, aN (xg x) 0 (a 1) 10 M, aI (xg x) 2 (a 11) 4 Md, aI (xg x) 0 (a 21) 20 Cu, aI (xg x) 0 (a 22) 20 Ln, aI (xg x) 4 (a 23) 20 Bl, aL (xg x) (a 25) 240 Nt] rfl 0 0 ⟨by omega, by omega⟩ [.ref o] rfl (Nat.le_of_ble_eq_true rfl) dX4_net_3 rfl (fun _ _ h => h.elim) (fun v Ws h => ?_)
  obtain ⟨rfl, hs_8, rfl⟩ := h
  show SW x [tmO (xg x) o a z, aN (xg x) 0 (a 0) 2400 D, aN (xg x) 0 (a 1) 10 M, aI (xg x) 2 (a 11) 4 Md, aI (xg x) 0 (a 21) 20 Cu, aI (xg x) 0 (a 22) 20 Ln, aI (xg x) 4 (a 23) 20 Bl, aL (xg x) (a 25) 240 Nt] _ _ _ _ [.int (jI (inI v 0 (z 27 - 1))), .ref o]
  refine sw_if_eq (n := 9) F (by omega) (tgt := 13) dX4_net_6 (by decide) rfl (fun c_6 => ?_) (fun c_6 => ?_)
  ·
    refine sw_iconst (n := 14) F (1) (by decide) dX4_net_13 rfl ?_
    exact K14 1 (by unfold ivP; (repeat' split) <;> omega)
  ·
    refine sw_iconst (n := 10) F (0) (by decide) dX4_net_9 rfl ?_
    refine sw_goto F (n := 14) dX4_net_10 (by decide) ?_
    exact K14 0 (by unfold ivP; (repeat' split) <;> omega)
theorem nd_X4_taxOf : yX4_taxOf.cls ≠ "java/lang/invoke/MethodHandle" ∧ yX4_taxOf.cls ≠ "java/lang/invoke/VarHandle" ∧ (parseMethodDescriptor yX4_taxOf.desc).map (fun d => d.parameters.length) = some 1 := by decide +kernel
set_option maxRecDepth 100000 in
set_option maxHeartbeats 16000000 in
theorem ct_X4_taxOf {g : GG} {l : Launch} (o : Nat) (a : Nat → Nat) (z : Nat → Int) (D : Nat → Nat) (M : Nat → Nat) (Md : Nat → Int) (Cu : Nat → Int) (Ln : Nat → Int) (Bl : Nat → Int) (Nt : Nat → Int) (Lt : Nat → Int) (v : Int) (hA : Dok D M) (hMd : MdB Md) (hCu : BD 0 3 Cu) (hLn : BD 0 12 Ln) (hBl : HB Bl) (hNt : BD 0 10000000000000000 Nt) (hLt : BD 0 9999 Lt) (hv : -2147483648 ≤ v ∧ v ≤ 2147483647) (hz27 : 0 ≤ z 27 ∧ z 27 ≤ 20) : Ct g l yX4_taxOf (ws_ yX4_taxOf cX4_taxOf 4 (Option.some Jvm.ClassFile.FieldType.long)) 9 205 0 0 [.ref o, .int (jI v)] [tmO g o a z, aN g 0 (a 0) 2400 D, aN g 0 (a 1) 10 M, aI g 2 (a 11) 4 Md, aI g 0 (a 21) 20 Cu, aI g 0 (a 22) 20 Ln, aI g 4 (a 23) 20 Bl, aL g (a 25) 240 Nt, aI g 0 (a 26) 240 Lt] (fun v9 Ws9 => ∃ D1 : Nat → Nat, ∃ M1 : Nat → Nat, v9 = some (.long (jL (if0 (cd2 2 (ivP v (z 27)) (lrI (tsZ Md Cu Nt Lt v.toNat (Bl v.toNat) (Ln v.toNat).toNat 0 (Ln v.toNat).toNat) 1)) (tsS Md Cu Nt Lt v.toNat (Bl v.toNat) (Ln v.toNat).toNat (Ln v.toNat).toNat)))) ∧ (RV [0, 1, 2, 3, 5, 6, 7, 8, 9] D M D1 M1) ∧ Ws9 = [tmO g o a (va_up (up0 (ivP v (z 27)) z 2 (tsZ Md Cu Nt Lt v.toNat (Bl v.toNat) (Ln v.toNat).toNat 0 (Ln v.toNat).toNat)) 8 (cd2 2 (ivP v (z 27)) (lrI (tsZ Md Cu Nt Lt v.toNat (Bl v.toNat) (Ln v.toNat).toNat 0 (Ln v.toNat).toNat) 1))), aN g 0 (a 0) 2400 D1, aN g 0 (a 1) 10 M1, aI g 2 (a 11) 4 Md, aI g 0 (a 21) 20 Cu, aI g 0 (a 22) 20 Ln, aI g 4 (a 23) 20 Bl, aL g (a 25) 240 Nt, aI g 0 (a 26) 240 Lt]) (nox) := by
  refine Ct.of (cc := cX4_taxOf) (nL := 4) (ret := (Option.some Jvm.ClassFile.FieldType.long)) (by decide) rfl (Nat.le_of_ble_eq_true rfl) ?_
  intro x hg hl hPo hPx hmc hms F
  subst hg; subst hl
  refine SW.cast (L' := [(0, .ref o), (1, .int (jI v))]) ?_ rfl rfl rfl
  refine sw_aload_n (n := 1) F 0 (some o) rfl rfl rfl dX4_taxOf_0 rfl ?_
  have K14 : ∀ (p9 : Int), (p9 = ivP v (z 27)) → SW x [tmO (xg x) o a z, aN (xg x) 0 (a 0) 2400 D, aN (xg x) 0 (a 1) 10 M, aI (xg x) 2 (a 11) 4 Md, aI (xg x) 0 (a 21) 20 Cu, aI (xg x) 0 (a 22) 20 Ln, aI (xg x) 4 (a 23) 20 Bl, aL (xg x) (a 25) 240 Nt, aI (xg x) 0 (a 26) 240 Lt] 0 0 14 [(0, .ref o), (1, .int (jI v))] [.int (jI p9), .ref o] := by
    intro p9 hpc
    subst hpc
    have hcs := ivP_nn v (z 27)
    refine sw_callV (n := 17) F (ct_X4_fails (g := xg x) (l := xl x) o a z (ivP v (z 27)) (by first | omega | assumption)) (rcv_ob F 0 (ci := 3) rfl rfl) q3973 q3975 qs68 q120 q3976 nd_X4_fails rfl (by decide) [0, 1, 2, 3, 4, 5, 6, 7, 8] (perm_ok _ 9 (by decide +kernel) rfl) [aN (xg x) 0 (a 0) 2400 D, aN (xg x) 0 (a 1) 10 M, aI (xg x) 2 (a 11) 4 Md, aI (xg x) 0 (a 21) 20 Cu, aI (xg x) 0 (a 22) 20 Ln, aI (xg x) 4 (a 23) 20 Bl, aL (xg x) (a 25) 240 Nt, aI (xg x) 0 (a 26) 240 Lt] rfl 0 0 ⟨by omega, by omega⟩ [] rfl (Nat.le_of_ble_eq_true rfl) dX4_taxOf_14 rfl (fun _ _ h => h.elim) (fun v Ws h => ?_)
    obtain ⟨rfl, hps_1, rfl⟩ := h
    show SW x [tmO (xg x) o a (va_up z 8 (ivP v (z 27))), aN (xg x) 0 (a 0) 2400 D, aN (xg x) 0 (a 1) 10 M, aI (xg x) 2 (a 11) 4 Md, aI (xg x) 0 (a 21) 20 Cu, aI (xg x) 0 (a 22) 20 Ln, aI (xg x) 4 (a 23) 20 Bl, aL (xg x) (a 25) 240 Nt, aI (xg x) 0 (a 26) 240 Lt] _ _ _ _ [.int (jI (psI (ivP v (z 27))))]
    refine sw_if_eq (n := 20) F (by omega) (tgt := 22) dX4_taxOf_17 (by decide) rfl (fun c_17 => ?_) (fun c_17 => ?_)
    ·
      have e0 : ivP v (z 27) = 0 := by omega
      obtain hz0 := ivP_0 v (z 27) e0
      have rg0 : 0 ≤ v ∧ v ≤ 19 := by omega
      clear hz0 hcs c_17 hps_1
      refine SW.cast (L' := [(0, .ref o), (1, .int (jI (↑(v.toNat))))]) ?_ rfl (by rw [Int.toNat_of_nonneg (show 0 ≤ v by omega)]) rfl
      refine sw_aload_n (n := 23) F 0 (some o) rfl rfl rfl dX4_taxOf_22 rfl ?_
      refine sw_iconst (n := 24) F (0) (by decide) dX4_taxOf_23 rfl ?_
      refine sw_put (n := 27) F 0 rfl (k := 2) ⟨(RX4, TX4, 50), rfl, by decide, q3801, in_X4, Or.inl rfl⟩ .boolean ⟨(RX4, TX4, 50), rfl, rfl, tyX4_ok 2 (by decide), nmX4, tyX4, tyX4_ok⟩ (jI_nz (by first | decide | omega)) (jI_fz (by first | decide | omega)) (Nat.le_of_ble_eq_true rfl) (fs' := tmF a (va_up (va_up z 2 0) 8 (ivP v (z 27)))) rfl [tmO (xg x) o a (va_up (va_up z 2 0) 8 (ivP v (z 27))), aN (xg x) 0 (a 0) 2400 D, aN (xg x) 0 (a 1) 10 M, aI (xg x) 2 (a 11) 4 Md, aI (xg x) 0 (a 21) 20 Cu, aI (xg x) 0 (a 22) 20 Ln, aI (xg x) 4 (a 23) 20 Bl, aL (xg x) (a 25) 240 Nt, aI (xg x) 0 (a 26) 240 Lt] rfl dX4_taxOf_24 rfl ?_
      refine sw_aload_n (n := 28) F 0 (some o) rfl rfl rfl dX4_taxOf_27 rfl ?_
      refine sw_iload_n (n := 29) F 1 rfl rfl dX4_taxOf_28 rfl ?_
      refine sw_callV (n := 32) F (ct_X4_taxesOf (g := xg x) (l := xl x) o a (va_up (va_up z 2 0) 8 (ivP v (z 27))) D M Md Cu Ln Bl Nt Lt v.toNat hA hMd hCu hLn hBl hNt hLt (by first | omega | assumption) (by first | exact Or.inl rfl | exact ntZ_01 (Or.inl rfl))) (rcv_ob F 0 (ci := 3) rfl rfl) q4254 q4256 qs99 q120 q4257 nd_X4_taxesOf rfl (by decide) [0, 1, 2, 3, 4, 5, 6, 7, 8] (perm_ok _ 9 (by decide +kernel) rfl) [] rfl 0 0 ⟨by omega, by omega⟩ [] rfl (Nat.le_of_ble_eq_true rfl) dX4_taxOf_29 rfl (fun _ _ h => h.elim) (fun v Ws h => ?_)
      obtain ⟨D1_2, M1_3, rfl, hV_4, rfl⟩ := h
      show SW x [tmO (xg x) o a (va_up (va_up (va_up z 2 0) 8 (ivP v (z 27))) 2 (tsZ Md Cu Nt Lt v.toNat (Bl v.toNat) (Ln v.toNat).toNat (0) (Ln v.toNat).toNat)), aN (xg x) 0 (a 0) 2400 D1_2, aN (xg x) 0 (a 1) 10 M1_3, aI (xg x) 2 (a 11) 4 Md, aI (xg x) 0 (a 21) 20 Cu, aI (xg x) 0 (a 22) 20 Ln, aI (xg x) 4 (a 23) 20 Bl, aL (xg x) (a 25) 240 Nt, aI (xg x) 0 (a 26) 240 Lt] _ _ _ _ [.long (jL (tsS Md Cu Nt Lt v.toNat (Bl v.toNat) (Ln v.toNat).toNat (Ln v.toNat).toNat))]
      have a_5 := hV_4.1
      refine sw_lstore_n (n := 33) F (L2 := [(2, .long (jL (tsS Md Cu Nt Lt v.toNat (Bl v.toNat) (Ln v.toNat).toNat (Ln v.toNat).toNat))), (0, .ref o), (1, .int (jI (↑(v.toNat))))]) rfl (by decide) rfl dX4_taxOf_32 rfl ?_
      have hr1 : tsZ Md Cu Nt Lt v.toNat (Bl v.toNat) (Ln v.toNat).toNat 0 (Ln v.toNat).toNat = 0 ∨ tsZ Md Cu Nt Lt v.toNat (Bl v.toNat) (Ln v.toNat).toNat 0 (Ln v.toNat).toNat = 1 := tsZ_01 (Or.inl rfl) _
      refine sw_aload_n (n := 34) F 1 (some o) rfl rfl rfl dX4_taxOf_33 rfl ?_
      refine sw_aload_n (n := 35) F 1 (some o) rfl rfl rfl dX4_taxOf_34 rfl ?_
      refine sw_get (n := 38) F 0 rfl (k := 2) ⟨(RX4, TX4, 50), rfl, by decide, q3801, in_X4, Or.inl rfl⟩ (v := .int (jI (tsZ Md Cu Nt Lt v.toNat (Bl v.toNat) (Ln v.toNat).toNat (0) (Ln v.toNat).toNat))) rfl dX4_taxOf_35 rfl ?_
      refine sw_if_eq (n := 41) F (by omega) (tgt := 45) dX4_taxOf_38 (by decide) rfl (fun c_38 => ?_) (fun c_38 => ?_)
      ·
        refine sw_iconst (n := 46) F (0) (by decide) dX4_taxOf_45 rfl ?_
        refine sw_callV (n := 49) F (ct_X4_fails (g := xg x) (l := xl x) o a (va_up (va_up (va_up z 2 0) 8 (ivP v (z 27))) 2 (tsZ Md Cu Nt Lt v.toNat (Bl v.toNat) (Ln v.toNat).toNat (0) (Ln v.toNat).toNat)) 0 (by first | omega | assumption)) (rcv_ob F 0 (ci := 3) rfl rfl) q3973 q3975 qs68 q120 q3976 nd_X4_fails rfl (by decide) [0, 1, 2, 3, 4, 5, 6, 7, 8] (perm_ok _ 9 (by decide +kernel) rfl) [aN (xg x) 0 (a 0) 2400 D1_2, aN (xg x) 0 (a 1) 10 M1_3, aI (xg x) 2 (a 11) 4 Md, aI (xg x) 0 (a 21) 20 Cu, aI (xg x) 0 (a 22) 20 Ln, aI (xg x) 4 (a 23) 20 Bl, aL (xg x) (a 25) 240 Nt, aI (xg x) 0 (a 26) 240 Lt] rfl 0 0 ⟨by omega, by omega⟩ [] rfl (Nat.le_of_ble_eq_true rfl) dX4_taxOf_46 rfl (fun _ _ h => h.elim) (fun v Ws h => ?_)
        obtain ⟨rfl, hps_6, rfl⟩ := h
        show SW x [tmO (xg x) o a (va_up (va_up (va_up (va_up z 2 0) 8 (ivP v (z 27))) 2 (tsZ Md Cu Nt Lt v.toNat (Bl v.toNat) (Ln v.toNat).toNat (0) (Ln v.toNat).toNat)) 8 0), aN (xg x) 0 (a 0) 2400 D1_2, aN (xg x) 0 (a 1) 10 M1_3, aI (xg x) 2 (a 11) 4 Md, aI (xg x) 0 (a 21) 20 Cu, aI (xg x) 0 (a 22) 20 Ln, aI (xg x) 4 (a 23) 20 Bl, aL (xg x) (a 25) 240 Nt, aI (xg x) 0 (a 26) 240 Lt] _ _ _ _ [.int (jI 0)]
        refine sw_if_eq (n := 52) F (by decide) (tgt := 56) dX4_taxOf_49 (by decide) rfl (fun c_49 => ?_) (fun c_49 => ?_)
        ·
          refine sw_lload_n (n := 57) F 0 rfl rfl dX4_taxOf_56 rfl ?_
          have e0 : ivP v (z 27) = 0 := by omega
          have e : cd2 2 (ivP v (z 27)) (lrI (tsZ Md Cu Nt Lt v.toNat (Bl v.toNat) (Ln v.toNat).toNat 0 (Ln v.toNat).toNat) 1) = 0 := cd2_lt e0 (by omega)
          exact sw_lret F rfl dX4_taxOf_57 (by rw [hPo]; exact ⟨D1_2, M1_3, (by rw [e]; rfl), (by exact hV_4.mono (by simp)), (by rw [e]; simp only [up0_p e0, up_828, up_88, up_upI])⟩)
        · exfalso; exact absurd c_49 (by decide)
      ·
        refine sw_iconst (n := 42) F (2) (by decide) dX4_taxOf_41 rfl ?_
        refine sw_goto F (n := 46) dX4_taxOf_42 (by decide) ?_
        refine sw_callV (n := 49) F (ct_X4_fails (g := xg x) (l := xl x) o a (va_up (va_up (va_up z 2 0) 8 (ivP v (z 27))) 2 (tsZ Md Cu Nt Lt v.toNat (Bl v.toNat) (Ln v.toNat).toNat (0) (Ln v.toNat).toNat)) 2 (by first | omega | assumption)) (rcv_ob F 0 (ci := 3) rfl rfl) q3973 q3975 qs68 q120 q3976 nd_X4_fails rfl (by decide) [0, 1, 2, 3, 4, 5, 6, 7, 8] (perm_ok _ 9 (by decide +kernel) rfl) [aN (xg x) 0 (a 0) 2400 D1_2, aN (xg x) 0 (a 1) 10 M1_3, aI (xg x) 2 (a 11) 4 Md, aI (xg x) 0 (a 21) 20 Cu, aI (xg x) 0 (a 22) 20 Ln, aI (xg x) 4 (a 23) 20 Bl, aL (xg x) (a 25) 240 Nt, aI (xg x) 0 (a 26) 240 Lt] rfl 0 0 ⟨by omega, by omega⟩ [] rfl (Nat.le_of_ble_eq_true rfl) dX4_taxOf_46 rfl (fun _ _ h => h.elim) (fun v Ws h => ?_)
        obtain ⟨rfl, hps_7, rfl⟩ := h
        show SW x [tmO (xg x) o a (va_up (va_up (va_up (va_up z 2 0) 8 (ivP v (z 27))) 2 (tsZ Md Cu Nt Lt v.toNat (Bl v.toNat) (Ln v.toNat).toNat (0) (Ln v.toNat).toNat)) 8 2), aN (xg x) 0 (a 0) 2400 D1_2, aN (xg x) 0 (a 1) 10 M1_3, aI (xg x) 2 (a 11) 4 Md, aI (xg x) 0 (a 21) 20 Cu, aI (xg x) 0 (a 22) 20 Ln, aI (xg x) 4 (a 23) 20 Bl, aL (xg x) (a 25) 240 Nt, aI (xg x) 0 (a 26) 240 Lt] _ _ _ _ [.int (jI 1)]
        refine sw_if_eq (n := 52) F (by decide) (tgt := 56) dX4_taxOf_49 (by decide) rfl (fun c_49 => ?_) (fun c_49 => ?_)
        · exfalso; exact absurd c_49 (by decide)
        ·
          refine sw_lconst (n := 53) F 0 (by decide) dX4_taxOf_52 rfl ?_
          refine sw_goto F (n := 57) dX4_taxOf_53 (by decide) ?_
          have e0 : ivP v (z 27) = 0 := by omega
          have e : cd2 2 (ivP v (z 27)) (lrI (tsZ Md Cu Nt Lt v.toNat (Bl v.toNat) (Ln v.toNat).toNat 0 (Ln v.toNat).toNat) 1) = 2 := cd2_r e0 (by omega)
          exact sw_lret F rfl dX4_taxOf_57 (by rw [hPo]; exact ⟨D1_2, M1_3, (by rw [e]; rfl), (by exact hV_4.mono (by simp)), (by rw [e]; simp only [up0_p e0, up_828, up_88, up_upI])⟩)
    ·
      refine sw_lconst (n := 21) F 0 (by decide) dX4_taxOf_20 rfl ?_
      have e0 : ivP v (z 27) ≠ 0 := by omega
      have e : cd2 2 (ivP v (z 27)) (lrI (tsZ Md Cu Nt Lt v.toNat (Bl v.toNat) (Ln v.toNat).toNat 0 (Ln v.toNat).toNat) 1) = ivP v (z 27) := cd2_n e0
      exact sw_lret F rfl dX4_taxOf_21 (by rw [hPo]; exact ⟨D, M, (by first | rw [e, if0_n e0] | (rw [e]; exact congrArg _ (congrArg _ (if0_n e0)))), (by exact (RV.rf hA).mono (S := []) (by simp)), (by rw [e]; simp only [up0_n e0, up_828, up_88, up_upI])⟩)
  refine sw_aload_n (n := 2) F 0 (some o) rfl rfl rfl dX4_taxOf_1 rfl ?_
  refine sw_iload_n (n := 3) F 1 rfl rfl dX4_taxOf_2 rfl ?_
  refine sw_callV (n := 6) F (ct_X4_isInvoice (g := xg x) (l := xl x) o a z v hv hz27) (rcv_ob F 0 (ci := 3) rfl rfl) q4224 q4226 qs95 q120 q4227 nd_X4_isInvoice rfl (by decide) [0, 1, 2, 3, 4, 5, 6, 7, 8] (perm_ok _ 9 (by decide +kernel) rfl) [aN (xg x) 0 (a 0) 2400 D, aN (xg x) 0 (a 1) 10 M, aI (xg x) 2 (a 11) 4 Md, aI (xg x) 0 (a 21) 20 Cu, aI (xg x) 0 (a 22) 20 Ln, aI (xg x) 4 (a 23) 20 Bl, aL (xg x) (a 25) 240 Nt, aI (xg x) 0 (a 26) 240 Lt] rfl 0 0 ⟨by omega, by omega⟩ [.ref o] rfl (Nat.le_of_ble_eq_true rfl) dX4_taxOf_3 rfl (fun _ _ h => h.elim) (fun v Ws h => ?_)
  obtain ⟨rfl, hs_8, rfl⟩ := h
  show SW x [tmO (xg x) o a z, aN (xg x) 0 (a 0) 2400 D, aN (xg x) 0 (a 1) 10 M, aI (xg x) 2 (a 11) 4 Md, aI (xg x) 0 (a 21) 20 Cu, aI (xg x) 0 (a 22) 20 Ln, aI (xg x) 4 (a 23) 20 Bl, aL (xg x) (a 25) 240 Nt, aI (xg x) 0 (a 26) 240 Lt] _ _ _ _ [.int (jI (inI v 0 (z 27 - 1))), .ref o]
  refine sw_if_eq (n := 9) F (by omega) (tgt := 13) dX4_taxOf_6 (by decide) rfl (fun c_6 => ?_) (fun c_6 => ?_)
  ·
    refine sw_iconst (n := 14) F (1) (by decide) dX4_taxOf_13 rfl ?_
    exact K14 1 (by unfold ivP; (repeat' split) <;> omega)
  ·
    refine sw_iconst (n := 10) F (0) (by decide) dX4_taxOf_9 rfl ?_
    refine sw_goto F (n := 14) dX4_taxOf_10 (by decide) ?_
    exact K14 0 (by unfold ivP; (repeat' split) <;> omega)
theorem nd_X4_cash : yX4_cash.cls ≠ "java/lang/invoke/MethodHandle" ∧ yX4_cash.cls ≠ "java/lang/invoke/VarHandle" ∧ (parseMethodDescriptor yX4_cash.desc).map (fun d => d.parameters.length) = some 1 := by decide +kernel
set_option maxRecDepth 100000 in
set_option maxHeartbeats 16000000 in
theorem ct_X4_cash {g : GG} {l : Launch} (o : Nat) (a : Nat → Nat) (z : Nat → Int) (D : Nat → Nat) (M : Nat → Nat) (Md : Nat → Int) (Cu : Nat → Int) (Ln : Nat → Int) (Bl : Nat → Int) (Nt : Nat → Int) (Lt : Nat → Int) (Co : Nat → Int) (v : Int) (hA : Dok D M) (hMd : MdB Md) (hCu : BD 0 3 Cu) (hLn : BD 0 12 Ln) (hBl : HB Bl) (hNt : BD 0 10000000000000000 Nt) (hLt : BD 0 9999 Lt) (hCo : CoB Co) (hv : -2147483648 ≤ v ∧ v ≤ 2147483647) (hz27 : 0 ≤ z 27 ∧ z 27 ≤ 20) : Ct g l yX4_cash (ws_ yX4_cash cX4_cash 7 (Option.some Jvm.ClassFile.FieldType.long)) 9 205 0 0 [.ref o, .int (jI v)] [tmO g o a z, aN g 0 (a 0) 2400 D, aN g 0 (a 1) 10 M, aI g 2 (a 11) 4 Md, aI g 0 (a 21) 20 Cu, aI g 0 (a 22) 20 Ln, aI g 4 (a 23) 20 Bl, aL g (a 25) 240 Nt, aI g 0 (a 26) 240 Lt, aI g 0 (a 10) 4 Co] (fun v9 Ws9 => ∃ D1 : Nat → Nat, ∃ M1 : Nat → Nat, v9 = some (.long (jL (if0 (cd2 2 (ivP v (z 27)) (lrI (csZ Md Cu Nt Lt v.toNat (Bl v.toNat) (Ln v.toNat).toNat 0) 1)) (caV (csG Md Cu Nt Lt v.toNat (Bl v.toNat) (Ln v.toNat).toNat) (Co (Cu v.toNat).toNat))))) ∧ (RV [0, 1, 2, 3, 5, 6, 7, 8, 9] D M D1 M1) ∧ Ws9 = [tmO g o a (va_up (up0 (ivP v (z 27)) z 2 (csZ Md Cu Nt Lt v.toNat (Bl v.toNat) (Ln v.toNat).toNat 0)) 8 (cd2 2 (ivP v (z 27)) (lrI (csZ Md Cu Nt Lt v.toNat (Bl v.toNat) (Ln v.toNat).toNat 0) 1))), aN g 0 (a 0) 2400 D1, aN g 0 (a 1) 10 M1, aI g 2 (a 11) 4 Md, aI g 0 (a 21) 20 Cu, aI g 0 (a 22) 20 Ln, aI g 4 (a 23) 20 Bl, aL g (a 25) 240 Nt, aI g 0 (a 26) 240 Lt, aI g 0 (a 10) 4 Co]) (nox) := by
  refine Ct.of (cc := cX4_cash) (nL := 7) (ret := (Option.some Jvm.ClassFile.FieldType.long)) (by decide) rfl (Nat.le_of_ble_eq_true rfl) ?_
  intro x hg hl hPo hPx hmc hms F
  subst hg; subst hl
  refine SW.cast (L' := [(0, .ref o), (1, .int (jI v))]) ?_ rfl rfl rfl
  refine sw_aload_n (n := 1) F 0 (some o) rfl rfl rfl dX4_cash_0 rfl ?_
  have K14 : ∀ (p9 : Int), (p9 = ivP v (z 27)) → SW x [tmO (xg x) o a z, aN (xg x) 0 (a 0) 2400 D, aN (xg x) 0 (a 1) 10 M, aI (xg x) 2 (a 11) 4 Md, aI (xg x) 0 (a 21) 20 Cu, aI (xg x) 0 (a 22) 20 Ln, aI (xg x) 4 (a 23) 20 Bl, aL (xg x) (a 25) 240 Nt, aI (xg x) 0 (a 26) 240 Lt, aI (xg x) 0 (a 10) 4 Co] 0 0 14 [(0, .ref o), (1, .int (jI v))] [.int (jI p9), .ref o] := by
    intro p9 hpc
    subst hpc
    have hcs := ivP_nn v (z 27)
    refine sw_callV (n := 17) F (ct_X4_fails (g := xg x) (l := xl x) o a z (ivP v (z 27)) (by first | omega | assumption)) (rcv_ob F 0 (ci := 3) rfl rfl) q3973 q3975 qs68 q120 q3976 nd_X4_fails rfl (by decide) [0, 1, 2, 3, 4, 5, 6, 7, 8, 9] (perm_ok _ 10 (by decide +kernel) rfl) [aN (xg x) 0 (a 0) 2400 D, aN (xg x) 0 (a 1) 10 M, aI (xg x) 2 (a 11) 4 Md, aI (xg x) 0 (a 21) 20 Cu, aI (xg x) 0 (a 22) 20 Ln, aI (xg x) 4 (a 23) 20 Bl, aL (xg x) (a 25) 240 Nt, aI (xg x) 0 (a 26) 240 Lt, aI (xg x) 0 (a 10) 4 Co] rfl 0 0 ⟨by omega, by omega⟩ [] rfl (Nat.le_of_ble_eq_true rfl) dX4_cash_14 rfl (fun _ _ h => h.elim) (fun v Ws h => ?_)
    obtain ⟨rfl, hps_1, rfl⟩ := h
    show SW x [tmO (xg x) o a (va_up z 8 (ivP v (z 27))), aN (xg x) 0 (a 0) 2400 D, aN (xg x) 0 (a 1) 10 M, aI (xg x) 2 (a 11) 4 Md, aI (xg x) 0 (a 21) 20 Cu, aI (xg x) 0 (a 22) 20 Ln, aI (xg x) 4 (a 23) 20 Bl, aL (xg x) (a 25) 240 Nt, aI (xg x) 0 (a 26) 240 Lt, aI (xg x) 0 (a 10) 4 Co] _ _ _ _ [.int (jI (psI (ivP v (z 27))))]
    refine sw_if_eq (n := 20) F (by omega) (tgt := 22) dX4_cash_17 (by decide) rfl (fun c_17 => ?_) (fun c_17 => ?_)
    ·
      have e0 : ivP v (z 27) = 0 := by omega
      obtain hz0 := ivP_0 v (z 27) e0
      have rg0 : 0 ≤ v ∧ v ≤ 19 := by omega
      clear hz0 hcs c_17 hps_1
      refine SW.cast (L' := [(0, .ref o), (1, .int (jI (↑(v.toNat))))]) ?_ rfl (by rw [Int.toNat_of_nonneg (show 0 ≤ v by omega)]) rfl
      have hln := hLn v.toNat
      refine sw_aload_n (n := 23) F 0 (some o) rfl rfl rfl dX4_cash_22 rfl ?_
      refine sw_iconst (n := 24) F (0) (by decide) dX4_cash_23 rfl ?_
      refine sw_put (n := 27) F 0 rfl (k := 2) ⟨(RX4, TX4, 50), rfl, by decide, q3801, in_X4, Or.inl rfl⟩ .boolean ⟨(RX4, TX4, 50), rfl, rfl, tyX4_ok 2 (by decide), nmX4, tyX4, tyX4_ok⟩ (jI_nz (by first | decide | omega)) (jI_fz (by first | decide | omega)) (Nat.le_of_ble_eq_true rfl) (fs' := tmF a (va_up (va_up z 2 0) 8 (ivP v (z 27)))) rfl [tmO (xg x) o a (va_up (va_up z 2 0) 8 (ivP v (z 27))), aN (xg x) 0 (a 0) 2400 D, aN (xg x) 0 (a 1) 10 M, aI (xg x) 2 (a 11) 4 Md, aI (xg x) 0 (a 21) 20 Cu, aI (xg x) 0 (a 22) 20 Ln, aI (xg x) 4 (a 23) 20 Bl, aL (xg x) (a 25) 240 Nt, aI (xg x) 0 (a 26) 240 Lt, aI (xg x) 0 (a 10) 4 Co] rfl dX4_cash_24 rfl ?_
      refine sw_aload_n (n := 28) F 0 (some o) rfl rfl rfl dX4_cash_27 rfl ?_
      refine sw_iload_n (n := 29) F 1 rfl rfl dX4_cash_28 rfl ?_
      refine sw_callV (n := 32) F (ct_X4_netOf (g := xg x) (l := xl x) o a (va_up (va_up z 2 0) 8 (ivP v (z 27))) D M Md Cu Ln Bl Nt v.toNat hA hMd hCu hLn hBl hNt (by first | omega | assumption) (by first | exact Or.inl rfl | exact ntZ_01 (Or.inl rfl))) (rcv_ob F 0 (ci := 3) rfl rfl) q4246 q4248 qs98 q120 q4249 nd_X4_netOf rfl (by decide) [0, 1, 2, 3, 4, 5, 6, 7, 8, 9] (perm_ok _ 10 (by decide +kernel) rfl) [aI (xg x) 0 (a 26) 240 Lt, aI (xg x) 0 (a 10) 4 Co] rfl 0 0 ⟨by omega, by omega⟩ [] rfl (Nat.le_of_ble_eq_true rfl) dX4_cash_29 rfl (fun _ _ h => h.elim) (fun v Ws h => ?_)
      obtain ⟨D1_2, M1_3, rfl, hV_4, rfl⟩ := h
      show SW x [tmO (xg x) o a (va_up (va_up (va_up z 2 0) 8 (ivP v (z 27))) 2 (ntZ Md Cu Nt v.toNat (Bl v.toNat) (0) (Ln v.toNat).toNat)), aN (xg x) 0 (a 0) 2400 D1_2, aN (xg x) 0 (a 1) 10 M1_3, aI (xg x) 2 (a 11) 4 Md, aI (xg x) 0 (a 21) 20 Cu, aI (xg x) 0 (a 22) 20 Ln, aI (xg x) 4 (a 23) 20 Bl, aL (xg x) (a 25) 240 Nt, aI (xg x) 0 (a 26) 240 Lt, aI (xg x) 0 (a 10) 4 Co] _ _ _ _ [.long (jL (ntV Md Cu Nt v.toNat (Bl v.toNat) (Ln v.toNat).toNat))]
      have a_5 := hV_4.1
      refine sw_aload_n (n := 33) F 0 (some o) rfl rfl rfl dX4_cash_32 rfl ?_
      refine sw_iload_n (n := 34) F 1 rfl rfl dX4_cash_33 rfl ?_
      refine sw_callV (n := 37) F (ct_X4_taxesOf (g := xg x) (l := xl x) o a (va_up (va_up (va_up z 2 0) 8 (ivP v (z 27))) 2 (ntZ Md Cu Nt v.toNat (Bl v.toNat) (0) (Ln v.toNat).toNat)) D1_2 M1_3 Md Cu Ln Bl Nt Lt v.toNat a_5 hMd hCu hLn hBl hNt hLt (by first | omega | assumption) (by first | exact Or.inl rfl | exact ntZ_01 (Or.inl rfl))) (rcv_ob F 0 (ci := 3) rfl rfl) q4254 q4256 qs99 q120 q4257 nd_X4_taxesOf rfl (by decide) [0, 1, 2, 3, 4, 5, 6, 7, 8, 9] (perm_ok _ 10 (by decide +kernel) rfl) [aI (xg x) 0 (a 10) 4 Co] rfl 0 0 ⟨by omega, by omega⟩ [.long (jL (ntV Md Cu Nt v.toNat (Bl v.toNat) (Ln v.toNat).toNat))] rfl (Nat.le_of_ble_eq_true rfl) dX4_cash_34 rfl (fun _ _ h => h.elim) (fun v Ws h => ?_)
      obtain ⟨D1_6, M1_7, rfl, hV_8, rfl⟩ := h
      show SW x [tmO (xg x) o a (va_up (va_up (va_up (va_up z 2 0) 8 (ivP v (z 27))) 2 (ntZ Md Cu Nt v.toNat (Bl v.toNat) (0) (Ln v.toNat).toNat)) 2 (tsZ Md Cu Nt Lt v.toNat (Bl v.toNat) (Ln v.toNat).toNat ((ntZ Md Cu Nt v.toNat (Bl v.toNat) (0) (Ln v.toNat).toNat)) (Ln v.toNat).toNat)), aN (xg x) 0 (a 0) 2400 D1_6, aN (xg x) 0 (a 1) 10 M1_7, aI (xg x) 2 (a 11) 4 Md, aI (xg x) 0 (a 21) 20 Cu, aI (xg x) 0 (a 22) 20 Ln, aI (xg x) 4 (a 23) 20 Bl, aL (xg x) (a 25) 240 Nt, aI (xg x) 0 (a 26) 240 Lt, aI (xg x) 0 (a 10) 4 Co] _ _ _ _ [.long (jL (tsS Md Cu Nt Lt v.toNat (Bl v.toNat) (Ln v.toNat).toNat (Ln v.toNat).toNat)), .long (jL (ntV Md Cu Nt v.toNat (Bl v.toNat) (Ln v.toNat).toNat))]
      have a_9 := hV_8.1
      have v_10 := (hV_4.mono (T := [0, 1, 2, 3, 5, 6, 7, 8, 9]) (by simp)).trans hV_8 (by simp)
      refine sw_ladd (n := 38) F dX4_cash_37 rfl ?_
      show SW x _ _ _ _ _ [.long (jL (csG Md Cu Nt Lt v.toNat (Bl v.toNat) (Ln v.toNat).toNat))]
      show SW x [tmO (xg x) o a (va_up (va_up z 2 (csZ Md Cu Nt Lt v.toNat (Bl v.toNat) (Ln v.toNat).toNat 0)) 8 (ivP v (z 27))), aN (xg x) 0 (a 0) 2400 D1_6, aN (xg x) 0 (a 1) 10 M1_7, aI (xg x) 2 (a 11) 4 Md, aI (xg x) 0 (a 21) 20 Cu, aI (xg x) 0 (a 22) 20 Ln, aI (xg x) 4 (a 23) 20 Bl, aL (xg x) (a 25) 240 Nt, aI (xg x) 0 (a 26) 240 Lt, aI (xg x) 0 (a 10) 4 Co] _ _ _ _ [.long (jL (csG Md Cu Nt Lt v.toNat (Bl v.toNat) (Ln v.toNat).toNat))]
      have hcg := csG_rng (Md := Md) (Cu := Cu) (i := v.toNat) (b := (Bl v.toNat)) (n := (Ln v.toNat).toNat) hNt hLt (by omega)
      have hcu := hCu v.toNat
      have hco := hCo (Cu v.toNat).toNat
      refine sw_lstore_n (n := 39) F (L2 := [(2, .long (jL (csG Md Cu Nt Lt v.toNat (Bl v.toNat) (Ln v.toNat).toNat))), (0, .ref o), (1, .int (jI (↑(v.toNat))))]) rfl (by decide) rfl dX4_cash_38 rfl ?_
      refine sw_aload_n (n := 40) F 1 (some o) rfl rfl rfl dX4_cash_39 rfl ?_
      have hr1 : csZ Md Cu Nt Lt v.toNat (Bl v.toNat) (Ln v.toNat).toNat 0 = 0 ∨ csZ Md Cu Nt Lt v.toNat (Bl v.toNat) (Ln v.toNat).toNat 0 = 1 := csZ_01 (Or.inl rfl)
      refine sw_aload_n (n := 41) F 1 (some o) rfl rfl rfl dX4_cash_40 rfl ?_
      refine sw_get (n := 44) F 0 rfl (k := 2) ⟨(RX4, TX4, 50), rfl, by decide, q3801, in_X4, Or.inl rfl⟩ (v := .int (jI (csZ Md Cu Nt Lt v.toNat (Bl v.toNat) (Ln v.toNat).toNat 0))) rfl dX4_cash_41 rfl ?_
      refine sw_if_eq (n := 47) F (by omega) (tgt := 51) dX4_cash_44 (by decide) rfl (fun c_44 => ?_) (fun c_44 => ?_)
      ·
        refine sw_iconst (n := 52) F (0) (by decide) dX4_cash_51 rfl ?_
        refine sw_callV (n := 55) F (ct_X4_fails (g := xg x) (l := xl x) o a (va_up (va_up z 2 (csZ Md Cu Nt Lt v.toNat (Bl v.toNat) (Ln v.toNat).toNat 0)) 8 (ivP v (z 27))) 0 (by first | omega | assumption)) (rcv_ob F 0 (ci := 3) rfl rfl) q3973 q3975 qs68 q120 q3976 nd_X4_fails rfl (by decide) [0, 1, 2, 3, 4, 5, 6, 7, 8, 9] (perm_ok _ 10 (by decide +kernel) rfl) [aN (xg x) 0 (a 0) 2400 D1_6, aN (xg x) 0 (a 1) 10 M1_7, aI (xg x) 2 (a 11) 4 Md, aI (xg x) 0 (a 21) 20 Cu, aI (xg x) 0 (a 22) 20 Ln, aI (xg x) 4 (a 23) 20 Bl, aL (xg x) (a 25) 240 Nt, aI (xg x) 0 (a 26) 240 Lt, aI (xg x) 0 (a 10) 4 Co] rfl 0 0 ⟨by omega, by omega⟩ [] rfl (Nat.le_of_ble_eq_true rfl) dX4_cash_52 rfl (fun _ _ h => h.elim) (fun v Ws h => ?_)
        obtain ⟨rfl, hps_11, rfl⟩ := h
        show SW x [tmO (xg x) o a (va_up (va_up (va_up z 2 (csZ Md Cu Nt Lt v.toNat (Bl v.toNat) (Ln v.toNat).toNat 0)) 8 (ivP v (z 27))) 8 0), aN (xg x) 0 (a 0) 2400 D1_6, aN (xg x) 0 (a 1) 10 M1_7, aI (xg x) 2 (a 11) 4 Md, aI (xg x) 0 (a 21) 20 Cu, aI (xg x) 0 (a 22) 20 Ln, aI (xg x) 4 (a 23) 20 Bl, aL (xg x) (a 25) 240 Nt, aI (xg x) 0 (a 26) 240 Lt, aI (xg x) 0 (a 10) 4 Co] _ _ _ _ [.int (jI 0)]
        refine sw_if_eq (n := 58) F (by decide) (tgt := 60) dX4_cash_55 (by decide) rfl (fun c_55 => ?_) (fun c_55 => ?_)
        ·
          refine sw_aload_n (n := 61) F 1 (some o) rfl rfl rfl dX4_cash_60 rfl ?_
          refine sw_get (n := 64) F 0 rfl (k := 10) ⟨(RX4, TX4, 50), rfl, by decide, q3809, in_X4, Or.inl rfl⟩ (v := .ref (a 10)) rfl dX4_cash_61 rfl ?_
          refine sw_aload_n (n := 65) F 1 (some o) rfl rfl rfl dX4_cash_64 rfl ?_
          refine sw_get (n := 68) F 0 rfl (k := 21) ⟨(RX4, TX4, 50), rfl, by decide, q3820, in_X4, Or.inl rfl⟩ (v := .ref (a 21)) rfl dX4_cash_65 rfl ?_
          refine sw_iload_n (n := 69) F 2 rfl rfl dX4_cash_68 rfl ?_
          refine sw_ialoadI (n := 70) F 4 rfl (fun _ => rfl) v.toNat (by omega) (by omega) dX4_cash_69 rfl ?_
          refine sw_ialoadI (n := 71) F 9 rfl (fun _ => rfl) ((Cu v.toNat : Int).toNat) (by omega) (by omega) dX4_cash_70 rfl ?_
          refine sw_istore (n := 73) F (L2 := [(4, .int (jI (Co ((Cu v.toNat : Int).toNat)))), (2, .long (jL (csG Md Cu Nt Lt v.toNat (Bl v.toNat) (Ln v.toNat).toNat))), (0, .ref o), (1, .int (jI (↑(v.toNat))))]) rfl (by decide) dX4_cash_71 rfl ?_
          refine sw_lload_n (n := 74) F 1 rfl rfl dX4_cash_73 rfl ?_
          refine sw_iload (n := 76) F 0 rfl dX4_cash_74 rfl ?_
          refine sw_i2l (n := 77) F (by omega) dX4_cash_76 rfl ?_
          refine sw_lremP (n := 78) F (by omega) (by omega) (by omega) dX4_cash_77 rfl ?_
          have hm1 := Int.emod_nonneg (csG Md Cu Nt Lt v.toNat (Bl v.toNat) (Ln v.toNat).toNat) (show (Co (Cu v.toNat).toNat) ≠ 0 by omega)
          have hm2 := Int.emod_lt_of_pos (csG Md Cu Nt Lt v.toNat (Bl v.toNat) (Ln v.toNat).toNat) (show 0 < (Co (Cu v.toNat).toNat) by omega)
          refine sw_lstore (n := 80) F (L2 := [(5, .long (jL ((csG Md Cu Nt Lt v.toNat (Bl v.toNat) (Ln v.toNat).toNat) % (Co ((Cu v.toNat : Int).toNat))))), (4, .int (jI (Co ((Cu v.toNat : Int).toNat)))), (2, .long (jL (csG Md Cu Nt Lt v.toNat (Bl v.toNat) (Ln v.toNat).toNat))), (0, .ref o), (1, .int (jI (↑(v.toNat))))]) rfl (by decide) dX4_cash_78 rfl ?_
          refine sw_lload_n (n := 81) F 2 rfl rfl dX4_cash_80 rfl ?_
          refine sw_lload (n := 83) F 0 rfl dX4_cash_81 rfl ?_
          refine sw_lsub (n := 84) F dX4_cash_83 rfl ?_
          refine sw_ldc2 (n := 87) F (2) q4147 (by decide) dX4_cash_84 rfl ?_
          refine sw_lload (n := 89) F 0 rfl dX4_cash_87 rfl ?_
          refine sw_lmul (n := 90) F dX4_cash_89 rfl ?_
          refine sw_iload (n := 92) F 1 rfl dX4_cash_90 rfl ?_
          refine sw_i2l (n := 93) F (by omega) dX4_cash_92 rfl ?_
          refine sw_lcmp (n := 94) F (by omega) (by omega) dX4_cash_93 rfl ?_
          refine sw_if_lt (n := 97) F (by omega) (tgt := 103) dX4_cash_94 (by decide) rfl (fun c_94 => ?_) (fun c_94 => ?_)
          ·
            have c_94 : 2 * ((csG Md Cu Nt Lt v.toNat (Bl v.toNat) (Ln v.toNat).toNat) % (Co ((Cu v.toNat : Int).toNat))) < Co ((Cu v.toNat : Int).toNat) := by revert c_94; (repeat' split) <;> omega
            refine sw_lconst (n := 104) F 0 (by decide) dX4_cash_103 rfl ?_
            refine sw_ladd (n := 105) F dX4_cash_104 rfl ?_
            have e0 : ivP v (z 27) = 0 := by omega
            have e : cd2 2 (ivP v (z 27)) (lrI (csZ Md Cu Nt Lt v.toNat (Bl v.toNat) (Ln v.toNat).toNat 0) 1) = 0 := cd2_lt e0 (by omega)
            exact sw_lret F rfl dX4_cash_105 (by rw [hPo]; exact ⟨D1_6, M1_7, (by rw [e, if0_0]; unfold caV; first | rw [if_pos (by omega)] | rw [if_neg (by omega)]), (by exact v_10.mono (by simp)), (by rw [e]; simp only [up0_p e0, up_828, up_88, up_upI])⟩)
          ·
            have c_94 : 2 * ((csG Md Cu Nt Lt v.toNat (Bl v.toNat) (Ln v.toNat).toNat) % (Co ((Cu v.toNat : Int).toNat))) ≥ Co ((Cu v.toNat : Int).toNat) := by revert c_94; (repeat' split) <;> omega
            refine sw_iload (n := 99) F 1 rfl dX4_cash_97 rfl ?_
            refine sw_i2l (n := 100) F (by omega) dX4_cash_99 rfl ?_
            refine sw_goto F (n := 104) dX4_cash_100 (by decide) ?_
            refine sw_ladd (n := 105) F dX4_cash_104 rfl ?_
            have e0 : ivP v (z 27) = 0 := by omega
            have e : cd2 2 (ivP v (z 27)) (lrI (csZ Md Cu Nt Lt v.toNat (Bl v.toNat) (Ln v.toNat).toNat 0) 1) = 0 := cd2_lt e0 (by omega)
            exact sw_lret F rfl dX4_cash_105 (by rw [hPo]; exact ⟨D1_6, M1_7, (by rw [e, if0_0]; unfold caV; first | rw [if_pos (by omega)] | rw [if_neg (by omega)]), (by exact v_10.mono (by simp)), (by rw [e]; simp only [up0_p e0, up_828, up_88, up_upI])⟩)
        · exfalso; exact absurd c_55 (by decide)
      ·
        refine sw_iconst (n := 48) F (2) (by decide) dX4_cash_47 rfl ?_
        refine sw_goto F (n := 52) dX4_cash_48 (by decide) ?_
        refine sw_callV (n := 55) F (ct_X4_fails (g := xg x) (l := xl x) o a (va_up (va_up z 2 (csZ Md Cu Nt Lt v.toNat (Bl v.toNat) (Ln v.toNat).toNat 0)) 8 (ivP v (z 27))) 2 (by first | omega | assumption)) (rcv_ob F 0 (ci := 3) rfl rfl) q3973 q3975 qs68 q120 q3976 nd_X4_fails rfl (by decide) [0, 1, 2, 3, 4, 5, 6, 7, 8, 9] (perm_ok _ 10 (by decide +kernel) rfl) [aN (xg x) 0 (a 0) 2400 D1_6, aN (xg x) 0 (a 1) 10 M1_7, aI (xg x) 2 (a 11) 4 Md, aI (xg x) 0 (a 21) 20 Cu, aI (xg x) 0 (a 22) 20 Ln, aI (xg x) 4 (a 23) 20 Bl, aL (xg x) (a 25) 240 Nt, aI (xg x) 0 (a 26) 240 Lt, aI (xg x) 0 (a 10) 4 Co] rfl 0 0 ⟨by omega, by omega⟩ [] rfl (Nat.le_of_ble_eq_true rfl) dX4_cash_52 rfl (fun _ _ h => h.elim) (fun v Ws h => ?_)
        obtain ⟨rfl, hps_12, rfl⟩ := h
        show SW x [tmO (xg x) o a (va_up (va_up (va_up z 2 (csZ Md Cu Nt Lt v.toNat (Bl v.toNat) (Ln v.toNat).toNat 0)) 8 (ivP v (z 27))) 8 2), aN (xg x) 0 (a 0) 2400 D1_6, aN (xg x) 0 (a 1) 10 M1_7, aI (xg x) 2 (a 11) 4 Md, aI (xg x) 0 (a 21) 20 Cu, aI (xg x) 0 (a 22) 20 Ln, aI (xg x) 4 (a 23) 20 Bl, aL (xg x) (a 25) 240 Nt, aI (xg x) 0 (a 26) 240 Lt, aI (xg x) 0 (a 10) 4 Co] _ _ _ _ [.int (jI 1)]
        refine sw_if_eq (n := 58) F (by decide) (tgt := 60) dX4_cash_55 (by decide) rfl (fun c_55 => ?_) (fun c_55 => ?_)
        · exfalso; exact absurd c_55 (by decide)
        ·
          refine sw_lconst (n := 59) F 0 (by decide) dX4_cash_58 rfl ?_
          have e0 : ivP v (z 27) = 0 := by omega
          have e : cd2 2 (ivP v (z 27)) (lrI (csZ Md Cu Nt Lt v.toNat (Bl v.toNat) (Ln v.toNat).toNat 0) 1) = 2 := cd2_r e0 (by omega)
          exact sw_lret F rfl dX4_cash_59 (by rw [hPo]; exact ⟨D1_6, M1_7, (by rw [e]; rfl), (by exact v_10.mono (by simp)), (by rw [e]; simp only [up0_p e0, up_828, up_88, up_upI])⟩)
    ·
      refine sw_lconst (n := 21) F 0 (by decide) dX4_cash_20 rfl ?_
      have e0 : ivP v (z 27) ≠ 0 := by omega
      have e : cd2 2 (ivP v (z 27)) (lrI (csZ Md Cu Nt Lt v.toNat (Bl v.toNat) (Ln v.toNat).toNat 0) 1) = ivP v (z 27) := cd2_n e0
      exact sw_lret F rfl dX4_cash_21 (by rw [hPo]; exact ⟨D, M, (by first | rw [e, if0_n e0] | (rw [e]; exact congrArg _ (congrArg _ (if0_n e0)))), (by exact (RV.rf hA).mono (S := []) (by simp)), (by rw [e]; simp only [up0_n e0, up_828, up_88, up_upI])⟩)
  refine sw_aload_n (n := 2) F 0 (some o) rfl rfl rfl dX4_cash_1 rfl ?_
  refine sw_iload_n (n := 3) F 1 rfl rfl dX4_cash_2 rfl ?_
  refine sw_callV (n := 6) F (ct_X4_isInvoice (g := xg x) (l := xl x) o a z v hv hz27) (rcv_ob F 0 (ci := 3) rfl rfl) q4224 q4226 qs95 q120 q4227 nd_X4_isInvoice rfl (by decide) [0, 1, 2, 3, 4, 5, 6, 7, 8, 9] (perm_ok _ 10 (by decide +kernel) rfl) [aN (xg x) 0 (a 0) 2400 D, aN (xg x) 0 (a 1) 10 M, aI (xg x) 2 (a 11) 4 Md, aI (xg x) 0 (a 21) 20 Cu, aI (xg x) 0 (a 22) 20 Ln, aI (xg x) 4 (a 23) 20 Bl, aL (xg x) (a 25) 240 Nt, aI (xg x) 0 (a 26) 240 Lt, aI (xg x) 0 (a 10) 4 Co] rfl 0 0 ⟨by omega, by omega⟩ [.ref o] rfl (Nat.le_of_ble_eq_true rfl) dX4_cash_3 rfl (fun _ _ h => h.elim) (fun v Ws h => ?_)
  obtain ⟨rfl, hs_13, rfl⟩ := h
  show SW x [tmO (xg x) o a z, aN (xg x) 0 (a 0) 2400 D, aN (xg x) 0 (a 1) 10 M, aI (xg x) 2 (a 11) 4 Md, aI (xg x) 0 (a 21) 20 Cu, aI (xg x) 0 (a 22) 20 Ln, aI (xg x) 4 (a 23) 20 Bl, aL (xg x) (a 25) 240 Nt, aI (xg x) 0 (a 26) 240 Lt, aI (xg x) 0 (a 10) 4 Co] _ _ _ _ [.int (jI (inI v 0 (z 27 - 1))), .ref o]
  refine sw_if_eq (n := 9) F (by omega) (tgt := 13) dX4_cash_6 (by decide) rfl (fun c_6 => ?_) (fun c_6 => ?_)
  ·
    refine sw_iconst (n := 14) F (1) (by decide) dX4_cash_13 rfl ?_
    exact K14 1 (by unfold ivP; (repeat' split) <;> omega)
  ·
    refine sw_iconst (n := 10) F (0) (by decide) dX4_cash_9 rfl ?_
    refine sw_goto F (n := 14) dX4_cash_10 (by decide) ?_
    exact K14 0 (by unfold ivP; (repeat' split) <;> omega)
