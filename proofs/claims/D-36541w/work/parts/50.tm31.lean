def smW (W : Nat → Int) : Nat → Int
  | 0 => 0
  | k + 1 => smW W k + W k
def shV (u : Int) (W : Nat → Int) (a : Int) (k : Nat) : Int := u * W k / a
def rsV (u : Int) (W : Nat → Int) (a : Int) (k : Nat) : Int := u * W k % a
def shL (u : Int) (W : Nat → Int) (a : Int) : Nat → Int
  | 0 => u
  | k + 1 => shL u W a k - shV u W a k
def bst (R : Nat → Int) (c : Int) : Nat → Int
  | 0 => -1
  | k + 1 => if 0 < R k ∧ (bst R c k < 0 ∨ c = 98 ∨ (c = 108 ∧ R (bst R c k).toNat < R k)) then (k : Int) else bst R c k
def shS (c : Int) (m : Nat) (S R : Nat → Int) : Nat → (Nat → Int) × (Nat → Int)
  | 0 => (S, R)
  | t + 1 => (va_up (shS c m S R t).1 (bst (shS c m S R t).2 c m).toNat ((shS c m S R t).1 (bst (shS c m S R t).2 c m).toNat + 1), va_up (shS c m S R t).2 (bst (shS c m S R t).2 c m).toNat 0)
def cpo (R : Nat → Int) : Nat → Nat
  | 0 => 0
  | k + 1 => cpo R k + (if 0 < R k then 1 else 0)
theorem bst_rng (R : Nat → Int) (c : Int) : ∀ k : Nat, -1 ≤ bst R c k ∧ bst R c k < k ∧ (0 ≤ bst R c k → 0 < R (bst R c k).toNat) ∧ (0 < cpo R k → 0 ≤ bst R c k) := by
  intro k
  induction k with
  | zero => refine ⟨?_, ?_, ?_, ?_⟩ <;> simp [bst, cpo]
  | succ k ih =>
    obtain ⟨h1, h2, h3, h4⟩ := ih
    simp only [bst, cpo]
    by_cases e : 0 < R k ∧ (bst R c k < 0 ∨ c = 98 ∨ (c = 108 ∧ R (bst R c k).toNat < R k))
    · rw [if_pos e]
      refine ⟨by omega, by omega, fun _ => by rw [Int.toNat_natCast]; exact e.1, fun _ => by omega⟩
    · rw [if_neg e]
      refine ⟨h1, by omega, h3, fun q => ?_⟩
      split at q
      · rename_i hr
        rcases Int.lt_or_le (bst R c k) 0 with h | h
        · exact absurd ⟨hr, Or.inl h⟩ e
        · exact h
      · exact h4 q
theorem cpo_eq {R R' : Nat → Int} : ∀ k, (∀ j, j < k → R' j = R j) → cpo R' k = cpo R k := by
  intro k
  induction k with
  | zero => intro _; rfl
  | succ k ih => intro h; simp only [cpo]; rw [ih (fun j hj => h j (by omega)), h k (by omega)]
theorem cpo_up {R : Nat → Int} {b : Nat} (hb : 0 < R b) : ∀ m, b < m → cpo (va_up R b 0) m + 1 = cpo R m := by
  intro m
  induction m with
  | zero => intro h; omega
  | succ m ih =>
    intro h
    simp only [cpo]
    by_cases e : b = m
    · subst e
      rw [cpo_eq b (fun j hj => va_up_ne _ _ (by omega)), va_up_self, if_neg (by omega), if_pos hb]
    · rw [va_up_ne _ _ (show m ≠ b by omega)]
      have := ih (by omega)
      omega
theorem shS_cpo {c : Int} {m : Nat} {S R : Nat → Int} : ∀ t, t ≤ cpo R m → cpo (shS c m S R t).2 m + t = cpo R m := by
  intro t
  induction t with
  | zero => intro _; rfl
  | succ t ih =>
    intro h
    have h1 := ih (by omega)
    obtain ⟨b1, b2, b3, b4⟩ := bst_rng (shS c m S R t).2 c m
    have h2 := b4 (by omega)
    have h3 := cpo_up (b3 h2) m (by omega)
    show cpo (va_up (shS c m S R t).2 (bst (shS c m S R t).2 c m).toNat 0) m + (t + 1) = cpo R m
    omega
theorem shS_rng {c : Int} {m : Nat} {S R : Nat → Int} {y : Int} (h0 : 0 ≤ y) (h : BD 0 y R) : ∀ t, BD 0 y (shS c m S R t).2 := by
  intro t
  induction t with
  | zero => exact h
  | succ t ih =>
    intro j
    show 0 ≤ va_up (shS c m S R t).2 (bst (shS c m S R t).2 c m).toNat 0 j ∧ va_up (shS c m S R t).2 (bst (shS c m S R t).2 c m).toNat 0 j ≤ y
    by_cases e : j = (bst (shS c m S R t).2 c m).toNat
    · rw [e, va_up_self]; omega
    · rw [va_up_ne _ _ e]; exact ih j
theorem smW_rng {W : Nat → Int} (h : BD 0 9999 W) : ∀ k : Nat, 0 ≤ smW W k ∧ smW W k ≤ 9999 * k := by
  intro k
  induction k with
  | zero => show 0 ≤ (0 : Int) ∧ (0 : Int) ≤ _; omega
  | succ k ih => have := h k; simp only [smW]; omega
theorem smR_eq {u a : Int} {W : Nat → Int} : ∀ k : Nat, smW (rsV u W a) k = u * smW W k - a * (u - shL u W a k) := by
  intro k
  induction k with
  | zero => simp [smW, shL]
  | succ k ih =>
    have h1 := Int.emod_add_mul_ediv (u * W k) a
    simp only [smW, shL]
    rw [ih]
    unfold rsV shV
    rw [Int.mul_add u, Int.mul_sub a u, Int.mul_sub a u, Int.mul_sub a (shL u W a k)]
    omega
theorem smR_le {R : Nat → Int} {a : Int} (h : ∀ j, 0 ≤ R j ∧ R j < a) : ∀ k : Nat, 0 ≤ smW R k ∧ smW R k ≤ a * (cpo R k : Int) := by
  intro k
  induction k with
  | zero => simp [smW, cpo]
  | succ k ih =>
    have h1 := h k
    simp only [smW, cpo]
    split
    · rw [Int.natCast_add, Int.mul_add]; omega
    · rw [Nat.add_zero]; omega
theorem shL_ok {u a : Int} {W : Nat → Int} {n : Nat} (hu : 0 ≤ u) (hW : BD 0 9999 W) (ha : a = smW W n) (h0 : 0 < a) : 0 ≤ shL u W a n ∧ shL u W a n ≤ (cpo (rsV u W a) n : Int) := by
  have h1 := smR_eq (u := u) (a := a) (W := W) n
  have h2 := smR_le (R := rsV u W a) (a := a) (fun j => ⟨Int.emod_nonneg _ (by omega), Int.emod_lt_of_pos _ h0⟩) n
  rw [h1, ← ha, Int.mul_sub, Int.mul_comm u a] at h2
  have h3 : a * 0 ≤ a * shL u W a n := by omega
  have h4 : a * shL u W a n ≤ a * (cpo (rsV u W a) n : Int) := by omega
  exact ⟨Int.le_of_mul_le_mul_left h3 h0, Int.le_of_mul_le_mul_left h4 h0⟩
theorem cpo_le (R : Nat → Int) : ∀ k, cpo R k ≤ k := by
  intro k
  induction k with
  | zero => exact Nat.le_refl 0
  | succ k ih => simp only [cpo]; split <;> omega
theorem cpF_lt {f g : Nat → Int} {n : Nat} : ∀ j, j < n → cpF f g n j = g j := fun j h => if_pos h
theorem cpF_rng {f g : Nat → Int} {n : Nat} {y : Int} (h : BD 0 y f) (h2 : ∀ j, 0 ≤ g j ∧ g j ≤ y) : BD 0 y (cpF f g n) := by
  intro j; unfold cpF; split; exact h2 j; exact h j
def shP (u c a : Int) : Int := if u < 0 ∨ 1000000000000 < u ∨ ¬(c = 108 ∨ c = 102 ∨ c = 98) then 1 else if a = 0 then 2 else 0
theorem shP_c (u c a : Int) : (shP u c a = 1 ∧ (u < 0 ∨ 1000000000000 < u ∨ ¬(c = 108 ∨ c = 102 ∨ c = 98))) ∨ (shP u c a = 2 ∧ ¬(u < 0 ∨ 1000000000000 < u ∨ ¬(c = 108 ∨ c = 102 ∨ c = 98)) ∧ (a = 0)) ∨ (shP u c a = 0 ∧ ¬(u < 0 ∨ 1000000000000 < u ∨ ¬(c = 108 ∨ c = 102 ∨ c = 98)) ∧ ¬(a = 0)) := by
  unfold shP
  by_cases h0 : u < 0 ∨ 1000000000000 < u ∨ ¬(c = 108 ∨ c = 102 ∨ c = 98)
  · rw [if_pos h0]; exact Or.inl ⟨rfl, h0⟩
  · rw [if_neg h0]
    by_cases h1 : a = 0
    · rw [if_pos h1]; exact Or.inr (Or.inl ⟨rfl, h0, h1⟩)
    · rw [if_neg h1]
      exact Or.inr (Or.inr (⟨rfl, h0, h1⟩))
theorem shP_nn (u c a : Int) : 0 ≤ shP u c a ∧ shP u c a ≤ 2 := by
  unfold shP
  by_cases h0 : u < 0 ∨ 1000000000000 < u ∨ ¬(c = 108 ∨ c = 102 ∨ c = 98)
  · rw [if_pos h0]; decide
  · rw [if_neg h0]
    by_cases h1 : a = 0
    · rw [if_pos h1]; decide
    · rw [if_neg h1]
      decide
theorem shP_0 (u c a : Int) (h : shP u c a = 0) : ¬(u < 0 ∨ 1000000000000 < u ∨ ¬(c = 108 ∨ c = 102 ∨ c = 98)) ∧ ¬(a = 0) := by
  revert h
  unfold shP
  by_cases h0 : u < 0 ∨ 1000000000000 < u ∨ ¬(c = 108 ∨ c = 102 ∨ c = 98)
  · rw [if_pos h0]; exact fun h => absurd h (by decide)
  · rw [if_neg h0]
    by_cases h1 : a = 0
    · rw [if_pos h1]; exact fun h => absurd h (by decide)
    · rw [if_neg h1]
      exact fun _ => ⟨h0, h1⟩
theorem nd_X4_share : yX4_share.cls ≠ "java/lang/invoke/MethodHandle" ∧ yX4_share.cls ≠ "java/lang/invoke/VarHandle" ∧ (parseMethodDescriptor yX4_share.desc).map (fun d => d.parameters.length) = some 2 := by decide +kernel
set_option maxRecDepth 100000 in
set_option maxHeartbeats 16000000 in
theorem ct_X4_share {g : GG} {l : Launch} (o : Nat) (a : Nat → Nat) (z : Nat → Int) (Wg : Nat → Int) (Sh : Nat → Int) (Re : Nat → Int) (u : Int) (c : Int) (hWg : BD 0 9999 Wg) (hRe : BD 0 119988 Re) (hu : -9223372036854775808 ≤ u ∧ u ≤ 9223372036854775807) (hc : 0 ≤ c ∧ c ≤ 65535) (hz31 : 0 ≤ z 31 ∧ z 31 ≤ 12) : Ct g l yX4_share (ws_ yX4_share cX4_share 12 (Option.some Jvm.ClassFile.FieldType.int)) 2 37 0 0 [.ref o, .long (jL u), .int (jI c)] [tmO g o a z, aI g 0 (a 28) 12 Wg, aL g (a 29) 12 Sh, aL g (a 30) 12 Re] (fun v9 Ws9 => ∃ Re1 : Nat → Int, v9 = some (.int (jI (if0 (shP u c (smW Wg (z 31).toNat)) (shL u Wg (smW Wg (z 31).toNat) (z 31).toNat)))) ∧ (BD 0 119988 Re1) ∧ Ws9 = [tmO g o a (up0 (shP u c (smW Wg (z 31).toNat)) (up0 (shP u c (smW Wg (z 31).toNat)) (va_up z 8 (shP u c (smW Wg (z 31).toNat))) 31 0) 32 (z 31)), aI g 0 (a 28) 12 Wg, aL g (a 29) 12 (wh0 (shP u c (smW Wg (z 31).toNat)) (shS c (z 31).toNat (cpF Sh (shV u Wg (smW Wg (z 31).toNat)) (z 31).toNat) (cpF Re (rsV u Wg (smW Wg (z 31).toNat)) (z 31).toNat) (shL u Wg (smW Wg (z 31).toNat) (z 31).toNat).toNat).1 Sh), aL g (a 30) 12 Re1]) (nox) := by
  refine Ct.of (cc := cX4_share) (nL := 12) (ret := (Option.some Jvm.ClassFile.FieldType.int)) (by decide) rfl (Nat.le_of_ble_eq_true rfl) ?_
  intro x hg hl hPo hPx hmc hms F
  subst hg; subst hl
  refine SW.cast (L' := [(0, .ref o), (1, .long (jL u)), (3, .int (jI c))]) ?_ rfl rfl rfl
  refine sw_iconst (n := 1) F (0) (by decide) dX4_share_0 rfl ?_
  refine sw_istore (n := 3) F (L2 := [(4, .int (jI 0)), (0, .ref o), (1, .long (jL u)), (3, .int (jI c))]) rfl (by decide) dX4_share_1 rfl ?_
  refine sw_iconst (n := 4) F (0) (by decide) dX4_share_3 rfl ?_
  refine sw_istore (n := 6) F (L2 := [(5, .int (jI 0)), (4, .int (jI 0)), (0, .ref o), (1, .long (jL u)), (3, .int (jI c))]) rfl (by decide) dX4_share_4 rfl ?_
  have K6 : ∀ N6 : Nat, ∀ (k : Nat), ((k : Int) ≤ z 31) → ((13 - k) < N6) → SW x [tmO (xg x) o a z, aI (xg x) 0 (a 28) 12 Wg, aL (xg x) (a 29) 12 Sh, aL (xg x) (a 30) 12 Re] 0 0 6 [(0, .ref o), (1, .long (jL u)), (3, .int (jI c)), (4, .int (jI (smW Wg k))), (5, .int (jI (↑k)))] [] := by
    intro N6; induction N6 with
    | zero => intro k hk hmu6; omega
    | succ N6 ih6 =>
      intro k hk hmu6
      have hwk := hWg k
      have hsm := smW_rng hWg k
      refine sw_iload (n := 8) F 4 rfl dX4_share_6 rfl ?_
      refine sw_aload_n (n := 9) F 0 (some o) rfl rfl rfl dX4_share_8 rfl ?_
      refine sw_get (n := 12) F 0 rfl (k := 31) ⟨(RX4, TX4, 50), rfl, by decide, q3830, in_X4, Or.inl rfl⟩ (v := .int (jI (z 31))) rfl dX4_share_9 rfl ?_
      refine sw_icmp_ge (n := 15) F (by omega) (by omega) (tgt := 33) dX4_share_12 (by decide) rfl (fun c_12 => ?_) (fun c_12 => ?_)
      ·
        obtain rfl : k = (z 31).toNat := by omega
        refine sw_iload_n (n := 34) F 2 rfl rfl dX4_share_33 rfl ?_
        have K89 : ∀ (p9 : Int), (p9 = shP u c (smW Wg (z 31).toNat)) → SW x [tmO (xg x) o a z, aI (xg x) 0 (a 28) 12 Wg, aL (xg x) (a 29) 12 Sh, aL (xg x) (a 30) 12 Re] 0 0 89 [(0, .ref o), (1, .long (jL u)), (3, .int (jI c)), (4, .int (jI (smW Wg ((z 31).toNat))))] [.int (jI p9), .ref o] := by
          intro p9 hpc
          subst hpc
          have hcs := shP_nn u c (smW Wg (z 31).toNat)
          have hsm := smW_rng hWg (z 31).toNat
          refine sw_callV (n := 92) F (ct_X4_fails (g := xg x) (l := xl x) o a z (shP u c (smW Wg (z 31).toNat)) (by first | omega | assumption)) (rcv_ob F 0 (ci := 3) rfl rfl) q3973 q3975 qs68 q120 q3976 nd_X4_fails rfl (by decide) [0, 1, 2, 3] (perm_ok _ 4 (by decide +kernel) rfl) [aI (xg x) 0 (a 28) 12 Wg, aL (xg x) (a 29) 12 Sh, aL (xg x) (a 30) 12 Re] rfl 0 0 ⟨by omega, by omega⟩ [] rfl (Nat.le_of_ble_eq_true rfl) dX4_share_89 rfl (fun _ _ h => h.elim) (fun v Ws h => ?_)
          obtain ⟨rfl, hps_1, rfl⟩ := h
          show SW x [tmO (xg x) o a (va_up z 8 (shP u c (smW Wg (z 31).toNat))), aI (xg x) 0 (a 28) 12 Wg, aL (xg x) (a 29) 12 Sh, aL (xg x) (a 30) 12 Re] _ _ _ _ [.int (jI (psI (shP u c (smW Wg (z 31).toNat))))]
          refine sw_if_eq (n := 95) F (by omega) (tgt := 97) dX4_share_92 (by decide) rfl (fun c_92 => ?_) (fun c_92 => ?_)
          ·
            have e0 : shP u c (smW Wg (z 31).toNat) = 0 := by omega
            obtain ⟨hz0, hz1⟩ := shP_0 u c (smW Wg (z 31).toNat) e0
            have rg0 : 0 ≤ u ∧ u ≤ 1000000000000 := by omega
            have rg1 : 0 < smW Wg (z 31).toNat := by omega
            have rg2 : c = 108 ∨ c = 102 ∨ c = 98 := by omega
            clear hz0 hz1 hcs c_92 hps_1
            have ha0 : 0 < smW Wg (z 31).toNat := by omega
            have hlo := shL_ok (u := u) (W := Wg) (n := (z 31).toNat) (by omega) hWg rfl ha0
            refine sw_lload_n (n := 98) F 1 rfl rfl dX4_share_97 rfl ?_
            refine sw_lstore (n := 100) F (L2 := [(6, .long (jL u)), (0, .ref o), (1, .long (jL u)), (3, .int (jI c)), (4, .int (jI (smW Wg ((z 31).toNat))))]) rfl (by decide) dX4_share_98 rfl ?_
            refine sw_iconst (n := 101) F (0) (by decide) dX4_share_100 rfl ?_
            refine sw_istore (n := 103) F (L2 := [(8, .int (jI 0)), (6, .long (jL u)), (0, .ref o), (1, .long (jL u)), (3, .int (jI c)), (4, .int (jI (smW Wg ((z 31).toNat))))]) rfl (by decide) dX4_share_101 rfl ?_
            have K103 : ∀ N103 : Nat, ∀ (k : Nat), ((k : Int) ≤ z 31) → ((13 - k) < N103) → SW x [tmO (xg x) o a (va_up z 8 (shP u c (smW Wg (z 31).toNat))), aI (xg x) 0 (a 28) 12 Wg, aL (xg x) (a 29) 12 (cpF Sh (shV u Wg (smW Wg (z 31).toNat)) k), aL (xg x) (a 30) 12 (cpF Re (rsV u Wg (smW Wg (z 31).toNat)) k)] 0 0 103 [(0, .ref o), (1, .long (jL u)), (3, .int (jI c)), (4, .int (jI (smW Wg ((z 31).toNat)))), (6, .long (jL (shL u Wg (smW Wg (z 31).toNat) k))), (8, .int (jI (↑k)))] [] := by
              intro N103; induction N103 with
              | zero => intro k hk hmu103; omega
              | succ N103 ih103 =>
                intro k hk hmu103
                have hwk := hWg k
                have huw := mul_rng (a := u) (b := Wg k) (x := 1000000000000) (y := 9999) (by omega) hwk
                refine sw_iload (n := 105) F 5 rfl dX4_share_103 rfl ?_
                refine sw_aload_n (n := 106) F 0 (some o) rfl rfl rfl dX4_share_105 rfl ?_
                refine sw_get (n := 109) F 0 rfl (k := 31) ⟨(RX4, TX4, 50), rfl, by decide, q3830, in_X4, Or.inl rfl⟩ (v := .int (jI (z 31))) rfl dX4_share_106 rfl ?_
                refine sw_icmp_ge (n := 112) F (by omega) (by omega) (tgt := 172) dX4_share_109 (by decide) rfl (fun c_109 => ?_) (fun c_109 => ?_)
                ·
                  obtain rfl : k = (z 31).toNat := by omega
                  refine sw_aload_n (n := 173) F 0 (some o) rfl rfl rfl dX4_share_172 rfl ?_
                  refine sw_aload_n (n := 174) F 0 (some o) rfl rfl rfl dX4_share_173 rfl ?_
                  refine sw_get (n := 177) F 0 rfl (k := 31) ⟨(RX4, TX4, 50), rfl, by decide, q3830, in_X4, Or.inl rfl⟩ (v := .int (jI (z 31))) rfl dX4_share_174 rfl ?_
                  refine sw_put (n := 180) F 0 rfl (k := 32) ⟨(RX4, TX4, 50), rfl, by decide, q3831, in_X4, Or.inl rfl⟩ .int ⟨(RX4, TX4, 50), rfl, rfl, tyX4_ok 32 (by decide), nmX4, tyX4, tyX4_ok⟩ rfl rfl (Nat.le_of_ble_eq_true rfl) (fs' := tmF a (va_up (va_up z 8 (shP u c (smW Wg (z 31).toNat))) 32 (z 31))) rfl [tmO (xg x) o a (va_up (va_up z 8 (shP u c (smW Wg (z 31).toNat))) 32 (z 31)), aI (xg x) 0 (a 28) 12 Wg, aL (xg x) (a 29) 12 (cpF Sh (shV u Wg (smW Wg (z 31).toNat)) ((z 31).toNat)), aL (xg x) (a 30) 12 (cpF Re (rsV u Wg (smW Wg (z 31).toNat)) ((z 31).toNat))] rfl dX4_share_177 rfl ?_
                  refine sw_aload_n (n := 181) F 0 (some o) rfl rfl rfl dX4_share_180 rfl ?_
                  refine sw_iconst (n := 182) F (0) (by decide) dX4_share_181 rfl ?_
                  refine sw_put (n := 185) F 0 rfl (k := 31) ⟨(RX4, TX4, 50), rfl, by decide, q3830, in_X4, Or.inl rfl⟩ .int ⟨(RX4, TX4, 50), rfl, rfl, tyX4_ok 31 (by decide), nmX4, tyX4, tyX4_ok⟩ rfl rfl (Nat.le_of_ble_eq_true rfl) (fs' := tmF a (va_up (va_up (va_up z 8 (shP u c (smW Wg (z 31).toNat))) 31 0) 32 (z 31))) rfl [tmO (xg x) o a (va_up (va_up (va_up z 8 (shP u c (smW Wg (z 31).toNat))) 31 0) 32 (z 31)), aI (xg x) 0 (a 28) 12 Wg, aL (xg x) (a 29) 12 (cpF Sh (shV u Wg (smW Wg (z 31).toNat)) ((z 31).toNat)), aL (xg x) (a 30) 12 (cpF Re (rsV u Wg (smW Wg (z 31).toNat)) ((z 31).toNat))] rfl dX4_share_182 rfl ?_
                  refine sw_lconst (n := 186) F 0 (by decide) dX4_share_185 rfl ?_
                  refine sw_lstore (n := 188) F (L2 := [(8, .long (jL 0)), (0, .ref o), (1, .long (jL u)), (3, .int (jI c)), (4, .int (jI (smW Wg ((z 31).toNat)))), (6, .long (jL (shL u Wg (smW Wg (z 31).toNat) ((z 31).toNat))))]) rfl (by decide) dX4_share_186 rfl ?_
                  have K188 : ∀ N188 : Nat, ∀ (t : Nat), ((t : Int) ≤ shL u Wg (smW Wg (z 31).toNat) (z 31).toNat) → (((shL u Wg (smW Wg (z 31).toNat) (z 31).toNat).toNat - t) < N188) → SW x [tmO (xg x) o a (va_up (va_up (va_up z 8 (shP u c (smW Wg (z 31).toNat))) 31 0) 32 (z 31)), aI (xg x) 0 (a 28) 12 Wg, aL (xg x) (a 29) 12 ((shS c (z 31).toNat (cpF Sh (shV u Wg (smW Wg (z 31).toNat)) (z 31).toNat) (cpF Re (rsV u Wg (smW Wg (z 31).toNat)) (z 31).toNat) t).1), aL (xg x) (a 30) 12 ((shS c (z 31).toNat (cpF Sh (shV u Wg (smW Wg (z 31).toNat)) (z 31).toNat) (cpF Re (rsV u Wg (smW Wg (z 31).toNat)) (z 31).toNat) t).2)] 0 0 188 [(0, .ref o), (3, .int (jI c)), (6, .long (jL (shL u Wg (smW Wg (z 31).toNat) (z 31).toNat))), (8, .long (jL (↑t)))] [] := by
                    intro N188; induction N188 with
                    | zero => intro t ht hmu188; omega
                    | succ N188 ih188 =>
                      intro t ht hmu188
                      have hcl := cpo_le (rsV u Wg (smW Wg (z 31).toNat)) (z 31).toNat
                      have hceq : cpo (cpF Re (rsV u Wg (smW Wg (z 31).toNat)) (z 31).toNat) (z 31).toNat = cpo (rsV u Wg (smW Wg (z 31).toNat)) (z 31).toNat := cpo_eq _ cpF_lt
                      have hrr : ∀ t, BD 0 119988 (shS c (z 31).toNat (cpF Sh (shV u Wg (smW Wg (z 31).toNat)) (z 31).toNat) (cpF Re (rsV u Wg (smW Wg (z 31).toNat)) (z 31).toNat) t).2 := shS_rng (by omega) (cpF_rng hRe (fun j => by have h1 := Int.emod_nonneg (u * Wg j) (show smW Wg (z 31).toNat ≠ 0 by omega); have h2 := Int.emod_lt_of_pos (u * Wg j) ha0; unfold rsV; omega))
                      refine sw_lload (n := 190) F 3 rfl dX4_share_188 rfl ?_
                      refine sw_lload (n := 192) F 2 rfl dX4_share_190 rfl ?_
                      refine sw_lcmp (n := 193) F (by omega) (by omega) dX4_share_192 rfl ?_
                      refine sw_if_ge (n := 196) F (by omega) (tgt := 296) dX4_share_193 (by decide) rfl (fun c_193 => ?_) (fun c_193 => ?_)
                      ·
                        have c_193 : ↑t ≥ shL u Wg (smW Wg (z 31).toNat) (z 31).toNat := by revert c_193; (repeat' split) <;> omega
                        obtain rfl : t = (shL u Wg (smW Wg (z 31).toNat) (z 31).toNat).toNat := by omega
                        refine sw_lload (n := 298) F 2 rfl dX4_share_296 rfl ?_
                        refine sw_l2i (n := 299) F dX4_share_298 rfl ?_
                        have e0 : shP u c (smW Wg (z 31).toNat) = 0 := by omega
                        exact sw_iret F _ rfl (by first | rfl | exact jI_nz (by omega) | exact jI_nc (by omega)) dX4_share_299 (by rw [hPo]; exact ⟨(shS c (z 31).toNat (cpF Sh (shV u Wg (smW Wg (z 31).toNat)) (z 31).toNat) (cpF Re (rsV u Wg (smW Wg (z 31).toNat)) (z 31).toNat) ((shL u Wg (smW Wg (z 31).toNat) (z 31).toNat).toNat)).2, (by rw [if0_p e0]), (by exact hrr ((shL u Wg (smW Wg (z 31).toNat) (z 31).toNat).toNat)), (by simp only [up0_p e0, wh0_p e0])⟩)
                      ·
                        have c_193 : ↑t < shL u Wg (smW Wg (z 31).toNat) (z 31).toNat := by revert c_193; (repeat' split) <;> omega
                        refine sw_iconst (n := 197) F (-1) (by decide) dX4_share_196 rfl ?_
                        refine sw_istore (n := 199) F (L2 := [(10, .int (jI (-1))), (0, .ref o), (3, .int (jI c)), (6, .long (jL (shL u Wg (smW Wg (z 31).toNat) (z 31).toNat))), (8, .long (jL (↑t)))]) rfl (by decide) dX4_share_197 rfl ?_
                        refine sw_iconst (n := 200) F (0) (by decide) dX4_share_199 rfl ?_
                        refine sw_istore (n := 202) F (L2 := [(11, .int (jI 0)), (10, .int (jI (-1))), (0, .ref o), (3, .int (jI c)), (6, .long (jL (shL u Wg (smW Wg (z 31).toNat) (z 31).toNat))), (8, .long (jL (↑t)))]) rfl (by decide) dX4_share_200 rfl ?_
                        have K202 : ∀ N202 : Nat, ∀ (k : Nat) (b : Int), ((k : Int) ≤ z 31) → (b = bst (shS c (z 31).toNat (cpF Sh (shV u Wg (smW Wg (z 31).toNat)) (z 31).toNat) (cpF Re (rsV u Wg (smW Wg (z 31).toNat)) (z 31).toNat) t).2 c k) → ((13 - k) < N202) → SW x [tmO (xg x) o a (va_up (va_up (va_up z 8 (shP u c (smW Wg (z 31).toNat))) 31 0) 32 (z 31)), aI (xg x) 0 (a 28) 12 Wg, aL (xg x) (a 29) 12 ((shS c (z 31).toNat (cpF Sh (shV u Wg (smW Wg (z 31).toNat)) (z 31).toNat) (cpF Re (rsV u Wg (smW Wg (z 31).toNat)) (z 31).toNat) t).1), aL (xg x) (a 30) 12 ((shS c (z 31).toNat (cpF Sh (shV u Wg (smW Wg (z 31).toNat)) (z 31).toNat) (cpF Re (rsV u Wg (smW Wg (z 31).toNat)) (z 31).toNat) t).2)] 0 0 202 [(0, .ref o), (3, .int (jI c)), (6, .long (jL (shL u Wg (smW Wg (z 31).toNat) (z 31).toNat))), (8, .long (jL (↑t))), (10, .int (jI b)), (11, .int (jI (↑k)))] [] := by
                          intro N202; induction N202 with
                          | zero => intro k b hk2 hb hmu202; omega
                          | succ N202 ih202 =>
                            intro k b hk2 hb hmu202
                            have hrk := hrr t k
                            have hbr := bst_rng (shS c (z 31).toNat (cpF Sh (shV u Wg (smW Wg (z 31).toNat)) (z 31).toNat) (cpF Re (rsV u Wg (smW Wg (z 31).toNat)) (z 31).toNat) t).2 c k
                            have hrb := hrr t (bst (shS c (z 31).toNat (cpF Sh (shV u Wg (smW Wg (z 31).toNat)) (z 31).toNat) (cpF Re (rsV u Wg (smW Wg (z 31).toNat)) (z 31).toNat) t).2 c k).toNat
                            subst hb
                            refine sw_iload (n := 204) F 5 rfl dX4_share_202 rfl ?_
                            refine sw_aload_n (n := 205) F 0 (some o) rfl rfl rfl dX4_share_204 rfl ?_
                            refine sw_get (n := 208) F 0 rfl (k := 32) ⟨(RX4, TX4, 50), rfl, by decide, q3831, in_X4, Or.inl rfl⟩ (v := .int (jI (z 31))) rfl dX4_share_205 rfl ?_
                            refine sw_icmp_ge (n := 211) F (by omega) (by omega) (tgt := 268) dX4_share_208 (by decide) rfl (fun c_208 => ?_) (fun c_208 => ?_)
                            ·
                              obtain rfl : k = (z 31).toNat := by omega
                              have hcp := shS_cpo (c := c) (m := (z 31).toNat) (S := (cpF Sh (shV u Wg (smW Wg (z 31).toNat)) (z 31).toNat)) (R := (cpF Re (rsV u Wg (smW Wg (z 31).toNat)) (z 31).toNat)) t (by omega)
                              have hbn := hbr.2.2.2 (by omega)
                              refine sw_aload_n (n := 269) F 0 (some o) rfl rfl rfl dX4_share_268 rfl ?_
                              refine sw_get (n := 272) F 0 rfl (k := 29) ⟨(RX4, TX4, 50), rfl, by decide, q3828, in_X4, Or.inl rfl⟩ (v := .ref (a 29)) rfl dX4_share_269 rfl ?_
                              refine sw_iload (n := 274) F 4 rfl dX4_share_272 rfl ?_
                              refine sw_dup2_1 (n := 275) F rfl rfl dX4_share_274 rfl ?_
                              refine sw_laloadL (n := 276) F 2 rfl (fun _ => rfl) ((bst (shS c (z 31).toNat (cpF Sh (shV u Wg (smW Wg (z 31).toNat)) (z 31).toNat) (cpF Re (rsV u Wg (smW Wg (z 31).toNat)) (z 31).toNat) t).2 c ((z 31).toNat) : Int).toNat) (by omega) (by omega) dX4_share_275 rfl ?_
                              refine sw_lconst (n := 277) F 1 (by decide) dX4_share_276 rfl ?_
                              refine sw_ladd (n := 278) F dX4_share_277 rfl ?_
                              refine sw_lastoreL (n := 279) F 2 rfl (fun _ => rfl) ((bst (shS c (z 31).toNat (cpF Sh (shV u Wg (smW Wg (z 31).toNat)) (z 31).toNat) (cpF Re (rsV u Wg (smW Wg (z 31).toNat)) (z 31).toNat) t).2 c ((z 31).toNat) : Int).toNat) (by omega) (by omega) [tmO (xg x) o a (va_up (va_up (va_up z 8 (shP u c (smW Wg (z 31).toNat))) 31 0) 32 (z 31)), aI (xg x) 0 (a 28) 12 Wg, aL (xg x) (a 29) 12 (va_up ((shS c (z 31).toNat (cpF Sh (shV u Wg (smW Wg (z 31).toNat)) (z 31).toNat) (cpF Re (rsV u Wg (smW Wg (z 31).toNat)) (z 31).toNat) t).1) ((bst (shS c (z 31).toNat (cpF Sh (shV u Wg (smW Wg (z 31).toNat)) (z 31).toNat) (cpF Re (rsV u Wg (smW Wg (z 31).toNat)) (z 31).toNat) t).2 c ((z 31).toNat) : Int).toNat) ((((shS c (z 31).toNat (cpF Sh (shV u Wg (smW Wg (z 31).toNat)) (z 31).toNat) (cpF Re (rsV u Wg (smW Wg (z 31).toNat)) (z 31).toNat) t).1) ((bst (shS c (z 31).toNat (cpF Sh (shV u Wg (smW Wg (z 31).toNat)) (z 31).toNat) (cpF Re (rsV u Wg (smW Wg (z 31).toNat)) (z 31).toNat) t).2 c ((z 31).toNat) : Int).toNat)) + 1)), aL (xg x) (a 30) 12 ((shS c (z 31).toNat (cpF Sh (shV u Wg (smW Wg (z 31).toNat)) (z 31).toNat) (cpF Re (rsV u Wg (smW Wg (z 31).toNat)) (z 31).toNat) t).2)] (by simp [List.set]) dX4_share_278 rfl ?_
                              refine sw_aload_n (n := 280) F 0 (some o) rfl rfl rfl dX4_share_279 rfl ?_
                              refine sw_get (n := 283) F 0 rfl (k := 30) ⟨(RX4, TX4, 50), rfl, by decide, q3829, in_X4, Or.inl rfl⟩ (v := .ref (a 30)) rfl dX4_share_280 rfl ?_
                              refine sw_iload (n := 285) F 4 rfl dX4_share_283 rfl ?_
                              refine sw_lconst (n := 286) F 0 (by decide) dX4_share_285 rfl ?_
                              refine sw_lastoreL (n := 287) F 3 rfl (fun _ => rfl) ((bst (shS c (z 31).toNat (cpF Sh (shV u Wg (smW Wg (z 31).toNat)) (z 31).toNat) (cpF Re (rsV u Wg (smW Wg (z 31).toNat)) (z 31).toNat) t).2 c ((z 31).toNat) : Int).toNat) (by omega) (by omega) [tmO (xg x) o a (va_up (va_up (va_up z 8 (shP u c (smW Wg (z 31).toNat))) 31 0) 32 (z 31)), aI (xg x) 0 (a 28) 12 Wg, aL (xg x) (a 29) 12 (va_up ((shS c (z 31).toNat (cpF Sh (shV u Wg (smW Wg (z 31).toNat)) (z 31).toNat) (cpF Re (rsV u Wg (smW Wg (z 31).toNat)) (z 31).toNat) t).1) ((bst (shS c (z 31).toNat (cpF Sh (shV u Wg (smW Wg (z 31).toNat)) (z 31).toNat) (cpF Re (rsV u Wg (smW Wg (z 31).toNat)) (z 31).toNat) t).2 c ((z 31).toNat) : Int).toNat) ((((shS c (z 31).toNat (cpF Sh (shV u Wg (smW Wg (z 31).toNat)) (z 31).toNat) (cpF Re (rsV u Wg (smW Wg (z 31).toNat)) (z 31).toNat) t).1) ((bst (shS c (z 31).toNat (cpF Sh (shV u Wg (smW Wg (z 31).toNat)) (z 31).toNat) (cpF Re (rsV u Wg (smW Wg (z 31).toNat)) (z 31).toNat) t).2 c ((z 31).toNat) : Int).toNat)) + 1)), aL (xg x) (a 30) 12 (va_up ((shS c (z 31).toNat (cpF Sh (shV u Wg (smW Wg (z 31).toNat)) (z 31).toNat) (cpF Re (rsV u Wg (smW Wg (z 31).toNat)) (z 31).toNat) t).2) ((bst (shS c (z 31).toNat (cpF Sh (shV u Wg (smW Wg (z 31).toNat)) (z 31).toNat) (cpF Re (rsV u Wg (smW Wg (z 31).toNat)) (z 31).toNat) t).2 c ((z 31).toNat) : Int).toNat) 0)] (by simp [List.set]) dX4_share_286 rfl ?_
                              refine sw_lload (n := 289) F 3 rfl dX4_share_287 rfl ?_
                              refine sw_lconst (n := 290) F 1 (by decide) dX4_share_289 rfl ?_
                              refine sw_ladd (n := 291) F dX4_share_290 rfl ?_
                              refine sw_lstore (n := 293) F (L2 := [(8, .long (jL ((↑t) + 1))), (0, .ref o), (3, .int (jI c)), (6, .long (jL (shL u Wg (smW Wg (z 31).toNat) (z 31).toNat))), (10, .int (jI (bst (shS c (z 31).toNat (cpF Sh (shV u Wg (smW Wg (z 31).toNat)) (z 31).toNat) (cpF Re (rsV u Wg (smW Wg (z 31).toNat)) (z 31).toNat) t).2 c ((z 31).toNat)))), (11, .int (jI (↑((z 31).toNat))))]) rfl (by decide) dX4_share_291 rfl ?_
                              refine sw_goto F (n := 188) dX4_share_293 (by decide) ?_
                              show SW x [tmO (xg x) o a (va_up (va_up (va_up z 8 (shP u c (smW Wg (z 31).toNat))) 31 0) 32 (z 31)), aI (xg x) 0 (a 28) 12 Wg, aL (xg x) (a 29) 12 ((shS c (z 31).toNat (cpF Sh (shV u Wg (smW Wg (z 31).toNat)) (z 31).toNat) (cpF Re (rsV u Wg (smW Wg (z 31).toNat)) (z 31).toNat) (t + 1)).1), aL (xg x) (a 30) 12 ((shS c (z 31).toNat (cpF Sh (shV u Wg (smW Wg (z 31).toNat)) (z 31).toNat) (cpF Re (rsV u Wg (smW Wg (z 31).toNat)) (z 31).toNat) (t + 1)).2)] _ _ _ _ []
                              refine sw_loc [1, 2, 3, 0] (L2 := [(0, .ref o), (3, .int (jI c)), (6, .long (jL (shL u Wg (smW Wg (z 31).toNat) (z 31).toNat))), (8, .long (jL ((↑t) + 1)))]) rfl ?_
                              rw [show ((↑t) + 1 : Int) = ↑((t) + 1) by omega]
                              exact ih188 ((t) + 1) (by omega) (by omega)
                            ·
                              refine sw_aload_n (n := 212) F 0 (some o) rfl rfl rfl dX4_share_211 rfl ?_
                              refine sw_get (n := 215) F 0 rfl (k := 30) ⟨(RX4, TX4, 50), rfl, by decide, q3829, in_X4, Or.inl rfl⟩ (v := .ref (a 30)) rfl dX4_share_212 rfl ?_
                              refine sw_iload (n := 217) F 5 rfl dX4_share_215 rfl ?_
                              refine sw_laloadL (n := 218) F 3 rfl (fun _ => rfl) k rfl (by omega) dX4_share_217 rfl ?_
                              refine sw_lconst (n := 219) F 0 (by decide) dX4_share_218 rfl ?_
                              refine sw_lcmp (n := 220) F (by omega) (by decide) dX4_share_219 rfl ?_
                              refine sw_if_le (n := 223) F (by omega) (tgt := 262) dX4_share_220 (by decide) rfl (fun c_220 => ?_) (fun c_220 => ?_)
                              ·
                                have c_220 : ((shS c (z 31).toNat (cpF Sh (shV u Wg (smW Wg (z 31).toNat)) (z 31).toNat) (cpF Re (rsV u Wg (smW Wg (z 31).toNat)) (z 31).toNat) t).2) k ≤ 0 := by revert c_220; (repeat' split) <;> omega
                                refine sw_iinc (n := 265) F 5 (L2 := [(11, .int (jI (↑k + 1))), (0, .ref o), (3, .int (jI c)), (6, .long (jL (shL u Wg (smW Wg (z 31).toNat) (z 31).toNat))), (8, .long (jL (↑t))), (10, .int (jI (bst (shS c (z 31).toNat (cpF Sh (shV u Wg (smW Wg (z 31).toNat)) (z 31).toNat) (cpF Re (rsV u Wg (smW Wg (z 31).toNat)) (z 31).toNat) t).2 c k)))]) rfl rfl (by decide) dX4_share_262 rfl ?_
                                refine sw_goto F (n := 202) dX4_share_265 (by decide) ?_
                                refine sw_loc [1, 2, 3, 4, 5, 0] (L2 := [(0, .ref o), (3, .int (jI c)), (6, .long (jL (shL u Wg (smW Wg (z 31).toNat) (z 31).toNat))), (8, .long (jL (↑t))), (10, .int (jI (bst (shS c (z 31).toNat (cpF Sh (shV u Wg (smW Wg (z 31).toNat)) (z 31).toNat) (cpF Re (rsV u Wg (smW Wg (z 31).toNat)) (z 31).toNat) t).2 c k))), (11, .int (jI (↑k + 1)))]) rfl ?_
                                rw [show (↑k + 1 : Int) = ↑(k + 1) by omega]
                                exact ih202 (k + 1) (bst (shS c (z 31).toNat (cpF Sh (shV u Wg (smW Wg (z 31).toNat)) (z 31).toNat) (cpF Re (rsV u Wg (smW Wg (z 31).toNat)) (z 31).toNat) t).2 c k) (by omega) (by first | rfl | (simp only [bst]; rw [if_pos ⟨by omega, by omega⟩]) | (simp only [bst]; rw [if_neg (by omega)])) (by omega)
                              ·
                                have c_220 : ((shS c (z 31).toNat (cpF Sh (shV u Wg (smW Wg (z 31).toNat)) (z 31).toNat) (cpF Re (rsV u Wg (smW Wg (z 31).toNat)) (z 31).toNat) t).2) k > 0 := by revert c_220; (repeat' split) <;> omega
                                refine sw_iload (n := 225) F 4 rfl dX4_share_223 rfl ?_
                                refine sw_if_lt (n := 228) F (by omega) (tgt := 258) dX4_share_225 (by decide) rfl (fun c_225 => ?_) (fun c_225 => ?_)
                                ·
                                  refine sw_iload (n := 260) F 5 rfl dX4_share_258 rfl ?_
                                  refine sw_istore (n := 262) F (L2 := [(10, .int (jI (↑k))), (0, .ref o), (3, .int (jI c)), (6, .long (jL (shL u Wg (smW Wg (z 31).toNat) (z 31).toNat))), (8, .long (jL (↑t))), (11, .int (jI (↑k)))]) rfl (by decide) dX4_share_260 rfl ?_
                                  refine sw_iinc (n := 265) F 5 (L2 := [(11, .int (jI (↑k + 1))), (10, .int (jI (↑k))), (0, .ref o), (3, .int (jI c)), (6, .long (jL (shL u Wg (smW Wg (z 31).toNat) (z 31).toNat))), (8, .long (jL (↑t)))]) rfl rfl (by decide) dX4_share_262 rfl ?_
                                  refine sw_goto F (n := 202) dX4_share_265 (by decide) ?_
                                  refine sw_loc [2, 3, 4, 5, 1, 0] (L2 := [(0, .ref o), (3, .int (jI c)), (6, .long (jL (shL u Wg (smW Wg (z 31).toNat) (z 31).toNat))), (8, .long (jL (↑t))), (10, .int (jI (↑k))), (11, .int (jI (↑k + 1)))]) rfl ?_
                                  rw [show (↑k + 1 : Int) = ↑(k + 1) by omega]
                                  exact ih202 (k + 1) (↑k) (by omega) (by first | rfl | (simp only [bst]; rw [if_pos ⟨by omega, by omega⟩]) | (simp only [bst]; rw [if_neg (by omega)])) (by omega)
                                ·
                                  refine sw_iload_n (n := 229) F 1 rfl rfl dX4_share_228 rfl ?_
                                  refine sw_bipush (n := 231) F (98) (by decide) dX4_share_229 rfl ?_
                                  refine sw_icmp_eq (n := 234) F (by omega) (by decide) (tgt := 258) dX4_share_231 (by decide) rfl (fun c_231 => ?_) (fun c_231 => ?_)
                                  ·
                                    refine sw_iload (n := 260) F 5 rfl dX4_share_258 rfl ?_
                                    refine sw_istore (n := 262) F (L2 := [(10, .int (jI (↑k))), (0, .ref o), (3, .int (jI c)), (6, .long (jL (shL u Wg (smW Wg (z 31).toNat) (z 31).toNat))), (8, .long (jL (↑t))), (11, .int (jI (↑k)))]) rfl (by decide) dX4_share_260 rfl ?_
                                    refine sw_iinc (n := 265) F 5 (L2 := [(11, .int (jI (↑k + 1))), (10, .int (jI (↑k))), (0, .ref o), (3, .int (jI c)), (6, .long (jL (shL u Wg (smW Wg (z 31).toNat) (z 31).toNat))), (8, .long (jL (↑t)))]) rfl rfl (by decide) dX4_share_262 rfl ?_
                                    refine sw_goto F (n := 202) dX4_share_265 (by decide) ?_
                                    refine sw_loc [2, 3, 4, 5, 1, 0] (L2 := [(0, .ref o), (3, .int (jI c)), (6, .long (jL (shL u Wg (smW Wg (z 31).toNat) (z 31).toNat))), (8, .long (jL (↑t))), (10, .int (jI (↑k))), (11, .int (jI (↑k + 1)))]) rfl ?_
                                    rw [show (↑k + 1 : Int) = ↑(k + 1) by omega]
                                    exact ih202 (k + 1) (↑k) (by omega) (by first | rfl | (simp only [bst]; rw [if_pos ⟨by omega, by omega⟩]) | (simp only [bst]; rw [if_neg (by omega)])) (by omega)
                                  ·
                                    refine sw_iload_n (n := 235) F 1 rfl rfl dX4_share_234 rfl ?_
                                    refine sw_bipush (n := 237) F (108) (by decide) dX4_share_235 rfl ?_
                                    refine sw_icmp_ne (n := 240) F (by omega) (by decide) (tgt := 262) dX4_share_237 (by decide) rfl (fun c_237 => ?_) (fun c_237 => ?_)
                                    ·
                                      refine sw_iinc (n := 265) F 5 (L2 := [(11, .int (jI (↑k + 1))), (0, .ref o), (3, .int (jI c)), (6, .long (jL (shL u Wg (smW Wg (z 31).toNat) (z 31).toNat))), (8, .long (jL (↑t))), (10, .int (jI (bst (shS c (z 31).toNat (cpF Sh (shV u Wg (smW Wg (z 31).toNat)) (z 31).toNat) (cpF Re (rsV u Wg (smW Wg (z 31).toNat)) (z 31).toNat) t).2 c k)))]) rfl rfl (by decide) dX4_share_262 rfl ?_
                                      refine sw_goto F (n := 202) dX4_share_265 (by decide) ?_
                                      refine sw_loc [1, 2, 3, 4, 5, 0] (L2 := [(0, .ref o), (3, .int (jI c)), (6, .long (jL (shL u Wg (smW Wg (z 31).toNat) (z 31).toNat))), (8, .long (jL (↑t))), (10, .int (jI (bst (shS c (z 31).toNat (cpF Sh (shV u Wg (smW Wg (z 31).toNat)) (z 31).toNat) (cpF Re (rsV u Wg (smW Wg (z 31).toNat)) (z 31).toNat) t).2 c k))), (11, .int (jI (↑k + 1)))]) rfl ?_
                                      rw [show (↑k + 1 : Int) = ↑(k + 1) by omega]
                                      exact ih202 (k + 1) (bst (shS c (z 31).toNat (cpF Sh (shV u Wg (smW Wg (z 31).toNat)) (z 31).toNat) (cpF Re (rsV u Wg (smW Wg (z 31).toNat)) (z 31).toNat) t).2 c k) (by omega) (by first | rfl | (simp only [bst]; rw [if_pos ⟨by omega, by omega⟩]) | (simp only [bst]; rw [if_neg (by omega)])) (by omega)
                                    ·
                                      refine sw_aload_n (n := 241) F 0 (some o) rfl rfl rfl dX4_share_240 rfl ?_
                                      refine sw_get (n := 244) F 0 rfl (k := 30) ⟨(RX4, TX4, 50), rfl, by decide, q3829, in_X4, Or.inl rfl⟩ (v := .ref (a 30)) rfl dX4_share_241 rfl ?_
                                      refine sw_iload (n := 246) F 5 rfl dX4_share_244 rfl ?_
                                      refine sw_laloadL (n := 247) F 3 rfl (fun _ => rfl) k rfl (by omega) dX4_share_246 rfl ?_
                                      refine sw_aload_n (n := 248) F 0 (some o) rfl rfl rfl dX4_share_247 rfl ?_
                                      refine sw_get (n := 251) F 0 rfl (k := 30) ⟨(RX4, TX4, 50), rfl, by decide, q3829, in_X4, Or.inl rfl⟩ (v := .ref (a 30)) rfl dX4_share_248 rfl ?_
                                      refine sw_iload (n := 253) F 4 rfl dX4_share_251 rfl ?_
                                      refine sw_laloadL (n := 254) F 3 rfl (fun _ => rfl) ((bst (shS c (z 31).toNat (cpF Sh (shV u Wg (smW Wg (z 31).toNat)) (z 31).toNat) (cpF Re (rsV u Wg (smW Wg (z 31).toNat)) (z 31).toNat) t).2 c k : Int).toNat) (by omega) (by omega) dX4_share_253 rfl ?_
                                      refine sw_lcmp (n := 255) F (by omega) (by omega) dX4_share_254 rfl ?_
                                      refine sw_if_le (n := 258) F (by omega) (tgt := 262) dX4_share_255 (by decide) rfl (fun c_255 => ?_) (fun c_255 => ?_)
                                      ·
                                        have c_255 : ((shS c (z 31).toNat (cpF Sh (shV u Wg (smW Wg (z 31).toNat)) (z 31).toNat) (cpF Re (rsV u Wg (smW Wg (z 31).toNat)) (z 31).toNat) t).2) k ≤ ((shS c (z 31).toNat (cpF Sh (shV u Wg (smW Wg (z 31).toNat)) (z 31).toNat) (cpF Re (rsV u Wg (smW Wg (z 31).toNat)) (z 31).toNat) t).2) ((bst (shS c (z 31).toNat (cpF Sh (shV u Wg (smW Wg (z 31).toNat)) (z 31).toNat) (cpF Re (rsV u Wg (smW Wg (z 31).toNat)) (z 31).toNat) t).2 c k : Int).toNat) := by revert c_255; (repeat' split) <;> omega
                                        refine sw_iinc (n := 265) F 5 (L2 := [(11, .int (jI (↑k + 1))), (0, .ref o), (3, .int (jI c)), (6, .long (jL (shL u Wg (smW Wg (z 31).toNat) (z 31).toNat))), (8, .long (jL (↑t))), (10, .int (jI (bst (shS c (z 31).toNat (cpF Sh (shV u Wg (smW Wg (z 31).toNat)) (z 31).toNat) (cpF Re (rsV u Wg (smW Wg (z 31).toNat)) (z 31).toNat) t).2 c k)))]) rfl rfl (by decide) dX4_share_262 rfl ?_
                                        refine sw_goto F (n := 202) dX4_share_265 (by decide) ?_
                                        refine sw_loc [1, 2, 3, 4, 5, 0] (L2 := [(0, .ref o), (3, .int (jI c)), (6, .long (jL (shL u Wg (smW Wg (z 31).toNat) (z 31).toNat))), (8, .long (jL (↑t))), (10, .int (jI (bst (shS c (z 31).toNat (cpF Sh (shV u Wg (smW Wg (z 31).toNat)) (z 31).toNat) (cpF Re (rsV u Wg (smW Wg (z 31).toNat)) (z 31).toNat) t).2 c k))), (11, .int (jI (↑k + 1)))]) rfl ?_
                                        rw [show (↑k + 1 : Int) = ↑(k + 1) by omega]
                                        exact ih202 (k + 1) (bst (shS c (z 31).toNat (cpF Sh (shV u Wg (smW Wg (z 31).toNat)) (z 31).toNat) (cpF Re (rsV u Wg (smW Wg (z 31).toNat)) (z 31).toNat) t).2 c k) (by omega) (by first | rfl | (simp only [bst]; rw [if_pos ⟨by omega, by omega⟩]) | (simp only [bst]; rw [if_neg (by omega)])) (by omega)
                                      ·
                                        have c_255 : ((shS c (z 31).toNat (cpF Sh (shV u Wg (smW Wg (z 31).toNat)) (z 31).toNat) (cpF Re (rsV u Wg (smW Wg (z 31).toNat)) (z 31).toNat) t).2) k > ((shS c (z 31).toNat (cpF Sh (shV u Wg (smW Wg (z 31).toNat)) (z 31).toNat) (cpF Re (rsV u Wg (smW Wg (z 31).toNat)) (z 31).toNat) t).2) ((bst (shS c (z 31).toNat (cpF Sh (shV u Wg (smW Wg (z 31).toNat)) (z 31).toNat) (cpF Re (rsV u Wg (smW Wg (z 31).toNat)) (z 31).toNat) t).2 c k : Int).toNat) := by revert c_255; (repeat' split) <;> omega
                                        refine sw_iload (n := 260) F 5 rfl dX4_share_258 rfl ?_
                                        refine sw_istore (n := 262) F (L2 := [(10, .int (jI (↑k))), (0, .ref o), (3, .int (jI c)), (6, .long (jL (shL u Wg (smW Wg (z 31).toNat) (z 31).toNat))), (8, .long (jL (↑t))), (11, .int (jI (↑k)))]) rfl (by decide) dX4_share_260 rfl ?_
                                        refine sw_iinc (n := 265) F 5 (L2 := [(11, .int (jI (↑k + 1))), (10, .int (jI (↑k))), (0, .ref o), (3, .int (jI c)), (6, .long (jL (shL u Wg (smW Wg (z 31).toNat) (z 31).toNat))), (8, .long (jL (↑t)))]) rfl rfl (by decide) dX4_share_262 rfl ?_
                                        refine sw_goto F (n := 202) dX4_share_265 (by decide) ?_
                                        refine sw_loc [2, 3, 4, 5, 1, 0] (L2 := [(0, .ref o), (3, .int (jI c)), (6, .long (jL (shL u Wg (smW Wg (z 31).toNat) (z 31).toNat))), (8, .long (jL (↑t))), (10, .int (jI (↑k))), (11, .int (jI (↑k + 1)))]) rfl ?_
                                        rw [show (↑k + 1 : Int) = ↑(k + 1) by omega]
                                        exact ih202 (k + 1) (↑k) (by omega) (by first | rfl | (simp only [bst]; rw [if_pos ⟨by omega, by omega⟩]) | (simp only [bst]; rw [if_neg (by omega)])) (by omega)
                        refine sw_loc [2, 3, 4, 5, 1, 0] (L2 := [(0, .ref o), (3, .int (jI c)), (6, .long (jL (shL u Wg (smW Wg (z 31).toNat) (z 31).toNat))), (8, .long (jL (↑t))), (10, .int (jI (-1))), (11, .int (jI 0))]) rfl ?_
                        exact K202 _ 0 (-1) (by omega) (by first | rfl | (simp only [bst]; rw [if_pos ⟨by omega, by omega⟩]) | (simp only [bst]; rw [if_neg (by omega)])) (Nat.lt_succ_self _)
                  show SW x [tmO (xg x) o a (va_up (va_up (va_up z 8 (shP u c (smW Wg (z 31).toNat))) 31 0) 32 (z 31)), aI (xg x) 0 (a 28) 12 Wg, aL (xg x) (a 29) 12 ((shS c (z 31).toNat (cpF Sh (shV u Wg (smW Wg (z 31).toNat)) (z 31).toNat) (cpF Re (rsV u Wg (smW Wg (z 31).toNat)) (z 31).toNat) 0).1), aL (xg x) (a 30) 12 ((shS c (z 31).toNat (cpF Sh (shV u Wg (smW Wg (z 31).toNat)) (z 31).toNat) (cpF Re (rsV u Wg (smW Wg (z 31).toNat)) (z 31).toNat) 0).2)] _ _ _ _ []
                  refine sw_loc [1, 3, 5, 0] (L2 := [(0, .ref o), (3, .int (jI c)), (6, .long (jL (shL u Wg (smW Wg (z 31).toNat) ((z 31).toNat)))), (8, .long (jL 0))]) rfl ?_
                  exact K188 _ 0 (by omega) (Nat.lt_succ_self _)
                ·
                  refine sw_aload_n (n := 113) F 0 (some o) rfl rfl rfl dX4_share_112 rfl ?_
                  refine sw_get (n := 116) F 0 rfl (k := 29) ⟨(RX4, TX4, 50), rfl, by decide, q3828, in_X4, Or.inl rfl⟩ (v := .ref (a 29)) rfl dX4_share_113 rfl ?_
                  refine sw_iload (n := 118) F 5 rfl dX4_share_116 rfl ?_
                  refine sw_lload_n (n := 119) F 1 rfl rfl dX4_share_118 rfl ?_
                  refine sw_aload_n (n := 120) F 0 (some o) rfl rfl rfl dX4_share_119 rfl ?_
                  refine sw_get (n := 123) F 0 rfl (k := 28) ⟨(RX4, TX4, 50), rfl, by decide, q3827, in_X4, Or.inl rfl⟩ (v := .ref (a 28)) rfl dX4_share_120 rfl ?_
                  refine sw_iload (n := 125) F 5 rfl dX4_share_123 rfl ?_
                  refine sw_ialoadI (n := 126) F 1 rfl (fun _ => rfl) k rfl (by omega) dX4_share_125 rfl ?_
                  refine sw_i2l (n := 127) F (by omega) dX4_share_126 rfl ?_
                  refine sw_lmul (n := 128) F dX4_share_127 rfl ?_
                  refine sw_iload (n := 130) F 3 rfl dX4_share_128 rfl ?_
                  refine sw_i2l (n := 131) F (by omega) dX4_share_130 rfl ?_
                  refine sw_ldivP (n := 132) F (by omega) (by omega) (by omega) dX4_share_131 rfl ?_
                  refine sw_lastoreL (n := 133) F 2 rfl (fun _ => rfl) k rfl (by omega) [tmO (xg x) o a (va_up z 8 (shP u c (smW Wg (z 31).toNat))), aI (xg x) 0 (a 28) 12 Wg, aL (xg x) (a 29) 12 (va_up (cpF Sh (shV u Wg (smW Wg (z 31).toNat)) k) k ((u * (Wg k)) / (smW Wg ((z 31).toNat)))), aL (xg x) (a 30) 12 (cpF Re (rsV u Wg (smW Wg (z 31).toNat)) k)] (by simp [List.set]) dX4_share_132 rfl ?_
                  refine sw_aload_n (n := 134) F 0 (some o) rfl rfl rfl dX4_share_133 rfl ?_
                  refine sw_get (n := 137) F 0 rfl (k := 30) ⟨(RX4, TX4, 50), rfl, by decide, q3829, in_X4, Or.inl rfl⟩ (v := .ref (a 30)) rfl dX4_share_134 rfl ?_
                  refine sw_iload (n := 139) F 5 rfl dX4_share_137 rfl ?_
                  refine sw_lload_n (n := 140) F 1 rfl rfl dX4_share_139 rfl ?_
                  refine sw_aload_n (n := 141) F 0 (some o) rfl rfl rfl dX4_share_140 rfl ?_
                  refine sw_get (n := 144) F 0 rfl (k := 28) ⟨(RX4, TX4, 50), rfl, by decide, q3827, in_X4, Or.inl rfl⟩ (v := .ref (a 28)) rfl dX4_share_141 rfl ?_
                  refine sw_iload (n := 146) F 5 rfl dX4_share_144 rfl ?_
                  refine sw_ialoadI (n := 147) F 1 rfl (fun _ => rfl) k rfl (by omega) dX4_share_146 rfl ?_
                  refine sw_i2l (n := 148) F (by omega) dX4_share_147 rfl ?_
                  refine sw_lmul (n := 149) F dX4_share_148 rfl ?_
                  refine sw_iload (n := 151) F 3 rfl dX4_share_149 rfl ?_
                  refine sw_i2l (n := 152) F (by omega) dX4_share_151 rfl ?_
                  refine sw_lremP (n := 153) F (by omega) (by omega) (by omega) dX4_share_152 rfl ?_
                  refine sw_lastoreL (n := 154) F 3 rfl (fun _ => rfl) k rfl (by omega) [tmO (xg x) o a (va_up z 8 (shP u c (smW Wg (z 31).toNat))), aI (xg x) 0 (a 28) 12 Wg, aL (xg x) (a 29) 12 (va_up (cpF Sh (shV u Wg (smW Wg (z 31).toNat)) k) k ((u * (Wg k)) / (smW Wg ((z 31).toNat)))), aL (xg x) (a 30) 12 (va_up (cpF Re (rsV u Wg (smW Wg (z 31).toNat)) k) k ((u * (Wg k)) % (smW Wg ((z 31).toNat))))] (by simp [List.set]) dX4_share_153 rfl ?_
                  refine sw_lload (n := 156) F 4 rfl dX4_share_154 rfl ?_
                  refine sw_aload_n (n := 157) F 0 (some o) rfl rfl rfl dX4_share_156 rfl ?_
                  refine sw_get (n := 160) F 0 rfl (k := 29) ⟨(RX4, TX4, 50), rfl, by decide, q3828, in_X4, Or.inl rfl⟩ (v := .ref (a 29)) rfl dX4_share_157 rfl ?_
                  refine sw_iload (n := 162) F 5 rfl dX4_share_160 rfl ?_
                  refine sw_laloadL (n := 163) F 2 rfl (fun _ => rfl) k rfl (by omega) dX4_share_162 rfl ?_
                  rw [show (va_up (cpF Sh (shV u Wg (smW Wg (z 31).toNat)) k) k ((u * (Wg k)) / (smW Wg ((z 31).toNat)))) k = ((u * (Wg k)) / (smW Wg ((z 31).toNat))) from va_up_self _ _ _]
                  refine sw_lsub (n := 164) F dX4_share_163 rfl ?_
                  refine sw_lstore (n := 166) F (L2 := [(6, .long (jL ((shL u Wg (smW Wg (z 31).toNat) k) - ((u * (Wg k)) / (smW Wg ((z 31).toNat)))))), (0, .ref o), (1, .long (jL u)), (3, .int (jI c)), (4, .int (jI (smW Wg ((z 31).toNat)))), (8, .int (jI (↑k)))]) rfl (by decide) dX4_share_164 rfl ?_
                  refine sw_iinc (n := 169) F 5 (L2 := [(8, .int (jI (↑k + 1))), (6, .long (jL ((shL u Wg (smW Wg (z 31).toNat) k) - ((u * (Wg k)) / (smW Wg ((z 31).toNat)))))), (0, .ref o), (1, .long (jL u)), (3, .int (jI c)), (4, .int (jI (smW Wg ((z 31).toNat))))]) rfl rfl (by decide) dX4_share_166 rfl ?_
                  refine sw_goto F (n := 103) dX4_share_169 (by decide) ?_
                  have e1 : va_up (cpF Sh (shV u Wg (smW Wg (z 31).toNat)) k) k ((u * (Wg k)) / (smW Wg ((z 31).toNat))) = cpF Sh (shV u Wg (smW Wg (z 31).toNat)) (k + 1) := cpF_s _ _ _
                  have e2 : va_up (cpF Re (rsV u Wg (smW Wg (z 31).toNat)) k) k ((u * (Wg k)) % (smW Wg ((z 31).toNat))) = cpF Re (rsV u Wg (smW Wg (z 31).toNat)) (k + 1) := cpF_s _ _ _
                  refine SW.cast (Ps' := [tmO (xg x) o a (va_up z 8 (shP u c (smW Wg (z 31).toNat))), aI (xg x) 0 (a 28) 12 Wg, aL (xg x) (a 29) 12 (cpF Sh (shV u Wg (smW Wg (z 31).toNat)) (k + 1)), aL (xg x) (a 30) 12 (cpF Re (rsV u Wg (smW Wg (z 31).toNat)) (k + 1))]) ?_ (by rw [e1, e2]) rfl rfl
                  show SW x _ _ _ _ [(8, .int (jI (↑k + 1))), (6, .long (jL (shL u Wg (smW Wg (z 31).toNat) (k + 1)))), (0, .ref o), (1, .long (jL u)), (3, .int (jI c)), (4, .int (jI (smW Wg ((z 31).toNat))))] _
                  refine sw_loc [2, 3, 4, 5, 1, 0] (L2 := [(0, .ref o), (1, .long (jL u)), (3, .int (jI c)), (4, .int (jI (smW Wg ((z 31).toNat)))), (6, .long (jL (shL u Wg (smW Wg (z 31).toNat) (k + 1)))), (8, .int (jI (↑k + 1)))]) rfl ?_
                  rw [show (↑k + 1 : Int) = ↑(k + 1) by omega]
                  exact ih103 (k + 1) (by omega) (by omega)
            refine SW.cast (Ps' := [tmO (xg x) o a (va_up z 8 (shP u c (smW Wg (z 31).toNat))), aI (xg x) 0 (a 28) 12 Wg, aL (xg x) (a 29) 12 (cpF Sh (shV u Wg (smW Wg (z 31).toNat)) 0), aL (xg x) (a 30) 12 (cpF Re (rsV u Wg (smW Wg (z 31).toNat)) 0)]) ?_ (by rw [cpF_0, cpF_0]) rfl rfl
            show SW x _ _ _ _ [(8, .int (jI 0)), (6, .long (jL (shL u Wg (smW Wg (z 31).toNat) 0))), (0, .ref o), (1, .long (jL u)), (3, .int (jI c)), (4, .int (jI (smW Wg ((z 31).toNat))))] _
            refine sw_loc [2, 3, 4, 5, 1, 0] (L2 := [(0, .ref o), (1, .long (jL u)), (3, .int (jI c)), (4, .int (jI (smW Wg ((z 31).toNat)))), (6, .long (jL (shL u Wg (smW Wg (z 31).toNat) 0))), (8, .int (jI 0))]) rfl ?_
            exact K103 _ 0 (by omega) (Nat.lt_succ_self _)
          ·
            refine sw_iconst (n := 96) F (0) (by decide) dX4_share_95 rfl ?_
            have e0 : shP u c (smW Wg (z 31).toNat) ≠ 0 := by omega
            exact sw_iret F _ rfl (by first | rfl | exact jI_nz (by omega) | exact jI_nc (by omega)) dX4_share_96 (by rw [hPo]; exact ⟨Re, (by rw [if0_n e0]), (by exact hRe), (by simp only [up0_n e0, wh0_n e0])⟩)
        refine sw_bipush (n := 36) F (108) (by decide) dX4_share_34 rfl ?_
        refine sw_icmp_eq (n := 39) F (by omega) (by decide) (tgt := 51) dX4_share_36 (by decide) rfl (fun c_36 => ?_) (fun c_36 => ?_)
        ·
          refine sw_iconst (n := 52) F (1) (by decide) dX4_share_51 rfl ?_
          refine sw_goto F (n := 56) dX4_share_52 (by decide) ?_
          refine sw_istore (n := 58) F (L2 := [(5, .int (jI 1)), (0, .ref o), (1, .long (jL u)), (3, .int (jI c)), (4, .int (jI (smW Wg ((z 31).toNat))))]) rfl (by decide) dX4_share_56 rfl ?_
          refine sw_aload_n (n := 59) F 1 (some o) rfl rfl rfl dX4_share_58 rfl ?_
          refine sw_lload_n (n := 60) F 2 rfl rfl dX4_share_59 rfl ?_
          refine sw_lconst (n := 61) F 0 (by decide) dX4_share_60 rfl ?_
          refine sw_ldc2 (n := 64) F (1000000000000) q4179 (by decide) dX4_share_61 rfl ?_
          refine sw_callS (n := 67) F (ct_X4_in (g := xg x) (l := xl x) u 0 1000000000000 hu (by first | omega | assumption) (by first | omega | assumption)) q3963 q3964 q120 q3965 nd_X4_in rfl (by decide) [0, 1, 2, 3] (perm_ok _ 4 (by decide +kernel) rfl) [tmO (xg x) o a z, aI (xg x) 0 (a 28) 12 Wg, aL (xg x) (a 29) 12 Sh, aL (xg x) (a 30) 12 Re] rfl 0 0 ⟨by omega, by omega⟩ [.ref o] rfl (Nat.le_of_ble_eq_true rfl) dX4_share_64 rfl (fun _ _ h => h.elim) (fun v Ws h => ?_)
          obtain ⟨rfl, hs_2, rfl⟩ := h
          show SW x [tmO (xg x) o a z, aI (xg x) 0 (a 28) 12 Wg, aL (xg x) (a 29) 12 Sh, aL (xg x) (a 30) 12 Re] _ _ _ _ [.int (jI (inI u 0 1000000000000)), .ref o]
          refine sw_if_eq (n := 70) F (by omega) (tgt := 75) dX4_share_67 (by decide) rfl (fun c_67 => ?_) (fun c_67 => ?_)
          ·
            refine sw_iconst (n := 76) F (1) (by decide) dX4_share_75 rfl ?_
            refine sw_goto F (n := 89) dX4_share_76 (by decide) ?_
            refine sw_loc [1, 2, 3, 4] (L2 := [(0, .ref o), (1, .long (jL u)), (3, .int (jI c)), (4, .int (jI (smW Wg ((z 31).toNat))))]) rfl ?_
            exact K89 1 (by unfold shP; (repeat' split) <;> omega)
          ·
            refine sw_iload (n := 72) F 0 rfl dX4_share_70 rfl ?_
            refine sw_if_ne (n := 75) F (by decide) (tgt := 79) dX4_share_72 (by decide) rfl (fun c_72 => ?_) (fun c_72 => ?_)
            ·
              refine sw_iload (n := 81) F 4 rfl dX4_share_79 rfl ?_
              refine sw_if_ne (n := 84) F (by omega) (tgt := 88) dX4_share_81 (by decide) rfl (fun c_81 => ?_) (fun c_81 => ?_)
              ·
                refine sw_iconst (n := 89) F (0) (by decide) dX4_share_88 rfl ?_
                refine sw_loc [1, 2, 3, 4] (L2 := [(0, .ref o), (1, .long (jL u)), (3, .int (jI c)), (4, .int (jI (smW Wg ((z 31).toNat))))]) rfl ?_
                exact K89 0 (by unfold shP; (repeat' split) <;> omega)
              ·
                refine sw_iconst (n := 85) F (2) (by decide) dX4_share_84 rfl ?_
                refine sw_goto F (n := 89) dX4_share_85 (by decide) ?_
                refine sw_loc [1, 2, 3, 4] (L2 := [(0, .ref o), (1, .long (jL u)), (3, .int (jI c)), (4, .int (jI (smW Wg ((z 31).toNat))))]) rfl ?_
                exact K89 2 (by unfold shP; (repeat' split) <;> omega)
            · exfalso; exact absurd c_72 (by decide)
        ·
          refine sw_iload_n (n := 40) F 2 rfl rfl dX4_share_39 rfl ?_
          refine sw_bipush (n := 42) F (102) (by decide) dX4_share_40 rfl ?_
          refine sw_icmp_eq (n := 45) F (by omega) (by decide) (tgt := 51) dX4_share_42 (by decide) rfl (fun c_42 => ?_) (fun c_42 => ?_)
          ·
            refine sw_iconst (n := 52) F (1) (by decide) dX4_share_51 rfl ?_
            refine sw_goto F (n := 56) dX4_share_52 (by decide) ?_
            refine sw_istore (n := 58) F (L2 := [(5, .int (jI 1)), (0, .ref o), (1, .long (jL u)), (3, .int (jI c)), (4, .int (jI (smW Wg ((z 31).toNat))))]) rfl (by decide) dX4_share_56 rfl ?_
            refine sw_aload_n (n := 59) F 1 (some o) rfl rfl rfl dX4_share_58 rfl ?_
            refine sw_lload_n (n := 60) F 2 rfl rfl dX4_share_59 rfl ?_
            refine sw_lconst (n := 61) F 0 (by decide) dX4_share_60 rfl ?_
            refine sw_ldc2 (n := 64) F (1000000000000) q4179 (by decide) dX4_share_61 rfl ?_
            refine sw_callS (n := 67) F (ct_X4_in (g := xg x) (l := xl x) u 0 1000000000000 hu (by first | omega | assumption) (by first | omega | assumption)) q3963 q3964 q120 q3965 nd_X4_in rfl (by decide) [0, 1, 2, 3] (perm_ok _ 4 (by decide +kernel) rfl) [tmO (xg x) o a z, aI (xg x) 0 (a 28) 12 Wg, aL (xg x) (a 29) 12 Sh, aL (xg x) (a 30) 12 Re] rfl 0 0 ⟨by omega, by omega⟩ [.ref o] rfl (Nat.le_of_ble_eq_true rfl) dX4_share_64 rfl (fun _ _ h => h.elim) (fun v Ws h => ?_)
            obtain ⟨rfl, hs_3, rfl⟩ := h
            show SW x [tmO (xg x) o a z, aI (xg x) 0 (a 28) 12 Wg, aL (xg x) (a 29) 12 Sh, aL (xg x) (a 30) 12 Re] _ _ _ _ [.int (jI (inI u 0 1000000000000)), .ref o]
            refine sw_if_eq (n := 70) F (by omega) (tgt := 75) dX4_share_67 (by decide) rfl (fun c_67 => ?_) (fun c_67 => ?_)
            ·
              refine sw_iconst (n := 76) F (1) (by decide) dX4_share_75 rfl ?_
              refine sw_goto F (n := 89) dX4_share_76 (by decide) ?_
              refine sw_loc [1, 2, 3, 4] (L2 := [(0, .ref o), (1, .long (jL u)), (3, .int (jI c)), (4, .int (jI (smW Wg ((z 31).toNat))))]) rfl ?_
              exact K89 1 (by unfold shP; (repeat' split) <;> omega)
            ·
              refine sw_iload (n := 72) F 0 rfl dX4_share_70 rfl ?_
              refine sw_if_ne (n := 75) F (by decide) (tgt := 79) dX4_share_72 (by decide) rfl (fun c_72 => ?_) (fun c_72 => ?_)
              ·
                refine sw_iload (n := 81) F 4 rfl dX4_share_79 rfl ?_
                refine sw_if_ne (n := 84) F (by omega) (tgt := 88) dX4_share_81 (by decide) rfl (fun c_81 => ?_) (fun c_81 => ?_)
                ·
                  refine sw_iconst (n := 89) F (0) (by decide) dX4_share_88 rfl ?_
                  refine sw_loc [1, 2, 3, 4] (L2 := [(0, .ref o), (1, .long (jL u)), (3, .int (jI c)), (4, .int (jI (smW Wg ((z 31).toNat))))]) rfl ?_
                  exact K89 0 (by unfold shP; (repeat' split) <;> omega)
                ·
                  refine sw_iconst (n := 85) F (2) (by decide) dX4_share_84 rfl ?_
                  refine sw_goto F (n := 89) dX4_share_85 (by decide) ?_
                  refine sw_loc [1, 2, 3, 4] (L2 := [(0, .ref o), (1, .long (jL u)), (3, .int (jI c)), (4, .int (jI (smW Wg ((z 31).toNat))))]) rfl ?_
                  exact K89 2 (by unfold shP; (repeat' split) <;> omega)
              · exfalso; exact absurd c_72 (by decide)
          ·
            refine sw_iload_n (n := 46) F 2 rfl rfl dX4_share_45 rfl ?_
            refine sw_bipush (n := 48) F (98) (by decide) dX4_share_46 rfl ?_
            refine sw_icmp_ne (n := 51) F (by omega) (by decide) (tgt := 55) dX4_share_48 (by decide) rfl (fun c_48 => ?_) (fun c_48 => ?_)
            ·
              refine sw_iconst (n := 56) F (0) (by decide) dX4_share_55 rfl ?_
              refine sw_istore (n := 58) F (L2 := [(5, .int (jI 0)), (0, .ref o), (1, .long (jL u)), (3, .int (jI c)), (4, .int (jI (smW Wg ((z 31).toNat))))]) rfl (by decide) dX4_share_56 rfl ?_
              refine sw_aload_n (n := 59) F 1 (some o) rfl rfl rfl dX4_share_58 rfl ?_
              refine sw_lload_n (n := 60) F 2 rfl rfl dX4_share_59 rfl ?_
              refine sw_lconst (n := 61) F 0 (by decide) dX4_share_60 rfl ?_
              refine sw_ldc2 (n := 64) F (1000000000000) q4179 (by decide) dX4_share_61 rfl ?_
              refine sw_callS (n := 67) F (ct_X4_in (g := xg x) (l := xl x) u 0 1000000000000 hu (by first | omega | assumption) (by first | omega | assumption)) q3963 q3964 q120 q3965 nd_X4_in rfl (by decide) [0, 1, 2, 3] (perm_ok _ 4 (by decide +kernel) rfl) [tmO (xg x) o a z, aI (xg x) 0 (a 28) 12 Wg, aL (xg x) (a 29) 12 Sh, aL (xg x) (a 30) 12 Re] rfl 0 0 ⟨by omega, by omega⟩ [.ref o] rfl (Nat.le_of_ble_eq_true rfl) dX4_share_64 rfl (fun _ _ h => h.elim) (fun v Ws h => ?_)
              obtain ⟨rfl, hs_4, rfl⟩ := h
              show SW x [tmO (xg x) o a z, aI (xg x) 0 (a 28) 12 Wg, aL (xg x) (a 29) 12 Sh, aL (xg x) (a 30) 12 Re] _ _ _ _ [.int (jI (inI u 0 1000000000000)), .ref o]
              refine sw_if_eq (n := 70) F (by omega) (tgt := 75) dX4_share_67 (by decide) rfl (fun c_67 => ?_) (fun c_67 => ?_)
              ·
                refine sw_iconst (n := 76) F (1) (by decide) dX4_share_75 rfl ?_
                refine sw_goto F (n := 89) dX4_share_76 (by decide) ?_
                refine sw_loc [1, 2, 3, 4] (L2 := [(0, .ref o), (1, .long (jL u)), (3, .int (jI c)), (4, .int (jI (smW Wg ((z 31).toNat))))]) rfl ?_
                exact K89 1 (by unfold shP; (repeat' split) <;> omega)
              ·
                refine sw_iload (n := 72) F 0 rfl dX4_share_70 rfl ?_
                refine sw_if_ne (n := 75) F (by decide) (tgt := 79) dX4_share_72 (by decide) rfl (fun c_72 => ?_) (fun c_72 => ?_)
                · exfalso; exact absurd c_72 (by decide)
                ·
                  refine sw_iconst (n := 76) F (1) (by decide) dX4_share_75 rfl ?_
                  refine sw_goto F (n := 89) dX4_share_76 (by decide) ?_
                  refine sw_loc [1, 2, 3, 4] (L2 := [(0, .ref o), (1, .long (jL u)), (3, .int (jI c)), (4, .int (jI (smW Wg ((z 31).toNat))))]) rfl ?_
                  exact K89 1 (by unfold shP; (repeat' split) <;> omega)
            ·
              refine sw_iconst (n := 52) F (1) (by decide) dX4_share_51 rfl ?_
              refine sw_goto F (n := 56) dX4_share_52 (by decide) ?_
              refine sw_istore (n := 58) F (L2 := [(5, .int (jI 1)), (0, .ref o), (1, .long (jL u)), (3, .int (jI c)), (4, .int (jI (smW Wg ((z 31).toNat))))]) rfl (by decide) dX4_share_56 rfl ?_
              refine sw_aload_n (n := 59) F 1 (some o) rfl rfl rfl dX4_share_58 rfl ?_
              refine sw_lload_n (n := 60) F 2 rfl rfl dX4_share_59 rfl ?_
              refine sw_lconst (n := 61) F 0 (by decide) dX4_share_60 rfl ?_
              refine sw_ldc2 (n := 64) F (1000000000000) q4179 (by decide) dX4_share_61 rfl ?_
              refine sw_callS (n := 67) F (ct_X4_in (g := xg x) (l := xl x) u 0 1000000000000 hu (by first | omega | assumption) (by first | omega | assumption)) q3963 q3964 q120 q3965 nd_X4_in rfl (by decide) [0, 1, 2, 3] (perm_ok _ 4 (by decide +kernel) rfl) [tmO (xg x) o a z, aI (xg x) 0 (a 28) 12 Wg, aL (xg x) (a 29) 12 Sh, aL (xg x) (a 30) 12 Re] rfl 0 0 ⟨by omega, by omega⟩ [.ref o] rfl (Nat.le_of_ble_eq_true rfl) dX4_share_64 rfl (fun _ _ h => h.elim) (fun v Ws h => ?_)
              obtain ⟨rfl, hs_5, rfl⟩ := h
              show SW x [tmO (xg x) o a z, aI (xg x) 0 (a 28) 12 Wg, aL (xg x) (a 29) 12 Sh, aL (xg x) (a 30) 12 Re] _ _ _ _ [.int (jI (inI u 0 1000000000000)), .ref o]
              refine sw_if_eq (n := 70) F (by omega) (tgt := 75) dX4_share_67 (by decide) rfl (fun c_67 => ?_) (fun c_67 => ?_)
              ·
                refine sw_iconst (n := 76) F (1) (by decide) dX4_share_75 rfl ?_
                refine sw_goto F (n := 89) dX4_share_76 (by decide) ?_
                refine sw_loc [1, 2, 3, 4] (L2 := [(0, .ref o), (1, .long (jL u)), (3, .int (jI c)), (4, .int (jI (smW Wg ((z 31).toNat))))]) rfl ?_
                exact K89 1 (by unfold shP; (repeat' split) <;> omega)
              ·
                refine sw_iload (n := 72) F 0 rfl dX4_share_70 rfl ?_
                refine sw_if_ne (n := 75) F (by decide) (tgt := 79) dX4_share_72 (by decide) rfl (fun c_72 => ?_) (fun c_72 => ?_)
                ·
                  refine sw_iload (n := 81) F 4 rfl dX4_share_79 rfl ?_
                  refine sw_if_ne (n := 84) F (by omega) (tgt := 88) dX4_share_81 (by decide) rfl (fun c_81 => ?_) (fun c_81 => ?_)
                  ·
                    refine sw_iconst (n := 89) F (0) (by decide) dX4_share_88 rfl ?_
                    refine sw_loc [1, 2, 3, 4] (L2 := [(0, .ref o), (1, .long (jL u)), (3, .int (jI c)), (4, .int (jI (smW Wg ((z 31).toNat))))]) rfl ?_
                    exact K89 0 (by unfold shP; (repeat' split) <;> omega)
                  ·
                    refine sw_iconst (n := 85) F (2) (by decide) dX4_share_84 rfl ?_
                    refine sw_goto F (n := 89) dX4_share_85 (by decide) ?_
                    refine sw_loc [1, 2, 3, 4] (L2 := [(0, .ref o), (1, .long (jL u)), (3, .int (jI c)), (4, .int (jI (smW Wg ((z 31).toNat))))]) rfl ?_
                    exact K89 2 (by unfold shP; (repeat' split) <;> omega)
                · exfalso; exact absurd c_72 (by decide)
      ·
        refine sw_iload (n := 17) F 3 rfl dX4_share_15 rfl ?_
        refine sw_aload_n (n := 18) F 0 (some o) rfl rfl rfl dX4_share_17 rfl ?_
        refine sw_get (n := 21) F 0 rfl (k := 28) ⟨(RX4, TX4, 50), rfl, by decide, q3827, in_X4, Or.inl rfl⟩ (v := .ref (a 28)) rfl dX4_share_18 rfl ?_
        refine sw_iload (n := 23) F 4 rfl dX4_share_21 rfl ?_
        refine sw_ialoadI (n := 24) F 1 rfl (fun _ => rfl) k rfl (by omega) dX4_share_23 rfl ?_
        refine sw_iadd (n := 25) F dX4_share_24 rfl ?_
        refine sw_istore (n := 27) F (L2 := [(4, .int (jI ((smW Wg k) + (Wg k)))), (0, .ref o), (1, .long (jL u)), (3, .int (jI c)), (5, .int (jI (↑k)))]) rfl (by decide) dX4_share_25 rfl ?_
        refine sw_iinc (n := 30) F 4 (L2 := [(5, .int (jI (↑k + 1))), (4, .int (jI ((smW Wg k) + (Wg k)))), (0, .ref o), (1, .long (jL u)), (3, .int (jI c))]) rfl rfl (by decide) dX4_share_27 rfl ?_
        refine sw_goto F (n := 6) dX4_share_30 (by decide) ?_
        refine sw_loc [2, 3, 4, 1, 0] (L2 := [(0, .ref o), (1, .long (jL u)), (3, .int (jI c)), (4, .int (jI ((smW Wg k) + (Wg k)))), (5, .int (jI (↑k + 1)))]) rfl ?_
        show SW x _ _ _ _ [(0, .ref o), (1, .long (jL u)), (3, .int (jI c)), (4, .int (jI (smW Wg (k + 1)))), (5, .int (jI (↑(k + 1))))] _
        exact ih6 (k + 1) (by omega) (by omega)
  refine sw_loc [2, 3, 4, 1, 0] (L2 := [(0, .ref o), (1, .long (jL u)), (3, .int (jI c)), (4, .int (jI 0)), (5, .int (jI 0))]) rfl ?_
  show SW x _ _ _ _ [(0, .ref o), (1, .long (jL u)), (3, .int (jI c)), (4, .int (jI (smW Wg 0))), (5, .int (jI 0))] _
  exact K6 _ 0 (by omega) (Nat.lt_succ_self _)
