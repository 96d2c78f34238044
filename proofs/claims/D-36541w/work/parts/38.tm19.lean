theorem dgc_le : ∀ k n, n < 10 ^ (k + 1) → dgc n ≤ k + 1 := by
  intro k
  induction k with
  | zero => intro n h; rw [dgc, if_pos (by omega)]; omega
  | succ k ih =>
    intro n h
    rw [Nat.pow_succ] at h
    by_cases c : n < 10
    · rw [dgc, if_pos c]; omega
    · have := ih (n / 10) (by omega)
      rw [dgc, if_neg c]; omega
theorem dgc_pos (n : Nat) : 1 ≤ dgc n := by rw [dgc]; split <;> omega
theorem dgc_18 {v : Int} (h : -999999999999999999 ≤ v ∧ v ≤ 999999999999999999) : 1 ≤ dgc v.natAbs ∧ dgc v.natAbs ≤ 18 := ⟨dgc_pos _, dgc_le 17 _ (abs_18 h)⟩
theorem rnd_le {m neg : Int} {u v : Nat} (h : neg = 0 ∨ neg = 1) : rnd m neg u v ≤ u + 1 := by
  unfold rnd
  have h1 := upI_rng (m := m) (q := u / v) (r := u % v) (v := v) h
  have h2 := Nat.div_le_self u v
  split <;> omega
def lrI (rf l : Int) : Int := if rf = 1 then 0 else l
def roS (N Sc : Nat → Int) (i : Nat) (n : Int) : Int := Sc i - grI 0 ((dgc (N i).natAbs : Int) - n)
theorem roS_eq (N Sc : Nat → Int) (i : Nat) (n : Int) : roS N Sc i n = Sc i - grI 0 ((dgc (N i).natAbs : Int) - n) := by simp only [roS]
def roQ (N Sc : Nat → Int) (i : Nat) (n m : Int) : Nat := rnd m (bl (N i)) ((N i).natAbs * 10 ^ (roS N Sc i n - Sc i).toNat) (1 * 10 ^ (Sc i - roS N Sc i n).toNat)
def roV (N Sc : Nat → Int) (i : Nat) (n m : Int) : Nat := if 10 ^ n.toNat ≤ roQ N Sc i n m then roQ N Sc i n m / 10 else roQ N Sc i n m
def roT (N Sc : Nat → Int) (i : Nat) (n m : Int) : Int := if 10 ^ n.toNat ≤ roQ N Sc i n m then roS N Sc i n - 1 else roS N Sc i n
def roF (N Sc : Nat → Int) (i : Nat) (n m : Int) : Int := rfz m ((N i).natAbs * 10 ^ (roS N Sc i n - Sc i).toNat) (1 * 10 ^ (Sc i - roS N Sc i n).toNat) 0
theorem cd2_r {c p rf l : Int} (h : p = 0) (h1 : rf = 1) : cd2 c p (lrI rf l) = c := cd2_f h (if_pos h1)
theorem cd2_rf {c p rf l : Int} (h : p = 0) (h1 : l = 0) : cd2 c p (lrI rf l) = c := cd2_f h (by unfold lrI; split; rfl; exact h1)
theorem cd2_rt {c p rf l : Int} (h : p = 0) (h1 : rf ≠ 1) (h2 : l ≠ 0) : cd2 c p (lrI rf l) = 0 := cd2_t h (by unfold lrI; rw [if_neg h1]; exact h2)
def roP (s n m t : Int) (H : Nat → Int) : Int := if s < 0 ∨ 11 < s ∨ t < 0 ∨ 11 < t then 1 else if n < 1 ∨ 18 < n ∨ mdI m = 0 then 2 else if H s.toNat = 0 then 3 else 0
theorem roP_c (s n m t : Int) (H : Nat → Int) : (roP s n m t H = 1 ∧ (s < 0 ∨ 11 < s ∨ t < 0 ∨ 11 < t)) ∨ (roP s n m t H = 2 ∧ ¬(s < 0 ∨ 11 < s ∨ t < 0 ∨ 11 < t) ∧ (n < 1 ∨ 18 < n ∨ mdI m = 0)) ∨ (roP s n m t H = 3 ∧ ¬(s < 0 ∨ 11 < s ∨ t < 0 ∨ 11 < t) ∧ ¬(n < 1 ∨ 18 < n ∨ mdI m = 0) ∧ (H s.toNat = 0)) ∨ (roP s n m t H = 0 ∧ ¬(s < 0 ∨ 11 < s ∨ t < 0 ∨ 11 < t) ∧ ¬(n < 1 ∨ 18 < n ∨ mdI m = 0) ∧ ¬(H s.toNat = 0)) := by
  unfold roP; (repeat' split) <;> omega
theorem nd_X4_round : yX4_round.cls ≠ "java/lang/invoke/MethodHandle" ∧ yX4_round.cls ≠ "java/lang/invoke/VarHandle" ∧ (parseMethodDescriptor yX4_round.desc).map (fun d => d.parameters.length) = some 4 := by decide +kernel
