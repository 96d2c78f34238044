def ldL (u p i : Int) : Nat → Int
  | 0 => u
  | k + 1 => ldL u p i k - (if ldL u p i k + moV (ldL u p i k) p ≤ i then ldL u p i k else i - moV (ldL u p i k) p)
def ldY (u p i : Int) (k : Nat) : Int := if ldL u p i k + moV (ldL u p i k) p ≤ i then ldL u p i k else i - moV (ldL u p i k) p
def ldI (u p i : Int) (k : Nat) : Int := moV (ldL u p i k) p
def ldN (u p i : Int) (k : Nat) : Nat := if h : k = 0 then 0 else if ldN u p i (k - 1) = k - 1 ∧ 0 < ldL u p i (k - 1) then k else ldN u p i (k - 1)
termination_by k
decreasing_by all_goals omega
theorem ldN_0 {u p i : Int} : ldN u p i 0 = 0 := by rw [ldN, dif_pos rfl]
theorem ldN_s {u p i : Int} {k : Nat} : ldN u p i (k + 1) = if ldN u p i k = k ∧ 0 < ldL u p i k then k + 1 else ldN u p i k := by
  rw [ldN, dif_neg (by omega), Nat.add_sub_cancel]
def ldM (u p i : Int) : Nat := ldN u p i 120
def ldF (u p i : Int) : Int := if 0 < ldL u p i (ldM u p i) then 1 else 0
theorem ldL_s (u p i : Int) (k : Nat) : ldL u p i (k + 1) = ldL u p i k - ldY u p i k := rfl
theorem ldY_1 {u p i : Int} {k : Nat} (h : ldL u p i k + ldI u p i k ≤ i) : ldY u p i k = ldL u p i k := if_pos h
theorem ldY_0 {u p i : Int} {k : Nat} (h : i < ldL u p i k + ldI u p i k) : ldY u p i k = i - ldI u p i k := if_neg (by unfold ldI at h; omega)
theorem ldN_stop {u p i : Int} {k : Nat} (h : ldN u p i k = k) (h2 : ¬ 0 < ldL u p i k) : ∀ d, ldN u p i (k + d) = k := by
  intro d
  induction d with
  | zero => exact h
  | succ d ih =>
    show ldN u p i (k + d + 1) = k
    rw [ldN_s, if_neg, ih]
    rw [ih]
    intro ⟨q1, q2⟩
    have : d = 0 := by omega
    subst this
    exact h2 q2
theorem ldM_at {u p i : Int} {k : Nat} (h : ldN u p i k = k) (hk : k ≤ 120) (h2 : ¬ 0 < ldL u p i k ∨ k = 120) : ldM u p i = k := by
  unfold ldM
  rcases h2 with e | e
  · have := ldN_stop h e (120 - k); rw [show k + (120 - k) = 120 by omega] at this; exact this
  · rw [← e]; exact h
theorem moV_mono {l m p : Int} (h : l ≤ m) (h0 : 0 ≤ l) (hp : 0 ≤ p) : moV l p ≤ moV m p := by
  have h1 : l * p ≤ m * p := Int.mul_le_mul_of_nonneg_right h hp
  have h2 : 0 ≤ l * p := Int.mul_nonneg h0 hp
  unfold moV
  (repeat' split) <;> omega
theorem ldL_rng {u p i : Int} (hu : 1 ≤ u ∧ u ≤ 1000000000000) (hp : 0 ≤ p ∧ p ≤ 9999) (hi : moV u p < i) : ∀ k, 0 ≤ ldL u p i k ∧ ldL u p i k ≤ u ∧ 0 ≤ ldI u p i k ∧ ldI u p i k < i := by
  intro k
  induction k with
  | zero =>
    have := moV_rng (l := u) (p := p) (by omega) hp
    show 0 ≤ u ∧ u ≤ u ∧ 0 ≤ moV u p ∧ moV u p < i
    omega
  | succ k ih =>
    have h1 : 0 ≤ ldL u p i (k + 1) ∧ ldL u p i (k + 1) ≤ ldL u p i k := by
      rw [ldL_s]
      by_cases c : ldL u p i k + ldI u p i k ≤ i
      · rw [ldY_1 c]; omega
      · rw [ldY_0 (by omega)]; omega
    have h2 := moV_mono (p := p) (show ldL u p i (k + 1) ≤ u by omega) h1.1 hp.1
    have h3 := moV_rng (l := ldL u p i (k + 1)) (p := p) (by omega) hp
    unfold ldI
    omega
def cpF (f g : Nat → Int) (n : Nat) : Nat → Int := fun j => if j < n then g j else f j
theorem cpF_0 (f g : Nat → Int) : cpF f g 0 = f := by funext j; simp [cpF]
theorem cpF_s (f g : Nat → Int) (k : Nat) : va_up (cpF f g k) k (g k) = cpF f g (k + 1) := by
  funext j; unfold va_up cpF; (repeat' split) <;> first | rfl | omega | (subst_vars; rfl)
def cp0 (c : Int) (f g : Nat → Int) (n : Nat) : Nat → Int := if c = 0 then cpF f g n else f
theorem cp0_p {c : Int} (h : c = 0) (f g : Nat → Int) (n : Nat) : cp0 c f g n = cpF f g n := if_pos h
theorem cp0_n {c : Int} (h : c ≠ 0) (f g : Nat → Int) (n : Nat) : cp0 c f g n = f := if_neg h
theorem cpF_cg {f g h : Nat → Int} {n : Nat} (e : ∀ j, j < n → g j = h j) : cpF f g n = cpF f h n := by
  funext j; unfold cpF; split; exact e j (by assumption); rfl
def ldP (u p i : Int) : Int := if u < 1 ∨ 1000000000000 < u ∨ p < 0 ∨ 9999 < p ∨ i < 1 ∨ 1000000000000 < i then 1 else if i ≤ moV u p then 2 else 0
theorem ldP_c (u p i : Int) : (ldP u p i = 1 ∧ (u < 1 ∨ 1000000000000 < u ∨ p < 0 ∨ 9999 < p ∨ i < 1 ∨ 1000000000000 < i)) ∨ (ldP u p i = 2 ∧ ¬(u < 1 ∨ 1000000000000 < u ∨ p < 0 ∨ 9999 < p ∨ i < 1 ∨ 1000000000000 < i) ∧ (i ≤ moV u p)) ∨ (ldP u p i = 0 ∧ ¬(u < 1 ∨ 1000000000000 < u ∨ p < 0 ∨ 9999 < p ∨ i < 1 ∨ 1000000000000 < i) ∧ ¬(i ≤ moV u p)) := by
  unfold ldP
  by_cases h0 : u < 1 ∨ 1000000000000 < u ∨ p < 0 ∨ 9999 < p ∨ i < 1 ∨ 1000000000000 < i
  · rw [if_pos h0]; exact Or.inl ⟨rfl, h0⟩
  · rw [if_neg h0]
    by_cases h1 : i ≤ moV u p
    · rw [if_pos h1]; exact Or.inr (Or.inl ⟨rfl, h0, h1⟩)
    · rw [if_neg h1]
      exact Or.inr (Or.inr (⟨rfl, h0, h1⟩))
theorem ldP_nn (u p i : Int) : 0 ≤ ldP u p i ∧ ldP u p i ≤ 2 := by
  unfold ldP
  by_cases h0 : u < 1 ∨ 1000000000000 < u ∨ p < 0 ∨ 9999 < p ∨ i < 1 ∨ 1000000000000 < i
  · rw [if_pos h0]; decide
  · rw [if_neg h0]
    by_cases h1 : i ≤ moV u p
    · rw [if_pos h1]; decide
    · rw [if_neg h1]
      decide
theorem ldP_0 (u p i : Int) (h : ldP u p i = 0) : ¬(u < 1 ∨ 1000000000000 < u ∨ p < 0 ∨ 9999 < p ∨ i < 1 ∨ 1000000000000 < i) ∧ ¬(i ≤ moV u p) := by
  revert h
  unfold ldP
  by_cases h0 : u < 1 ∨ 1000000000000 < u ∨ p < 0 ∨ 9999 < p ∨ i < 1 ∨ 1000000000000 < i
  · rw [if_pos h0]; exact fun h => absurd h (by decide)
  · rw [if_neg h0]
    by_cases h1 : i ≤ moV u p
    · rw [if_pos h1]; exact fun h => absurd h (by decide)
    · rw [if_neg h1]
      exact fun _ => ⟨h0, h1⟩
