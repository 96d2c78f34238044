/-! rows of decimal digits: what they are worth -/
def dv (D : Nat → Nat) (b : Nat) : Nat → Nat
  | 0 => 0
  | k + 1 => dv D b k + D (b + k) * 10 ^ k
theorem dv_congr {D D' : Nat → Nat} {b b' n : Nat} (h : ∀ k, k < n → D (b + k) = D' (b' + k)) : dv D b n = dv D' b' n := by
  induction n with
  | zero => rfl
  | succ n ih => rw [dv, dv, ih (fun k hk => h k (by omega)), h n (by omega)]
theorem dv_lt {D : Nat → Nat} {b n : Nat} (h : ∀ k, k < n → D (b + k) < 10) : dv D b n < 10 ^ n := by
  induction n with
  | zero => simp [dv]
  | succ n ih =>
    have h1 := ih (fun k hk => h k (by omega))
    have h2 := h n (by omega)
    have h3 : D (b + n) * 10 ^ n ≤ 9 * 10 ^ n := Nat.mul_le_mul_right _ (by omega)
    rw [dv, Nat.pow_succ]
    omega
theorem dv_ge {D : Nat → Nat} {b n : Nat} (h0 : 0 < n) (h : D (b + n - 1) ≠ 0) : 10 ^ (n - 1) ≤ dv D b n := by
  cases n with
  | zero => omega
  | succ n =>
    have h2 : 1 * 10 ^ n ≤ D (b + n) * 10 ^ n := Nat.mul_le_mul_right _ (by have : D (b + (n + 1) - 1) ≠ 0 := h; rw [show b + (n + 1) - 1 = b + n by omega] at this; omega)
    rw [dv, Nat.add_sub_cancel]
    omega
theorem dv_top {D : Nat → Nat} {b n : Nat} (h0 : 0 < n) (h : ∀ k, k < n → D (b + k) < 10) (hv : 10 ^ (n - 1) ≤ dv D b n) : D (b + n - 1) ≠ 0 := by
  cases n with
  | zero => omega
  | succ n =>
    intro e
    rw [show b + (n + 1) - 1 = b + n by omega] at e
    have h1 := dv_lt (D := D) (b := b) (n := n) (fun k hk => h k (by omega))
    rw [dv, e, Nat.add_sub_cancel] at hv
    omega
theorem dv_zeros {D : Nat → Nat} {b m n : Nat} (hm : m ≤ n) (h : ∀ k, m ≤ k → k < n → D (b + k) = 0) : dv D b n = dv D b m := by
  induction n with
  | zero => rw [show m = 0 by omega]
  | succ n ih =>
    by_cases e : m = n + 1
    · rw [e]
    · rw [dv, h n (by omega) (by omega), Nat.zero_mul, Nat.add_zero]
      exact ih (by omega) (fun k h1 h2 => h k h1 (by omega))
theorem dv_split {D : Nat → Nat} {b m k : Nat} : dv D b (m + k) = dv D b m + dv D (b + m) k * 10 ^ m := by
  induction k with
  | zero => simp [dv]
  | succ k ih =>
    rw [← Nat.add_assoc, dv, dv, ih, Nat.add_mul, Nat.pow_add, Nat.add_assoc b m k]
    rw [Nat.mul_assoc, Nat.mul_comm (10 ^ k) (10 ^ m), Nat.add_assoc]
/-- the first difference from above decides -/
theorem dv_cmp {D E : Nat → Nat} {b c k m : Nat} (hk : k < m) (hD : ∀ j, j < m → D (b + j) < 10) (heq : ∀ j, k < j → j < m → D (b + j) = E (c + j)) (hlt : D (b + k) < E (c + k)) : dv D b m < dv E c m := by
  induction m with
  | zero => omega
  | succ m ih =>
    by_cases e : k = m
    · subst e
      have h1 := dv_lt (D := D) (b := b) (n := k) (fun j hj => hD j (by omega))
      have h2 : (D (b + k) + 1) * 10 ^ k ≤ E (c + k) * 10 ^ k := Nat.mul_le_mul_right _ (by omega)
      rw [Nat.add_mul] at h2
      rw [dv, dv]
      omega
    · have h1 := ih (by omega) (fun j hj => hD j (by omega)) (fun j h1 h2 => heq j h1 (by omega))
      rw [dv, dv, heq m (by omega) (by omega)]
      omega
/-- row r is worth n -/
def rok (D M : Nat → Nat) (r n : Nat) : Prop := M r ≤ 240 ∧ (∀ k, k < M r → D (240 * r + k) < 10) ∧ dv D (240 * r) (M r) = n ∧ (0 < M r → D (240 * r + M r - 1) ≠ 0)
def RK (D M R : Nat → Nat) : Prop := (∀ q, D q < 10) ∧ ∀ r, r < 10 → rok D M r (R r)
theorem rok_lt {D M : Nat → Nat} {r n : Nat} (h : rok D M r n) : n < 10 ^ M r := by
  rw [← h.2.2.1]; exact dv_lt h.2.1
theorem rok_ge {D M : Nat → Nat} {r n : Nat} (h : rok D M r n) (h0 : 0 < M r) : 10 ^ (M r - 1) ≤ n := by
  rw [← h.2.2.1]; exact dv_ge h0 (h.2.2.2 h0)
theorem rok_le {D M : Nat → Nat} {r n k : Nat} (h : rok D M r n) (hk : n < 10 ^ k) : M r ≤ k := by
  by_cases e : M r ≤ k
  · exact e
  · have h1 := rok_ge h (by omega)
    have h2 : 10 ^ k ≤ 10 ^ (M r - 1) := Nat.pow_le_pow_right (by omega) (by omega)
    omega
theorem rok_z {D M : Nat → Nat} {r n : Nat} (h : rok D M r n) : M r = 0 ↔ n = 0 := by
  constructor
  · intro e
    have := h.2.2.1
    rw [e] at this
    exact this.symm
  · intro e
    have := rok_le h (k := 0) (by simp [e])
    omega
theorem rok_keep {D D' M M' : Nat → Nat} {r n : Nat} (h : rok D M r n) (hD : ∀ k, k < 240 → D' (240 * r + k) = D (240 * r + k)) (hM : M' r = M r) : rok D' M' r n := by
  obtain ⟨h1, h2, h3, h4⟩ := h
  refine ⟨by omega, fun k hk => ?_, ?_, fun h0 => ?_⟩
  · rw [hD k (by omega)]; exact h2 k (by omega)
  · rw [hM, dv_congr (fun k hk => hD k (by omega))]; exact h3
  · rw [hM] at h0 ⊢
    have e : 240 * r + M r - 1 = 240 * r + (M r - 1) := by omega
    rw [e, hD _ (by omega), ← e]
    exact h4 h0
theorem RK.M {D M R : Nat → Nat} (h : RK D M R) : ∀ r, r < 10 → M r ≤ 240 := fun r hr => (h.2 r hr).1
/-- one row has changed -/
theorem RK.up {D D' M M' R : Nat → Nat} {row n : Nat} (h : RK D M R) (h9 : ∀ q, D' q < 10) (hn : rok D' M' row n) (hD : ∀ q, (q < 240 * row ∨ 240 * row + 240 ≤ q) → D' q = D q) (hM : ∀ r, r ≠ row → M' r = M r) : RK D' M' (va_up R row n) := by
  refine ⟨h9, fun r hr => ?_⟩
  by_cases e : r = row
  · subst e; rw [va_up_self]; exact hn
  · rw [va_up_ne _ _ e]
    exact rok_keep (h.2 r hr) (fun k hk => hD _ (by omega)) (hM r e)
theorem dg_dv {D M : Nat → Nat} {r n : Nat} (h : rok D M r n) (k : Nat) : dg D M r k < 10 := by
  unfold dg
  split
  · exact h.2.1 k (by assumption)
  · omega
/-- the row's worth by its padded digits -/
def pv (D M : Nat → Nat) (r : Nat) : Nat → Nat
  | 0 => 0
  | k + 1 => pv D M r k + dg D M r k * 10 ^ k
theorem pv_dv {D M : Nat → Nat} {r k : Nat} (hk : k ≤ M r) : pv D M r k = dv D (240 * r) k := by
  induction k with
  | zero => rfl
  | succ k ih => rw [pv, dv, ih (by omega), dg_lt (by omega)]
theorem pv_val {D M : Nat → Nat} {r n k : Nat} (h : rok D M r n) (hk : M r ≤ k) : pv D M r k = n := by
  induction k with
  | zero =>
    have := (rok_z h).mp (by omega)
    rw [this]; rfl
  | succ k ih =>
    by_cases e : M r = k + 1
    · rw [← e, pv_dv (Nat.le_refl _)]; exact h.2.2.1
    · rw [pv, dg_ge (by omega), Nat.zero_mul, Nat.add_zero]; exact ih (by omega)
theorem Mq_le {M M1 : Nat → Nat} {row : Nat} (h : ∀ r, r < 10 → M r ≤ 240) (hq : ∀ q, q ≠ row → M1 q = M q) (hl : M1 row ≤ 240) : ∀ r, r < 10 → M1 r ≤ 240 := fun r hr => by
  by_cases e : r = row
  · rw [e]; exact hl
  · rw [hq r e]; exact h r hr
theorem up_q {M M1 : Nat → Nat} {row v : Nat} (hq : ∀ q, q ≠ row → M1 q = M q) : ∀ q, q ≠ row → va_up M1 row v q = M q := fun q h => by rw [va_up_ne _ _ h]; exact hq q h
theorem up_s {M1 : Nat → Nat} {row v : Nat} : va_up M1 row v row = v := va_up_self _ _ _
theorem dg_9 {D M : Nat → Nat} (h : ∀ q, D q < 10) (row k : Nat) : dg D M row k < 10 := by
  unfold dg; split
  · exact h _
  · omega
/-- all digits are digits, all rows have room; one row has changed, and is worth n -/
def Dok (D M : Nat → Nat) : Prop := (∀ q, D q < 10) ∧ ∀ r, r < 10 → M r ≤ 240
def RU (row : Nat) (D M D1 M1 : Nat → Nat) (n : Nat) : Prop := Dok D1 M1 ∧ (∀ q, (q < 240 * row ∨ 240 * row + 240 ≤ q) → D1 q = D q) ∧ (∀ r, r ≠ row → M1 r = M r) ∧ rok D1 M1 row n
theorem RU.mk {row n : Nat} {D M D1 M1 : Nat → Nat} (hA : Dok D M) (h1 : ∀ q, D1 q < 10) (hn : rok D1 M1 row n) (h2 : ∀ q, (q < 240 * row ∨ 240 * row + 240 ≤ q) → D1 q = D q) (h3 : ∀ r, r ≠ row → M1 r = M r) : RU row D M D1 M1 n :=
  ⟨⟨h1, fun r hr => by
    by_cases e : r = row
    · rw [e]; exact hn.1
    · rw [h3 r e]; exact hA.2 r hr⟩, h2, h3, hn⟩
theorem RU.keep {row n r x : Nat} {D M D1 M1 : Nat → Nat} (h : RU row D M D1 M1 n) (hr : r ≠ row) (hx : rok D M r x) : rok D1 M1 r x :=
  rok_keep hx (fun k hk => h.2.1 _ (by omega)) (h.2.2.1 r hr)
theorem RU.val {row n : Nat} {D M D1 M1 : Nat → Nat} (h : RU row D M D1 M1 n) : rok D1 M1 row n := h.2.2.2
theorem RU.ok {row n : Nat} {D M D1 M1 : Nat → Nat} (h : RU row D M D1 M1 n) : Dok D1 M1 := h.1
theorem RU.same {row n : Nat} {D M : Nat → Nat} (hA : Dok D M) (h : rok D M row n) : RU row D M D M n := ⟨hA, fun _ _ => rfl, fun _ _ => rfl, h⟩
