/-! what the loops over rows keep -/
/-- more than a row holds -/
def big : Nat := 10 ^ 240
theorem va_up_id (R : Nat → Nat) (row : Nat) : va_up R row (R row) = R := by funext j; unfold va_up; split <;> simp_all
theorem up_9 {D : Nat → Nat} {p v : Nat} (h : ∀ q, D q < 10) (hv : v < 10) : ∀ q, va_up D p v q < 10 := fun q => by
  unfold va_up
  split
  · exact hv
  · exact h q
theorem up_ne {D : Nat → Nat} {p v q : Nat} (h : q ≠ p) : va_up D p v q = D q := va_up_ne _ _ h
/-- lets -/
def LI (D M : Nat → Nat) (row N : Nat) (D1 M1 : Nat → Nat) (t : Nat) : Prop :=
  (∀ q, D1 q < 10) ∧ (∀ q, (q < 240 * row ∨ 240 * row + 240 ≤ q) → D1 q = D q) ∧ (∀ r, r ≠ row → M1 r = M r) ∧ dv D1 (240 * row) (M1 row) + t * 10 ^ M1 row = N ∧ (t = 0 → 0 < M1 row → D1 (240 * row + M1 row - 1) ≠ 0)
theorem LI.start {D M : Nat → Nat} {row N : Nat} (h : ∀ q, D q < 10) : LI D M row N D (va_up M row 0) N :=
  ⟨h, fun _ _ => rfl, fun r hr => up_ne hr, by rw [up_s]; simp [dv], fun _ h => by rw [up_s] at h; omega⟩
theorem LI.lt {D M D1 M1 : Nat → Nat} {row N t : Nat} (h : LI D M row N D1 M1 t) (hN : N < 10 ^ 19) (ht : 0 < t) : M1 row < 19 := by
  obtain ⟨-, -, -, h4, -⟩ := h
  by_cases e : M1 row < 19
  · exact e
  · have h1 : 10 ^ 19 ≤ 10 ^ M1 row := Nat.pow_le_pow_right (by omega) (by omega)
    have h2 : 1 * 10 ^ M1 row ≤ t * 10 ^ M1 row := Nat.mul_le_mul_right _ ht
    omega
theorem LI.step {D M D1 M1 : Nat → Nat} {row N t : Nat} (h : LI D M row N D1 M1 t) (hN : N < 10 ^ 19) (ht : 0 < t) : LI D M row N (va_up D1 (240 * row + M1 row) (t % 10)) (va_up M1 row (M1 row + 1)) (t / 10) := by
  have hlt := h.lt hN ht
  obtain ⟨h1, h2, h3, h4, h5⟩ := h
  refine ⟨up_9 h1 (by omega), fun q hq => by rw [up_ne (by omega)]; exact h2 q hq, fun r hr => by rw [up_ne hr]; exact h3 r hr, ?_, fun e _ => ?_⟩
  · rw [up_s, dv, up_s, dv_congr (D' := D1) (b' := 240 * row) (fun k hk => up_ne (by omega)), Nat.pow_succ, ← h4, Nat.add_assoc, ← Nat.mul_assoc, Nat.mul_right_comm, ← Nat.add_mul, show t % 10 + t / 10 * 10 = t by omega]
  · rw [up_s, show 240 * row + (M1 row + 1) - 1 = 240 * row + M1 row by omega, up_s]; omega
theorem LI.done {D M D1 M1 : Nat → Nat} {row N : Nat} (hA : Dok D M) (h : LI D M row N D1 M1 0) (hN : N < 10 ^ 19) : RU row D M D1 M1 N := by
  obtain ⟨h1, h2, h3, h4, h5⟩ := h
  have hv : dv D1 (240 * row) (M1 row) = N := by rw [Nat.zero_mul, Nat.add_zero] at h4; exact h4
  refine RU.mk hA h1 ⟨?_, fun k _ => h1 _, hv, h5 rfl⟩ h2 h3
  by_cases e : M1 row ≤ 19
  · omega
  · have h6 := dv_ge (D := D1) (b := 240 * row) (n := M1 row) (by omega) (h5 rfl (by omega))
    have h7 : 10 ^ 19 ≤ 10 ^ (M1 row - 1) := Nat.pow_le_pow_right (by omega) (by omega)
    omega
/-- copies -/
def CI (D M : Nat → Nat) (fr to : Nat) (D1 M1 : Nat → Nat) (k : Nat) : Prop :=
  (∀ q, D1 q < 10) ∧ (∀ q, (q < 240 * to ∨ 240 * to + 240 ≤ q) → D1 q = D q) ∧ (∀ r, r ≠ to → M1 r = M r) ∧ M1 to = k ∧ k ≤ M fr ∧ ∀ j, j < k → D1 (240 * to + j) = D (240 * fr + j)
theorem CI.start {D M : Nat → Nat} {fr to : Nat} (h : ∀ q, D q < 10) : CI D M fr to D (va_up M to 0) 0 := ⟨h, fun _ _ => rfl, fun r hr => up_ne hr, up_s, by omega, fun j hj => by omega⟩
theorem CI.step {D M D1 M1 : Nat → Nat} {fr to k : Nat} (hA : Dok D M) (hfr : fr < 10) (hne : fr ≠ to) (h : CI D M fr to D1 M1 k) (hk : k < M fr) : CI D M fr to (va_up D1 (240 * to + M1 to) (dg D1 M1 fr k)) (va_up M1 to (M1 to + 1)) (k + 1) := by
  obtain ⟨h1, h2, h3, h4, h5, h6⟩ := h
  have h7 := hA.2 fr hfr
  have hd : dg D1 M1 fr k = D (240 * fr + k) := by rw [dg_lt (by rw [h3 fr hne]; exact hk), h2 _ (by omega)]
  have hM := h4
  refine ⟨up_9 h1 (dg_9 h1 _ _), fun q hq => by rw [up_ne (by omega)]; exact h2 q hq, fun r hr => by rw [up_ne hr]; exact h3 r hr, by rw [up_s]; omega, by omega, fun j hj => ?_⟩
  by_cases e : j = k
  · subst e; rw [h4, up_s, hd]
  · rw [h4, up_ne (by omega)]; exact h6 j (by omega)
theorem CI.done {D M D1 M1 : Nat → Nat} {fr to k x : Nat} (hA : Dok D M) (hx : rok D M fr x) (h : CI D M fr to D1 M1 k) (hk : M1 fr ≤ k) (hne : fr ≠ to) : RU to D M D1 M1 x := by
  obtain ⟨h1, h2, h3, h4, h5, h6⟩ := h
  rw [h3 fr hne] at hk
  obtain ⟨g1, g2, g3, g4⟩ := hx
  have e : k = M fr := by omega
  subst e
  refine RU.mk hA h1 ⟨by omega, fun k _ => h1 _, ?_, fun h0 => ?_⟩ h2 h3
  · rw [h4, dv_congr h6]; exact g3
  · rw [h4] at h0 ⊢
    rw [show 240 * to + M fr - 1 = 240 * to + (M fr - 1) by omega, h6 _ (by omega), show 240 * fr + (M fr - 1) = 240 * fr + M fr - 1 by omega]
    exact g4 h0
/-- shifts: digits moved up from above, then noughts -/
def SI (D : Nat → Nat) (b m s : Nat) (D1 : Nat → Nat) (n : Nat) : Prop :=
  (∀ q, D1 q < 10) ∧ n ≤ m ∧ (∀ j, n ≤ j → j < m → D1 (b + j + s) = D (b + j)) ∧ ∀ q, (q < b + n + s ∨ b + m + s ≤ q) → D1 q = D q
theorem SI.start {D : Nat → Nat} {b m s : Nat} (h : ∀ q, D q < 10) : SI D b m s D m := ⟨h, Nat.le_refl _, fun j h1 h2 => by omega, fun _ _ => rfl⟩
theorem SI.step {D D1 : Nat → Nat} {b m s n : Nat} (h : SI D b m s D1 n) (hs : 0 < s) (h0 : 0 < n) : SI D b m s (va_up D1 (b + (n - 1) + s) (D1 (b + (n - 1)))) (n - 1) := by
  obtain ⟨h1, h2, h3, h4⟩ := h
  refine ⟨up_9 h1 (h1 _), by omega, fun j k1 k2 => ?_, fun q hq => by rw [up_ne (by omega)]; exact h4 q (by omega)⟩
  by_cases e : j = n - 1
  · subst e; rw [up_s, h4 _ (by omega)]
  · rw [up_ne (by omega)]; exact h3 j (by omega) k2
def SZ (D : Nat → Nat) (b m s : Nat) (D1 : Nat → Nat) (k : Nat) : Prop :=
  (∀ q, D1 q < 10) ∧ k ≤ s ∧ (∀ j, j < k → D1 (b + j) = 0) ∧ (∀ j, j < m → D1 (b + j + s) = D (b + j)) ∧ ∀ q, (q < b ∨ b + m + s ≤ q) → D1 q = D q
theorem SZ.start {D D1 : Nat → Nat} {b m s : Nat} (h : SI D b m s D1 0) : SZ D b m s D1 0 := ⟨h.1, by omega, fun j hj => by omega, fun j hj => h.2.2.1 j (by omega) hj, fun q hq => h.2.2.2 q (by omega)⟩
theorem SZ.step {D D1 : Nat → Nat} {b m s k : Nat} (h : SZ D b m s D1 k) (hk : k < s) : SZ D b m s (va_up D1 (b + k) 0) (k + 1) := by
  obtain ⟨h1, h2, h3, h4, h5⟩ := h
  refine ⟨up_9 h1 (by omega), by omega, fun j hj => ?_, fun j hj => by rw [up_ne (by omega)]; exact h4 j hj, fun q hq => by rw [up_ne (by omega)]; exact h5 q hq⟩
  by_cases e : j = k
  · subst e; exact up_s
  · rw [up_ne (by omega)]; exact h3 j (by omega)
theorem shift_room {D M : Nat → Nat} {row s x : Nat} (hx : rok D M row x) (hs : x * 10 ^ s < big) (h0 : 0 < M row) : M row + s ≤ 240 := by
  unfold big at hs
  have h1 := rok_ge hx h0
  have h2 : 10 ^ (M row - 1) * 10 ^ s ≤ x * 10 ^ s := Nat.mul_le_mul_right _ h1
  rw [← Nat.pow_add] at h2
  by_cases e : M row + s ≤ 240
  · exact e
  · have h3 : 10 ^ 240 ≤ 10 ^ (M row - 1 + s) := Nat.pow_le_pow_right (by omega) (by omega)
    omega
theorem SZ.done {D M D1 : Nat → Nat} {row s x : Nat} (hA : Dok D M) (hx : rok D M row x) (hs : x * 10 ^ s < big) (h0 : 0 < M row) (h : SZ D (240 * row) (M row) s D1 s) : RU row D M D1 (va_up M row (M row + s)) (x * 10 ^ s) := by
  obtain ⟨h1, h2, h3, h4, h5⟩ := h
  have hm := shift_room hx hs h0
  obtain ⟨g1, g2, g3, g4⟩ := hx
  refine RU.mk hA h1 ⟨by rw [up_s]; exact hm, fun k _ => h1 _, ?_, fun _ => ?_⟩ (fun q hq => h5 q (by omega)) (fun r hr => up_ne hr)
  · have e1 := dv_zeros (D := D1) (b := 240 * row) (m := 0) (n := s) (by omega) (fun k _ hk => h3 k hk)
    have e2 := dv_congr (D := D1) (b := 240 * row + s) (D' := D) (b' := 240 * row) (n := M row) (fun k hk => by rw [Nat.add_right_comm]; exact h4 k hk)
    rw [up_s, Nat.add_comm, dv_split, e1, e2, g3]
    simp [dv]
  · rw [up_s, show 240 * row + (M row + s) - 1 = 240 * row + (M row - 1) + s by omega, h4 _ (by omega), show 240 * row + (M row - 1) = 240 * row + M row - 1 by omega]
    exact g4 h0
theorem LI.start2 {D M : Nat → Nat} {row N t : Nat} (h : ∀ q, D q < 10) (e : t = N) : LI D M row N D (va_up M row 0) t := by subst e; exact LI.start h
/-! plus: digits below k are the sum's, the carry goes on -/
def PI (D M : Nat → Nat) (a b : Nat) (D1 M1 : Nat → Nat) (k c : Nat) : Prop :=
  (∀ q, D1 q < 10) ∧ (∀ q, (q < 240 * a ∨ 240 * a + 240 ≤ q) → D1 q = D q) ∧ (∀ r, r ≠ a → M1 r = M r) ∧ M1 a = max (M a) k ∧ (∀ j, k ≤ j → j < M a → D1 (240 * a + j) = D (240 * a + j)) ∧ c ≤ 1 ∧
  dv D1 (240 * a) k + c * 10 ^ k = pv D M a k + pv D M b k ∧ (k ≤ max (M a) (M b) ∨ (k = max (M a) (M b) + 1 ∧ c = 0 ∧ 10 ^ (max (M a) (M b)) ≤ pv D M a k + pv D M b k))
theorem PI.start {D M : Nat → Nat} {a b : Nat} (h : ∀ q, D q < 10) : PI D M a b D M 0 0 :=
  ⟨h, fun _ _ => rfl, fun _ _ => rfl, by omega, fun _ _ _ => rfl, by omega, by simp [dv, pv], Or.inl (by omega)⟩
theorem PI.lt {D M D1 M1 : Nat → Nat} {a b k c x y : Nat} (hx : rok D M a x) (hy : rok D M b y) (hS : x + y < big) (h : PI D M a b D1 M1 k c) (hk : k < max (M a) (M b) ∨ 0 < c) : k < 240 ∧ k ≤ max (M a) (M b) ∧ M1 a ≤ 240 := by
  unfold big at hS
  obtain ⟨h1, h2, h3, h4, h5, h6, h7, h8⟩ := h
  have ga := hx.1
  have gb := hy.1
  have hkm : k ≤ max (M a) (M b) := by omega
  refine ⟨?_, hkm, by omega⟩
  by_cases e : k < 240
  · exact e
  · have e2 : k = 240 := by omega
    have e3 : 0 < c := by omega
    have v1 := pv_val (hx) (k := k) (by omega)
    have v2 := pv_val (hy) (k := k) (by omega)
    rw [v1, v2, e2] at h7
    have : 1 * 10 ^ 240 ≤ c * 10 ^ 240 := Nat.mul_le_mul_right _ e3
    omega
theorem PI.dgs {D M D1 M1 : Nat → Nat} {a b k c : Nat} (hne : a ≠ b) (hb : b < 10) (hM : ∀ r, r < 10 → M r ≤ 240) (h : PI D M a b D1 M1 k c) : dg D1 M1 a k = dg D M a k ∧ dg D1 M1 b k = dg D M b k := by
  obtain ⟨h1, h2, h3, h4, h5, h6, h7, h8⟩ := h
  have gb := hM b hb
  constructor
  · by_cases e : k < M a
    · rw [dg_lt e, dg_lt (by omega)]; exact h5 k (Nat.le_refl _) e
    · rw [dg_ge (by omega), dg_ge (by omega)]
  · have e2 := h3 b (Ne.symm hne)
    by_cases e : k < M b
    · rw [dg_lt e, dg_lt (by omega)]; exact h2 _ (by omega)
    · rw [dg_ge (by omega), dg_ge (by omega)]
theorem PI.step {D M D1 M1 D2 M2 : Nat → Nat} {a b k c s x y : Nat} (hx : rok D M a x) (hy : rok D M b y) (hS : x + y < big) (h : PI D M a b D1 M1 k c) (hk : k < max (M a) (M b) ∨ 0 < c) (hs : s = c + dg D M a k + dg D M b k)
    (hD : ∀ q, q ≠ 240 * a + k → D2 q = D1 q) (hDk : D2 (240 * a + k) = s % 10) (hM2 : ∀ r, r ≠ a → M2 r = M1 r) (hMa : M2 a = if k = M1 a then M1 a + 1 else M1 a) : PI D M a b D2 M2 (k + 1) (s / 10) := by
  have hl := h.lt hx hy hS hk
  obtain ⟨h1, h2, h3, h4, h5, h6, h7, h8⟩ := h
  have d1 := dg_dv (hx) k
  have d2 := dg_dv (hy) k
  refine ⟨fun q => ?_, fun q hq => by rw [hD q (by omega)]; exact h2 q hq, fun r hr => by rw [hM2 r hr]; exact h3 r hr, ?_, fun j k1 k2 => by rw [hD _ (by omega)]; exact h5 j (by omega) k2, by omega, ?_, ?_⟩
  · by_cases e : q = 240 * a + k
    · rw [e, hDk]; omega
    · rw [hD q e]; exact h1 q
  · rw [hMa]; split <;> omega
  · have e1 : dv D2 (240 * a) k = dv D1 (240 * a) k := dv_congr (fun j hj => hD _ (by omega))
    rw [dv, e1, hDk, pv, pv, Nat.pow_succ]
    have e2 : s % 10 * 10 ^ k + s / 10 * (10 ^ k * 10) = s * 10 ^ k := by
      rw [Nat.mul_comm (10 ^ k) 10, ← Nat.mul_assoc, ← Nat.add_mul]
      congr 1
      omega
    have e3 : s * 10 ^ k = c * 10 ^ k + dg D M a k * 10 ^ k + dg D M b k * 10 ^ k := by rw [hs, Nat.add_mul, Nat.add_mul]
    omega
  · by_cases e : k < max (M a) (M b)
    · exact Or.inl (by omega)
    · have e2 : k = max (M a) (M b) := by omega
      have z1 : dg D M a k = 0 := dg_ge (by omega)
      have z2 : dg D M b k = 0 := dg_ge (by omega)
      have e3 : c = 1 := by omega
      refine Or.inr ⟨by omega, by omega, ?_⟩
      rw [pv, pv, z1, z2, ← e2]
      rw [e3] at h7
      omega
theorem PI.done {D M D1 M1 : Nat → Nat} {a b k c x y : Nat} (hA : Dok D M) (hx : rok D M a x) (hy : rok D M b y) (hS : x + y < big) (h : PI D M a b D1 M1 k c) (hk : max (M a) (M b) ≤ k) (hc : c = 0) : RU a D M D1 M1 (x + y) := by
  unfold big at hS
  obtain ⟨h1, h2, h3, h4, h5, h6, h7, h8⟩ := h
  have v1 := pv_val (hx) (k := k) (by omega)
  have v2 := pv_val (hy) (k := k) (by omega)
  have ga := hx.1
  have gb := hy.1
  rw [v1, v2, hc, Nat.zero_mul, Nat.add_zero] at h7
  have hMk : M1 a = k := by omega
  have hlow : 0 < k → 10 ^ (k - 1) ≤ x + y := by
    intro h0
    rcases h8 with h8 | ⟨h8, -, h9⟩
    · have e : k = max (M a) (M b) := by omega
      by_cases q : M a ≤ M b
      · have := rok_ge (hy) (by omega)
        rw [show k = M b by omega]; omega
      · have := rok_ge (hx) (by omega)
        rw [show k = M a by omega]; omega
    · rw [v1, v2] at h9
      rw [h8, Nat.add_sub_cancel]; exact h9
  refine RU.mk hA h1 ⟨?_, fun j _ => h1 _, by rw [hMk]; exact h7, fun h0 => ?_⟩ h2 h3
  · rw [hMk]
    by_cases e : k ≤ 240
    · exact e
    · have q1 := hlow (by omega)
      have q2 : 10 ^ 240 ≤ 10 ^ (k - 1) := Nat.pow_le_pow_right (by omega) (by omega)
      omega
  · rw [hMk] at h0 ⊢
    exact dv_top h0 (fun j _ => h1 _) (by rw [h7]; exact hlow h0)
/-! less: digits below k are the difference's, the borrowed one is owed -/
def LE (D M : Nat → Nat) (a b : Nat) (D1 : Nat → Nat) (k w : Nat) : Prop :=
  (∀ q, D1 q < 10) ∧ (∀ q, (q < 240 * a ∨ 240 * a + 240 ≤ q) → D1 q = D q) ∧ (∀ j, k ≤ j → D1 (240 * a + j) = D (240 * a + j)) ∧ w ≤ 1 ∧ k ≤ M a ∧ dv D1 (240 * a) k + pv D M b k = pv D M a k + w * 10 ^ k
theorem LE.start {D M : Nat → Nat} {a b : Nat} (h : ∀ q, D q < 10) : LE D M a b D 0 0 := ⟨h, fun _ _ => rfl, fun _ _ => rfl, by omega, by omega, by simp [dv, pv]⟩
theorem LE.dgs {D M D1 : Nat → Nat} {a b k w : Nat} (hne : a ≠ b) (hM : ∀ r, r < 10 → M r ≤ 240) (hb : b < 10) (hk : k < M a) (h : LE D M a b D1 k w) : dg D1 M a k = dg D M a k ∧ dg D1 M b k = dg D M b k := by
  obtain ⟨h1, h2, h3, h4, h5, h6⟩ := h
  have gb := hM b hb
  constructor
  · rw [dg_lt hk, dg_lt hk]; exact h3 k (Nat.le_refl _)
  · by_cases e : k < M b
    · rw [dg_lt e, dg_lt e]; exact h2 _ (by omega)
    · rw [dg_ge (by omega), dg_ge (by omega)]
theorem LE.step {D M D1 : Nat → Nat} {a b k w v w2 : Nat} (hk : k < M a) (hMa : M a ≤ 240) (h : LE D M a b D1 k w) (hv : v < 10) (hw2 : w2 ≤ 1) (hs : v + w + dg D M b k = dg D M a k + w2 * 10) : LE D M a b (va_up D1 (240 * a + k) v) (k + 1) w2 := by
  obtain ⟨h1, h2, h3, h4, h5, h6⟩ := h
  refine ⟨up_9 h1 hv, fun q hq => by rw [up_ne (by omega)]; exact h2 q hq, fun j hj => by rw [up_ne (by omega)]; exact h3 j (by omega), hw2, by omega, ?_⟩
  have e1 : dv (va_up D1 (240 * a + k) v) (240 * a) k = dv D1 (240 * a) k := dv_congr (fun j hj => up_ne (by omega))
  rw [dv, e1, up_s, pv, pv, Nat.pow_succ]
  have e2 : v * 10 ^ k + w * 10 ^ k + dg D M b k * 10 ^ k = dg D M a k * 10 ^ k + w2 * (10 ^ k * 10) := by
    rw [Nat.mul_comm (10 ^ k) 10, ← Nat.mul_assoc, ← Nat.add_mul, ← Nat.add_mul, ← Nat.add_mul, hs]
  omega
/-- behind less and trims -/
theorem LE.done {D M D1 M1 : Nat → Nat} {a b k w x y : Nat} (hA : Dok D M) (hx : rok D M a x) (hy : rok D M b y) (hle : y ≤ x) (h : LE D M a b D1 k w) (hk : M a ≤ k) (hq : ∀ q, q ≠ a → M1 q = M q) (hl : M1 a ≤ M a) (hz : ∀ j, M1 a ≤ j → j < M a → D1 (240 * a + j) = 0) (ht : 0 < M1 a → D1 (240 * a + M1 a - 1) ≠ 0) : RU a D M D1 M1 (x - y) := by
  obtain ⟨h1, h2, h3, h4, h5, h6⟩ := h
  have ek : k = M a := by omega
  subst ek
  have ga := hx.1
  have v1 := pv_val (hx) (k := M a) (by omega)
  have hb2 : M b ≤ M a := rok_le (hy) (by have := rok_lt hx; omega)
  have v2 := pv_val (hy) (k := M a) hb2
  rw [v1, v2] at h6
  have hlt := dv_lt (D := D1) (b := 240 * a) (n := M a) (fun j _ => h1 _)
  have hw : w = 0 := by
    by_cases e : w = 0
    · exact e
    · have : 1 * 10 ^ M a ≤ w * 10 ^ M a := Nat.mul_le_mul_right _ (by omega)
      omega
  rw [hw, Nat.zero_mul, Nat.add_zero] at h6
  refine RU.mk hA h1 ⟨by omega, fun j _ => h1 _, ?_, ht⟩ h2 hq
  rw [← dv_zeros hl hz]
  omega
theorem RU.shift0 {D M : Nat → Nat} {row s x : Nat} (hA : Dok D M) (h : rok D M row x) (e : s = 0 ∨ M row = 0) : RU row D M D M (x * 10 ^ s) := by
  have e2 : x * 10 ^ s = x := by
    rcases e with e | e
    · rw [e, Nat.pow_zero, Nat.mul_one]
    · rw [(rok_z h).mp e, Nat.zero_mul]
  rw [e2]
  exact RU.same hA h
/-! compares -/
def cmpI (x y : Nat) : Int := if x < y then -1 else if x = y then 0 else 1
theorem cmpI_lt {x y : Nat} (h : x < y) : cmpI x y = -1 := if_pos h
theorem cmpI_gt {x y : Nat} (h : y < x) : cmpI x y = 1 := by unfold cmpI; rw [if_neg (by omega), if_neg (by omega)]
theorem cmpI_eq {x y : Nat} (h : x = y) : cmpI x y = 0 := by unfold cmpI; rw [if_neg (by omega), if_pos h]
theorem cmpI_rng (x y : Nat) : -1 ≤ cmpI x y ∧ cmpI x y ≤ 1 := by unfold cmpI; split <;> (try split) <;> omega
theorem cm_len {D M : Nat → Nat} {a b x y : Nat} (hx : rok D M a x) (hy : rok D M b y) (h : M a < M b) : x < y := by
  have h1 := rok_lt (hx)
  have h2 := rok_ge (hy) (by omega)
  have h3 : 10 ^ M a ≤ 10 ^ (M b - 1) := Nat.pow_le_pow_right (by omega) (by omega)
  omega
theorem cm_dig {D M : Nat → Nat} {a b n x y : Nat} (hA : Dok D M) (hx : rok D M a x) (hy : rok D M b y) (hM : M a = M b) (h0 : 0 < n) (hn : n ≤ M a) (he : ∀ j, n ≤ j → j < M a → D (240 * a + j) = D (240 * b + j)) (hlt : D (240 * a + (n - 1)) < D (240 * b + (n - 1))) : x < y := by
  have e1 := (hx).2.2.1
  have e2 := (hy).2.2.1
  rw [← e1, ← e2, ← hM]
  exact dv_cmp (k := n - 1) (by omega) (fun j _ => hA.1 _) (fun j h1 h2 => he j (by omega) h2) hlt
theorem cm_all {D M : Nat → Nat} {a b x y : Nat} (hx : rok D M a x) (hy : rok D M b y) (hM : M a = M b) (he : ∀ j, 0 ≤ j → j < M a → D (240 * a + j) = D (240 * b + j)) : x = y := by
  have e1 := (hx).2.2.1
  have e2 := (hy).2.2.1
  rw [← e1, ← e2, ← hM]
  exact dv_congr (fun j hj => he j (by omega) hj)
theorem val_step {D M : Nat → Nat} {row n w u : Nat} (h0 : 0 < n) (hn : n ≤ M row) (h : w * 10 ^ n + dv D (240 * row) n = u) : (10 * w + dg D M row (n - 1)) * 10 ^ (n - 1) + dv D (240 * row) (n - 1) = u := by
  obtain ⟨k, rfl⟩ : ∃ k, n = k + 1 := ⟨n - 1, by omega⟩
  rw [Nat.add_sub_cancel, dg_lt (by omega), ← h, dv, Nat.pow_succ, Nat.add_mul, Nat.mul_comm 10 w, Nat.mul_assoc w 10, Nat.mul_comm 10 (10 ^ k)]
  omega
theorem val_start {D M : Nat → Nat} {row u : Nat} (h : rok D M row u) : 0 * 10 ^ M row + dv D (240 * row) (M row) = u := by rw [Nat.zero_mul, Nat.zero_add]; exact h.2.2.1
theorem val_end {D : Nat → Nat} {row n w u : Nat} (h0 : n = 0) (h : w * 10 ^ n + dv D (240 * row) n = u) : w = u := by subst h0; simpa [dv] using h
/-! a row's digits are its number's -/
theorem rok_dg {D M : Nat → Nat} {r n : Nat} (h : rok D M r n) (k : Nat) : dg D M r k = n / 10 ^ k % 10 := by
  obtain ⟨h1, h2, h3, h4⟩ := h
  by_cases e : k < M r
  · rw [dg_lt e]
    obtain ⟨m, hm⟩ : ∃ m, M r = k + (1 + m) := ⟨M r - k - 1, by omega⟩
    have hd := h2 k e
    have hlo := dv_lt (D := D) (b := 240 * r) (n := k) (fun j hj => h2 j (by omega))
    rw [hm, dv_split, dv_split] at h3
    have e1 : dv D (240 * r + k) 1 = D (240 * r + k) := by simp [dv]
    rw [e1, Nat.pow_one] at h3
    rw [← h3, Nat.add_mul_div_right _ _ (Nat.pow_pos (by omega)), Nat.div_eq_of_lt hlo]
    omega
  · rw [dg_ge (by omega)]
    have hlt := rok_lt ⟨h1, h2, h3, h4⟩
    have : 10 ^ M r ≤ 10 ^ k := Nat.pow_le_pow_right (by omega) (by omega)
    rw [Nat.div_eq_of_lt (by omega)]
theorem rok_M {D M D' M' : Nat → Nat} {r r' n : Nat} (h : rok D M r n) (h' : rok D' M' r' n) : M r = M' r' := by
  have a := rok_le h (rok_lt h')
  have b := rok_le h' (rok_lt h)
  omega
/-- digits, not trimmed yet -/
theorem rok_trim {D M M1 : Nat → Nat} {r n : Nat} (hA : Dok D M) (hr : r < 10) (hv : dv D (240 * r) (M r) = n) (hq : ∀ q, q ≠ r → M1 q = M q) (hl : M1 r ≤ M r) (hz : ∀ k, M1 r ≤ k → k < M r → D (240 * r + k) = 0) (ht : 0 < M1 r → D (240 * r + M1 r - 1) ≠ 0) : RU r D M D M1 n := by
  have hm := hA.2 r hr
  exact RU.mk hA hA.1 ⟨by omega, fun k _ => hA.1 _, by rw [← dv_zeros hl hz]; exact hv, ht⟩ (fun _ _ => rfl) hq
