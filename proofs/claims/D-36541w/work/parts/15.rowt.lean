/-! several rows have changed -/
def RV (S : List Nat) (D M D1 M1 : Nat → Nat) : Prop := Dok D1 M1 ∧ ∀ r, r ∉ S → M1 r = M r ∧ ∀ k, k < 240 → D1 (240 * r + k) = D (240 * r + k)
theorem RV.rf {S : List Nat} {D M : Nat → Nat} (h : Dok D M) : RV S D M D M := ⟨h, fun _ _ => ⟨rfl, fun _ _ => rfl⟩⟩
theorem RV.keep {S : List Nat} {D M D1 M1 : Nat → Nat} {r x : Nat} (h : RV S D M D1 M1) (hr : r ∉ S) (hx : rok D M r x) : rok D1 M1 r x := rok_keep hx (h.2 r hr).2 (h.2 r hr).1
theorem RU.rv {row n : Nat} {D M D1 M1 : Nat → Nat} (h : RU row D M D1 M1 n) : RV [row] D M D1 M1 := by
  refine ⟨h.1, fun r hr => ?_⟩
  have hne : r ≠ row := by simpa using hr
  exact ⟨h.2.2.1 r hne, fun k hk => h.2.1 _ (by omega)⟩
theorem RV.trans {S T : List Nat} {D M D1 M1 D2 M2 : Nat → Nat} (h1 : RV S D M D1 M1) (h2 : RV T D1 M1 D2 M2) (hST : ∀ r, r ∈ T → r ∈ S) : RV S D M D2 M2 :=
  ⟨h2.1, fun r hr => ⟨((h2.2 r (fun k => hr (hST r k))).1).trans (h1.2 r hr).1, fun k hk => ((h2.2 r (fun k => hr (hST r k))).2 k hk).trans ((h1.2 r hr).2 k hk)⟩⟩
theorem RV.mono {S T : List Nat} {D M D1 M1 : Nat → Nat} (h : RV S D M D1 M1) (hST : ∀ r, r ∈ S → r ∈ T) : RV T D M D1 M1 := ⟨h.1, fun r hr => h.2 r (fun k => hr (hST r k))⟩
/-! times: one row of the product -/
def TI (D1 M1 : Nat → Nat) (da v mq : Nat) (D2 M2 : Nat → Nat) (i c : Nat) : Prop :=
  RV [6] D1 M1 D2 M2 ∧ M2 6 = i ∧ dv D2 1440 i + c * 10 ^ i = da * (v % 10 ^ i) ∧ c ≤ 8 ∧ i ≤ mq + 1 ∧ (i = mq + 1 → c = 0)
theorem up_dok {D M : Nat → Nat} {row m : Nat} (h : Dok D M) (hm : m ≤ 240) : Dok D (va_up M row m) := ⟨h.1, fun r hr => by
  by_cases e : r = row
  · rw [e, up_s]; exact hm
  · rw [up_ne e]; exact h.2 r hr⟩
theorem up_rv {D M : Nat → Nat} {row m : Nat} (h : Dok D M) (hm : m ≤ 240) : RV [row] D M D (va_up M row m) := ⟨up_dok h hm, fun r hr => ⟨up_ne (by simpa using hr), fun _ _ => rfl⟩⟩
theorem rok_0 {D M : Nat → Nat} {row : Nat} : rok D (va_up M row 0) row 0 := by
  refine ⟨by rw [up_s]; omega, fun k hk => by rw [up_s] at hk; omega, by rw [up_s]; rfl, fun h => by rw [up_s] at h; omega⟩
theorem TI.start {D1 M1 : Nat → Nat} {da v mq : Nat} (h : Dok D1 M1) : TI D1 M1 da v mq D1 (va_up M1 6 0) 0 0 := ⟨up_rv h (by omega), up_s, by simp [dv, Nat.mod_one], by omega, by omega, by omega⟩
theorem TI.lt {D1 M1 D2 M2 : Nat → Nat} {da v mq i c : Nat} (h : TI D1 M1 da v mq D2 M2 i c) (hb : da * v < big) (hm : mq ≤ 240) (hk : i < mq ∨ 0 < c) : i < 240 := by
  unfold big at hb
  obtain ⟨h1, h2, h3, h4, h5, h6⟩ := h
  by_cases e : i < 240
  · exact e
  · have e1 : 1 * 10 ^ i ≤ c * 10 ^ i := Nat.mul_le_mul_right _ (by omega)
    have e2 : da * (v % 10 ^ i) ≤ da * v := Nat.mul_le_mul_left _ (Nat.mod_le _ _)
    have e3 : 10 ^ 240 ≤ 10 ^ i := Nat.pow_le_pow_right (by omega) (by omega)
    omega
theorem TI.step {D1 M1 D2 M2 : Nat → Nat} {da v mq i c s : Nat} (h : TI D1 M1 da v mq D2 M2 i c) (hda : da ≤ 9) (hv : v < 10 ^ mq) (hi : i < 240) (hk : i < mq ∨ 0 < c) (hs : s = c + da * (v / 10 ^ i % 10)) : TI D1 M1 da v mq (va_up D2 (240 * 6 + M2 6) (s % 10)) (va_up M2 6 (M2 6 + 1)) (i + 1) (s / 10) := by
  obtain ⟨h1, h2, h3, h4, h5, h6⟩ := h
  have hd : v / 10 ^ i % 10 ≤ 9 := by omega
  have hp : da * (v / 10 ^ i % 10) ≤ 9 * 9 := Nat.mul_le_mul hda hd
  refine ⟨⟨⟨up_9 h1.1.1 (by omega), (up_dok h1.1 (by omega)).2⟩, fun r hr => ?_⟩, by rw [up_s, h2], ?_, by omega, by omega, fun e => ?_⟩
  · have hr6 : r ≠ 6 := by simpa using hr
    obtain ⟨g1, g2⟩ := h1.2 r hr
    exact ⟨by rw [up_ne hr6]; exact g1, fun k hk => by rw [up_ne (by omega)]; exact g2 k hk⟩
  · have e1 : dv (va_up D2 (240 * 6 + M2 6) (s % 10)) 1440 i = dv D2 1440 i := dv_congr (fun k hk => up_ne (by omega))
    have e2 : va_up D2 (240 * 6 + M2 6) (s % 10) (1440 + i) = s % 10 := by rw [show 1440 + i = 240 * 6 + M2 6 by omega]; exact up_s
    rw [dv, e1, e2, Nat.mod_pow_succ, Nat.mul_add, ← h3, Nat.pow_succ]
    have e3 : s % 10 * 10 ^ i + s / 10 * (10 ^ i * 10) = s * 10 ^ i := by
      rw [Nat.mul_comm (10 ^ i) 10, ← Nat.mul_assoc, ← Nat.add_mul]
      congr 1
      omega
    have e4 : s * 10 ^ i = c * 10 ^ i + da * (10 ^ i * (v / 10 ^ i % 10)) := by rw [hs, Nat.add_mul, Nat.mul_assoc, Nat.mul_comm (v / 10 ^ i % 10)]
    omega
  · have e1 : i = mq := by omega
    have e2 : v / 10 ^ i = 0 := Nat.div_eq_of_lt (by rw [e1]; exact hv)
    rw [hs, e2]
    simp
    omega
theorem TI.done {D1 M1 D2 M2 : Nat → Nat} {da v mq i c : Nat} (h : TI D1 M1 da v mq D2 M2 i c) (hv : v < 10 ^ mq) (hi : mq ≤ i) (hc : c = 0) : dv D2 (240 * 6) (M2 6) = da * v := by
  obtain ⟨h1, h2, h3, h4, h5, h6⟩ := h
  have e : 10 ^ mq ≤ 10 ^ i := Nat.pow_le_pow_right (by omega) hi
  rw [hc, Nat.zero_mul, Nat.add_zero, Nat.mod_eq_of_lt (by omega)] at h3
  rw [h2]
  exact h3
theorem mod_pow_mul (u v k : Nat) : u % 10 ^ k * v + u / 10 ^ k % 10 * v * 10 ^ k = u % 10 ^ (k + 1) * v := by
  rw [Nat.mod_pow_succ, Nat.add_mul, Nat.mul_right_comm, Nat.mul_comm (u / 10 ^ k % 10)]
theorem dig_mul_le (u v k : Nat) : u / 10 ^ k % 10 * v * 10 ^ k ≤ u * v := by
  have h1 : u / 10 ^ k % 10 * 10 ^ k ≤ u / 10 ^ k * 10 ^ k := Nat.mul_le_mul_right _ (Nat.mod_le _ _)
  have h2 : u / 10 ^ k * 10 ^ k ≤ u := Nat.div_mul_le_self _ _
  rw [Nat.mul_right_comm]
  exact Nat.mul_le_mul_right _ (Nat.le_trans h1 h2)
theorem dig_mul_le2 (u v k : Nat) : u / 10 ^ k % 10 * v ≤ u * v := by
  refine Nat.le_trans ?_ (dig_mul_le u v k)
  exact Nat.le_mul_of_pos_right _ (Nat.pow_pos (by omega))
theorem mod_mul_le (u v k : Nat) : u % 10 ^ k * v ≤ u * v := Nat.mul_le_mul_right _ (Nat.mod_le _ _)
theorem up_rv2 {D M : Nat → Nat} (h : Dok D M) : RV [6, 7] D M D (va_up M 7 0) := (up_rv h (by omega)).mono (by simp)
theorem cmpI_nn {x y : Nat} (h : 0 ≤ cmpI x y) : y ≤ x := by
  by_cases e : x < y
  · rw [cmpI_lt e] at h; omega
  · omega
theorem cmpI_neg {x y : Nat} (h : cmpI x y < 0) : x < y := by
  by_cases e : x < y
  · exact e
  · by_cases e2 : x = y
    · rw [cmpI_eq e2] at h; omega
    · rw [cmpI_gt (by omega)] at h; omega
theorem dv_cons {D : Nat → Nat} {b m : Nat} : dv D b (m + 1) = D b + dv D (b + 1) m * 10 := by
  rw [Nat.add_comm m 1, dv_split]
  simp [dv]
/-! divides: the digits from n on are done -/
def DI (D M : Nat → Nat) (u v : Nat) (D1 M1 : Nat → Nat) (n : Nat) : Prop :=
  RV [2, 3, 8] D M D1 M1 ∧ M1 2 = M 0 ∧ rok D1 M1 3 (u / 10 ^ n % v) ∧ dv D1 (480 + n) (M 0 - n) = u / 10 ^ n / v
theorem DI.start {D M : Nat → Nat} {u v : Nat} (hA : Dok D M) (hx : rok D M 0 u) : DI D M u v D (va_up (va_up M 3 0) 2 (va_up M 3 0 0)) (M 0) := by
  have e : va_up M 3 0 0 = M 0 := up_ne (by omega)
  have h0 := rok_lt hx
  have hm := hA.2 0 (by omega)
  rw [e]
  refine ⟨⟨up_dok (up_dok hA (by omega)) hm, fun r hr => ⟨?_, fun _ _ => rfl⟩⟩, up_s, ?_, ?_⟩
  · have h1 : r ≠ 2 ∧ r ≠ 3 := by constructor <;> (intro q; subst q; exact hr (by simp))
    rw [up_ne h1.1, up_ne h1.2]
  · rw [Nat.div_eq_of_lt h0, Nat.zero_mod]
    exact rok_keep rok_0 (fun _ _ => rfl) (up_ne (by omega))
  · rw [Nat.div_eq_of_lt h0, Nat.sub_self, Nat.zero_div]; rfl
theorem div_pow_pred (u n : Nat) (h0 : 0 < n) : u / 10 ^ (n - 1) = u / 10 ^ n * 10 + u / 10 ^ (n - 1) % 10 := by
  obtain ⟨k, rfl⟩ : ∃ k, n = k + 1 := ⟨n - 1, by omega⟩
  rw [Nat.add_sub_cancel, Nat.pow_succ, ← Nat.div_div_eq_div_mul]
  omega
theorem DI.step {D M D1 M1 D2 M2 : Nat → Nat} {u v n w t : Nat} (h : DI D M u v D1 M1 n) (h0 : 0 < n) (hn : n ≤ M 0) (hm : M 0 ≤ 240) (hv0 : 0 < v) (hV : RV [3, 8] D1 M1 D2 M2) (hr : rok D2 M2 3 (w - t * v)) (hle : t * v ≤ w) (hlt : w - t * v < v) (hw : w = u / 10 ^ n % v * 10 + u / 10 ^ (n - 1) % 10) :
    DI D M u v (va_up D2 (480 + (n - 1)) t) M2 (n - 1) := by
  obtain ⟨h1, h2, h3, h4⟩ := h
  have ht : w / v = t := by
    apply Nat.div_eq_of_lt_le
    · exact hle
    · rw [Nat.add_mul]; omega
  have hr2 : w % v = w - t * v := by
    have := Nat.div_add_mod w v
    rw [ht, Nat.mul_comm] at this
    omega
  have hw10 : w < 10 * v := by
    have := Nat.mod_lt (u / 10 ^ n) hv0
    omega
  have ht10 : t < 10 := by rw [← ht]; exact Nat.div_lt_of_lt_mul (by omega)
  have hU : u / 10 ^ (n - 1) = u / 10 ^ n / v * 10 * v + w := by
    have e1 := div_pow_pred u n h0
    have e2 := Nat.div_add_mod (u / 10 ^ n) v
    have e3 : (v * (u / 10 ^ n / v) + u / 10 ^ n % v) * 10 = u / 10 ^ n / v * 10 * v + u / 10 ^ n % v * 10 := by
      rw [Nat.add_mul, Nat.mul_comm v, Nat.mul_right_comm]
    rw [e2] at e3
    omega
  have hq : u / 10 ^ (n - 1) / v = u / 10 ^ n / v * 10 + t := by
    rw [hU, Nat.add_comm, Nat.add_mul_div_right _ _ hv0, ht, Nat.add_comm]
  have hrm : u / 10 ^ (n - 1) % v = w - t * v := by
    rw [hU, Nat.add_comm, Nat.add_mul_mod_self_right, hr2]
  have hk := rok_keep (D' := va_up D2 (480 + (n - 1)) t) (M' := M2) hr (fun k hk => up_ne (by omega)) rfl
  refine ⟨⟨⟨up_9 hV.1.1 ht10, hV.1.2⟩, fun r hr => ?_⟩, (hV.2 2 (by simp)).1.trans h2, by rw [hrm]; exact hk, ?_⟩
  · have hr2 : r ≠ 2 := by intro q; subst q; exact hr (by simp)
    obtain ⟨g1, g2⟩ := h1.2 r hr
    obtain ⟨g3, g4⟩ := hV.2 r (by intro q; apply hr; simp at q ⊢; omega)
    exact ⟨g3.trans g1, fun k hk => by rw [up_ne (by omega)]; exact (g4 k hk).trans (g2 k hk)⟩
  · obtain ⟨m, hm2⟩ : ∃ m, M 0 - n = m := ⟨_, rfl⟩
    rw [show M 0 - (n - 1) = m + 1 by omega, dv_cons, up_s, hq, show 480 + (n - 1) + 1 = 480 + n by omega]
    rw [hm2] at h4
    have e : dv (va_up D2 (480 + (n - 1)) t) (480 + n) m = dv D1 (480 + n) m := dv_congr (fun j hj => by
      rw [up_ne (by omega)]
      have := (hV.2 2 (by simp)).2 (n + j) (by omega)
      rw [show 480 + n + j = 240 * 2 + (n + j) by omega]
      exact this)
    rw [e, h4]
    omega
theorem DI.done {D M D1 M1 M2 : Nat → Nat} {u v n : Nat} (h : DI D M u v D1 M1 n) (h0 : n = 0) (hq : ∀ q, q ≠ 2 → M2 q = M1 q) (hl : M2 2 ≤ M1 2) (hz : ∀ k, M2 2 ≤ k → k < M1 2 → D1 (240 * 2 + k) = 0) (ht : 0 < M2 2 → D1 (240 * 2 + M2 2 - 1) ≠ 0) : RV [2, 3, 8] D M D1 M2 ∧ rok D1 M2 2 (u / v) ∧ rok D1 M2 3 (u % v) := by
  obtain ⟨h1, h2, h3, h4⟩ := h
  subst h0
  rw [Nat.pow_zero, Nat.div_one] at h3 h4
  have hU := rok_trim (r := 2) (n := u / v) h1.1 (by omega) (by rw [h2]; exact h4) hq hl hz ht
  exact ⟨h1.trans (hU.rv.mono (T := [2, 3, 8]) (by simp)) (by simp), hU.2.2.2, hU.keep (by omega) h3⟩
/-! rounding -/
theorem jI_or0 {a : Int} (h : a = 0 ∨ a = 1) : jI a ||| jI 0 = jI a := by rcases h with e | e <;> subst e <;> decide
theorem jI_or1 {a : Int} (h : a = 0 ∨ a = 1) : jI a ||| jI 1 = jI 1 := by rcases h with e | e <;> subst e <;> decide
/-- whether a quotient q with the rest r of v goes up, by the mode's sign -/
def upI (m neg : Int) (q r v : Nat) : Int :=
  if m = 117 then 1 else if m = 99 then 1 - neg else if m = 102 then neg else if m = 104 then (if v ≤ 2 * r then 1 else 0) else if m = 108 then (if v < 2 * r then 1 else 0) else if m = 101 then (if v < 2 * r ∨ (v = 2 * r ∧ q % 2 = 1) then 1 else 0) else 0
def rnd (m neg : Int) (u v : Nat) : Nat := u / v + (if u % v = 0 then 0 else (upI m neg (u / v) (u % v) v).toNat)
/-- whether rounding is refused -/
def rfd (m : Int) (u v : Nat) : Bool := decide (m = 110) && decide (u % v ≠ 0)
def rfz (m : Int) (u v : Nat) (z : Int) : Int := if rfd m u v then 1 else z
theorem upI_rng {m neg : Int} {q r v : Nat} (h : neg = 0 ∨ neg = 1) : upI m neg q r v = 0 ∨ upI m neg q r v = 1 := by
  unfold upI
  repeat' split
  all_goals omega
theorem rnd_0 {m neg : Int} {u v : Nat} (h : u % v = 0) : rnd m neg u v = u / v := by unfold rnd; rw [if_pos h]; rfl
theorem rnd_1 {m neg : Int} {u v : Nat} (h : u % v ≠ 0) (b : upI m neg (u / v) (u % v) v = 1) : rnd m neg u v = u / v + 1 := by unfold rnd; rw [if_neg h, b]; rfl
theorem rnd_2 {m neg : Int} {u v : Nat} (b : upI m neg (u / v) (u % v) v = 0) : rnd m neg u v = u / v := by unfold rnd; rw [b]; split <;> rfl
theorem va_up_idI (z : Nat → Int) (k : Nat) : va_up z k (z k) = z := by funext j; unfold va_up; split <;> simp_all
theorem rfz_0 {m : Int} {u v : Nat} {z : Int} (h : u % v = 0) : rfz m u v z = z := by simp [rfz, rfd, h]
theorem rfz_n {m : Int} {u v : Nat} {z : Int} (h : m ≠ 110) : rfz m u v z = z := by simp [rfz, rfd, h]
theorem rfz_1 {m : Int} {u v : Nat} {z : Int} (h : u % v ≠ 0) (hm : m = 110) : rfz m u v z = 1 := by simp [rfz, rfd, h, hm]
theorem upI_117 {neg : Int} {q r v : Nat} : upI 117 neg q r v = 1 := by simp [upI]
theorem upI_99 {neg : Int} {q r v : Nat} : upI 99 neg q r v = 1 - neg := by simp [upI]
theorem upI_102 {neg : Int} {q r v : Nat} : upI 102 neg q r v = neg := by simp [upI]
theorem upI_104 {neg : Int} {q r v : Nat} : upI 104 neg q r v = if v ≤ 2 * r then 1 else 0 := by simp [upI]
theorem upI_108 {neg : Int} {q r v : Nat} : upI 108 neg q r v = if v < 2 * r then 1 else 0 := by simp [upI]
theorem upI_101 {neg : Int} {q r v : Nat} : upI 101 neg q r v = if v < 2 * r ∨ (v = 2 * r ∧ q % 2 = 1) then 1 else 0 := by simp [upI]
theorem upI_d {m neg : Int} {q r v : Nat} (h : m ≠ 117 ∧ m ≠ 99 ∧ m ≠ 102 ∧ m ≠ 104 ∧ m ≠ 108 ∧ m ≠ 101) : upI m neg q r v = 0 := by simp [upI, h]
theorem cmpI_cases (x y : Nat) : (x < y ∧ cmpI x y = -1) ∨ (x = y ∧ cmpI x y = 0) ∨ (y < x ∧ cmpI x y = 1) := by
  rcases Nat.lt_trichotomy x y with h | h | h
  · exact Or.inl ⟨h, cmpI_lt h⟩
  · exact Or.inr (Or.inl ⟨h, cmpI_eq h⟩)
  · exact Or.inr (Or.inr ⟨h, cmpI_gt h⟩)
