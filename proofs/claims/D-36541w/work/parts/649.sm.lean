/-! words from the low end: sm f n m is worth the last m of n words; bw m = 2^(32 m) -/
def bw (m : Nat) : Nat := 4294967296 ^ m
theorem bw_0 : bw 0 = 1 := rfl
theorem bw_s (m : Nat) : bw (m + 1) = bw m * 4294967296 := Nat.pow_succ ..
theorem bw_pos (m : Nat) : 0 < bw m := Nat.pow_pos (by decide)
theorem bw_add (a b : Nat) : bw (a + b) = bw a * bw b := Nat.pow_add ..
theorem bw_1 : bw 1 = 4294967296 := by rw [bw_s, bw_0]
theorem bw_2 : bw 2 = 18446744073709551616 := by rw [bw_s, bw_1]
theorem bw_mono {a b : Nat} (h : a ≤ b) : bw a ≤ bw b := Nat.pow_le_pow_right (by decide) h
def sm (f : Nat → Nat) (n : Nat) : Nat → Nat
  | 0 => 0
  | m + 1 => f (n - 1 - m) * bw m + sm f n m
theorem sm_0 (f : Nat → Nat) (n : Nat) : sm f n 0 = 0 := rfl
theorem sm_s (f : Nat → Nat) (n m : Nat) : sm f n (m + 1) = f (n - 1 - m) * bw m + sm f n m := rfl
theorem sm_lt {f : Nat → Nat} {n : Nat} (hf : ∀ k, k < n → f k < 4294967296) : ∀ m, m ≤ n → sm f n m < bw m := by
  intro m
  induction m with
  | zero => intro _; rw [sm_0, bw_0]; decide
  | succ m ih =>
    intro h
    have h1 := ih (by omega)
    have h2 := hf (n - 1 - m) (by omega)
    rw [sm_s, bw_s]
    have h3 : f (n - 1 - m) * bw m ≤ 4294967295 * bw m := Nat.mul_le_mul_right _ (by omega)
    omega
theorem sm_cong {f g : Nat → Nat} {n : Nat} : ∀ m, m ≤ n → (∀ j, n - m ≤ j → j < n → f j = g j) → sm f n m = sm g n m := by
  intro m
  induction m with
  | zero => intro _ _; rfl
  | succ m ih =>
    intro h hj
    rw [sm_s, sm_s, ih (by omega) (fun j h1 h2 => hj j (by omega) h2), hj (n - 1 - m) (by omega) (by omega)]
theorem vu_ne {α : Type} {f : Nat → α} {k j : Nat} {v : α} (h : j ≠ k) : va_up f k v j = f j := by unfold va_up; rw [if_neg h]
theorem vu_eq {α : Type} {f : Nat → α} {k j : Nat} {v : α} (h : j = k) : va_up f k v j = v := by unfold va_up; rw [if_pos h]
theorem sm_out {f : Nat → Nat} {n m j v : Nat} (hm : m ≤ n) (h : j < n - m ∨ n ≤ j) : sm (va_up f j v) n m = sm f n m := sm_cong m hm fun k h1 h2 => vu_ne (by omega)
/-- one word laid ahead -/
theorem sm_lay {f : Nat → Nat} {n m j v : Nat} (hm : m < n) (h : j = n - 1 - m) : sm (va_up f j v) n (m + 1) = v * bw m + sm f n m := by
  rw [sm_s, vu_eq (by omega), sm_out (by omega) (by omega)]
theorem up_lt {f : Nat → Nat} {n j v : Nat} (hf : ∀ k, k < n → f k < 4294967296) (hv : v < 4294967296) : ∀ k, k < n → va_up f j v k < 4294967296 := by
  intro k hk; unfold va_up; split
  · exact hv
  · exact hf k hk
theorem sm_sh (f : Nat → Nat) (n : Nat) : ∀ m, m ≤ n → sm f (n + 1) (m + 1) = sm f n m * 4294967296 + f n := by
  intro m
  induction m with
  | zero => intro _; rw [sm_s, sm_0, sm_0, bw_0]; simp
  | succ m ih =>
    intro h
    rw [sm_s f (n + 1) (m + 1), ih (by omega), sm_s f n m, bw_s, show n + 1 - 1 - (m + 1) = n - 1 - m by omega, Nat.add_mul, Nat.mul_assoc]
    omega
theorem wv_sm (f : Nat → Nat) : ∀ n, wv f n = sm f n n := by
  intro n
  induction n with
  | zero => rfl
  | succ n ih => rw [sm_sh f n n (Nat.le_refl _), ← ih]; rfl
theorem wv_s (f : Nat → Nat) (n : Nat) : wv f (n + 1) = wv f n * 4294967296 + f n := rfl
theorem wv_lt {f : Nat → Nat} {n : Nat} (hf : ∀ k, k < n → f k < 4294967296) : wv f n < bw n := by rw [wv_sm]; exact sm_lt hf n (Nat.le_refl _)
theorem wv_ge {f : Nat → Nat} {n : Nat} (h : 0 < n) (h0 : f 0 ≠ 0) : bw (n - 1) ≤ wv f n := by
  rw [wv_sm, show n = (n - 1) + 1 by omega, sm_s, show n - 1 + 1 - 1 - (n - 1) = 0 by omega]
  have : 1 * bw (n - 1) ≤ f 0 * bw (n - 1) := Nat.mul_le_mul_right _ (by omega)
  simp only [Nat.add_sub_cancel] at *
  omega
theorem wOK_ge {f : Nat → Nat} {n : Nat} (h : wOK n f) (hn : 0 < n) : bw (n - 1) ≤ wv f n := wv_ge hn (h.2 hn)
theorem wOK_of {f : Nat → Nat} {n : Nat} (hf : ∀ k, k < n → f k < 4294967296) (h : 0 < n → bw (n - 1) ≤ wv f n) : wOK n f := by
  refine ⟨hf, fun hn h0 => ?_⟩
  have h1 := h hn
  have h2 := sm_lt hf (n - 1) (by omega)
  rw [wv_sm, show n = (n - 1) + 1 by omega, sm_s, show n - 1 + 1 - 1 - (n - 1) = 0 by omega, h0] at h1
  simp only [Nat.add_sub_cancel, Nat.zero_mul, Nat.zero_add] at h1
  rw [show n - 1 + 1 = n by omega] at h1
  omega
theorem wv_pos {f : Nat → Nat} {n : Nat} (h : wv f n ≠ 0) : 0 < n := by
  cases n with
  | zero => exact absurd rfl h
  | succ n => omega
/-- a bound on the number of words -/
theorem wOK_len {f : Nat → Nat} {n k : Nat} (h : wOK n f) (hb : wv f n < bw k) : n ≤ k := by
  rcases Nat.lt_or_ge k n with c | c
  · have h1 := wOK_ge h (by omega)
    have h2 := bw_mono (show k ≤ n - 1 by omega)
    omega
  · exact c
theorem wv_app (f : Nat → Nat) (k : Nat) : ∀ n, wv f (k + n) = wv f k * bw n + wv (fun j => f (k + j)) n := by
  intro n
  induction n with
  | zero => rw [bw_0]; show wv f k = wv f k * 1 + 0; omega
  | succ n ih =>
    show wv f (k + n) * 4294967296 + f (k + n) = _
    rw [ih, bw_s, wv_s, Nat.add_mul, Nat.mul_assoc]
    omega
theorem wv_cong {f g : Nat → Nat} {n : Nat} (h : ∀ j, j < n → f j = g j) : wv f n = wv g n := by
  rw [wv_sm, wv_sm]; exact sm_cong n (Nat.le_refl _) fun j _ hj => h j hj
theorem wv_zero (f : Nat → Nat) : ∀ n, (∀ j, j < n → f j = 0) → wv f n = 0 := by
  intro n
  induction n with
  | zero => intro _; rfl
  | succ n ih => intro h; rw [wv_s, ih (fun j hj => h j (by omega)), h n (by omega)]
/-- k leading words are 0: without them -/
theorem wv_drop {f : Nat → Nat} {k n : Nat} (h : ∀ j, j < k → f j = 0) (hk : k ≤ n) : wv (fun j => f (j + k)) (n - k) = wv f n := by
  have e := wv_app f k (n - k)
  rw [show k + (n - k) = n by omega, wv_zero f k h, Nat.zero_mul, Nat.zero_add] at e
  rw [e]
  exact wv_cong fun j _ => by rw [Nat.add_comm]
theorem wv_lenlt {f g : Nat → Nat} {n m : Nat} (hf : ∀ k, k < n → f k < 4294967296) (hg : wOK m g) (h : n < m) : wv f n < wv g m := by
  have h1 := wv_lt hf
  have h2 := wOK_ge hg (by omega)
  have h3 := bw_mono (show n ≤ m - 1 by omega)
  omega
theorem wv_lex {f g : Nat → Nat} {n i : Nat} (hf : ∀ k, k < n → f k < 4294967296) (hi : i < n) (he : ∀ j, j < i → f j = g j) (hl : f i < g i) : wv f n < wv g n := by
  have e1 := wv_app f (i + 1) (n - (i + 1))
  have e2 := wv_app g (i + 1) (n - (i + 1))
  rw [show i + 1 + (n - (i + 1)) = n by omega] at e1 e2
  have h1 : wv (fun j => f (i + 1 + j)) (n - (i + 1)) < bw (n - (i + 1)) := wv_lt fun k hk => hf _ (by omega)
  rw [wv_s, wv_cong he] at e1
  rw [wv_s] at e2
  generalize wv g i * 4294967296 = t at *
  generalize bw (n - (i + 1)) = b at *
  have h2 : (t + f i + 1) * b ≤ (t + g i) * b := Nat.mul_le_mul_right _ (by omega)
  rw [Nat.add_mul, Nat.one_mul] at h2
  omega
/-- a product's low word, its carry: the step of a multiplication by a word -/
theorem mul_step {f r : Nat → Nat} {n R m c d p : Nat} (h : sm r R m + c * bw m = sm f n m * d) (hp : p = f (n - 1 - m) * d + c) (hm : m < R) : sm (va_up r (R - 1 - m) (p % 4294967296)) R (m + 1) + p / 4294967296 * bw (m + 1) = sm f n (m + 1) * d := by
  rw [sm_lay hm rfl, sm_s f n m, bw_s, Nat.add_mul, ← h]
  have e : p % 4294967296 * bw m + p / 4294967296 * (bw m * 4294967296) = p * bw m := by
    rw [← Nat.mul_assoc, Nat.mul_comm (p / 4294967296 * bw m), ← Nat.mul_assoc, ← Nat.add_mul]
    congr 1
    omega
  have e2 : f (n - 1 - m) * bw m * d = f (n - 1 - m) * d * bw m := by rw [Nat.mul_assoc, Nat.mul_comm (bw m), ← Nat.mul_assoc]
  have e3 : p * bw m = f (n - 1 - m) * d * bw m + c * bw m := by rw [hp, Nat.add_mul]
  omega
theorem mul_fit {a d c : Nat} (ha : a < 4294967296) (hd : d < 4294967296) (hc : c < 4294967296) : a * d + c < 18446744073709551616 ∧ (a * d + c) / 4294967296 < 4294967296 := by
  have : a * d ≤ 4294967295 * 4294967295 := Nat.mul_le_mul (by omega) (by omega)
  omega
theorem mul_fit2 {a d r c : Nat} (ha : a < 4294967296) (hd : d < 4294967296) (hr : r < 4294967296) (hc : c < 4294967296) : a * d + r + c < 18446744073709551616 ∧ (a * d + r + c) / 4294967296 < 4294967296 := by
  have : a * d ≤ 4294967295 * 4294967295 := Nat.mul_le_mul (by omega) (by omega)
  omega
/-- the step of the second pass: its rows go one word higher -/
theorem mul_step2 {f r r1 : Nat → Nat} {n R m c d p : Nat} (h : sm r R (m + 1) + c * bw (m + 1) = sm r1 R (m + 1) + sm f n m * d * 4294967296) (hr : r (R - 1 - (m + 1)) = r1 (R - 1 - (m + 1))) (hp : p = f (n - 1 - m) * d + r (R - 1 - (m + 1)) + c) (hm : m + 1 < R) :
    sm (va_up r (R - 1 - (m + 1)) (p % 4294967296)) R (m + 2) + p / 4294967296 * bw (m + 2) = sm r1 R (m + 2) + sm f n (m + 1) * d * 4294967296 := by
  rw [sm_lay hm rfl, sm_s r1 R (m + 1), sm_s f n m, bw_s (m + 1), ← hr]
  have e : p % 4294967296 * bw (m + 1) + p / 4294967296 * (bw (m + 1) * 4294967296) = p * bw (m + 1) := by
    rw [← Nat.mul_assoc, Nat.mul_comm (p / 4294967296 * bw (m + 1)), ← Nat.mul_assoc, ← Nat.add_mul]
    congr 1
    omega
  have e2 : (f (n - 1 - m) * bw m + sm f n m) * d * 4294967296 = f (n - 1 - m) * d * bw (m + 1) + sm f n m * d * 4294967296 := by
    rw [Nat.add_mul, Nat.add_mul, bw_s, Nat.mul_assoc (f (n - 1 - m)), Nat.mul_comm (bw m) d, ← Nat.mul_assoc (f (n - 1 - m)), Nat.mul_assoc _ (bw m)]
  have e3 : p * bw (m + 1) = f (n - 1 - m) * d * bw (m + 1) + r (R - 1 - (m + 1)) * bw (m + 1) + c * bw (m + 1) := by rw [hp, Nat.add_mul, Nat.add_mul]
  omega
