-- what the small methods answer
def inI (v lo hi : Int) : Int := if lo ≤ v ∧ v ≤ hi then 1 else 0
theorem inI_1 {v lo hi : Int} (h : lo ≤ v ∧ v ≤ hi) : inI v lo hi = 1 := if_pos h
theorem inI_0 {v lo hi : Int} (h : v < lo ∨ hi < v) : inI v lo hi = 0 := if_neg (by omega)
theorem inI_n1 {v lo hi : Int} (h : inI v lo hi ≠ 0) : lo ≤ v ∧ v ≤ hi := by unfold inI at h; split at h; assumption; exact absurd rfl h
theorem inI_n0 {v lo hi : Int} (h : inI v lo hi = 0) : v < lo ∨ hi < v := by unfold inI at h; split at h; exact absurd h (by decide); omega
theorem inI_cases (v lo hi : Int) : (inI v lo hi = 1 ∧ lo ≤ v ∧ v ≤ hi) ∨ (inI v lo hi = 0 ∧ (v < lo ∨ hi < v)) := by unfold inI; split <;> omega
def mdI (m : Int) : Int := if m = 99 ∨ m = 100 ∨ m = 101 ∨ m = 102 ∨ m = 104 ∨ m = 108 ∨ m = 110 ∨ m = 117 then 1 else 0
theorem mdI_1 {m : Int} (h : m = 99 ∨ m = 100 ∨ m = 101 ∨ m = 102 ∨ m = 104 ∨ m = 108 ∨ m = 110 ∨ m = 117) : mdI m = 1 := if_pos h
theorem mdI_0 {m : Int} (h : ¬ (m = 99 ∨ m = 100 ∨ m = 101 ∨ m = 102 ∨ m = 104 ∨ m = 108 ∨ m = 110 ∨ m = 117)) : mdI m = 0 := if_neg h
theorem mdI_cases (m : Int) : mdI m = 0 ∨ mdI m = 1 := by unfold mdI; split <;> omega
def grI (a b : Int) : Int := if b < a then a else b
theorem grI_cases (a b : Int) : (b < a ∧ grI a b = a) ∨ (a ≤ b ∧ grI a b = b) := by unfold grI; split <;> omega
def psI (a : Int) : Int := if 0 < a then 1 else 0
theorem psI_cases (a : Int) : (0 < a ∧ psI a = 1) ∨ (a ≤ 0 ∧ psI a = 0) := by unfold psI; split <;> omega
-- the number of digits
def dgc (n : Nat) : Nat := if n < 10 then 1 else dgc (n / 10) + 1
termination_by n
decreasing_by omega
theorem dgc_s (v : Int) : (dgc v.natAbs : Int) = 1 + (if v.tdiv 10 = 0 then 0 else (dgc (v.tdiv 10).natAbs : Int)) := by
  have e : (v.tdiv 10).natAbs = v.natAbs / 10 := by rw [Int.natAbs_tdiv]; rfl
  rw [e]
  by_cases c : v.natAbs < 10
  · have : v.tdiv 10 = 0 := by rw [← Int.natAbs_eq_zero, e]; omega
    rw [dgc, if_pos c, if_pos this]; rfl
  · have : v.tdiv 10 ≠ 0 := by rw [← Int.natAbs_ne_zero, e]; omega
    rw [dgc, if_neg c, if_neg this]; omega
theorem dgc_e {v t : Int} {k : Int} (h : (dgc v.natAbs : Int) = k + (if t = 0 then 0 else (dgc t.natAbs : Int))) (h0 : t = 0) : (dgc v.natAbs : Int) = k := by rw [if_pos h0] at h; omega
theorem dgc_n {v t : Int} {k : Int} (h : (dgc v.natAbs : Int) = k + (if t = 0 then 0 else (dgc t.natAbs : Int))) (h0 : t ≠ 0) : (dgc v.natAbs : Int) = k + 1 + (if t.tdiv 10 = 0 then 0 else (dgc (t.tdiv 10).natAbs : Int)) := by
  rw [if_neg h0, dgc_s t] at h; omega
theorem td_rng {v : Int} : (v.tdiv 10).natAbs = v.natAbs / 10 := by rw [Int.natAbs_tdiv]; rfl
theorem td_lt {v : Int} (h : v ≠ 0) : (v.tdiv 10).natAbs < v.natAbs := by rw [Int.natAbs_tdiv]; exact Nat.div_lt_self (by omega) (by decide)
-- laying: whether, and what
def laI (n : Nat) (sc : Int) : Int := if n < 10 ^ 18 ∧ -18 ≤ sc ∧ sc ≤ 36 then 1 else 0
def sgn (neg : Int) (n : Nat) : Int := if neg = 1 then -(n : Int) else n
def up1 {α : Type} (b : Int) (f : Nat → α) (k : Nat) (v : α) : Nat → α := if b = 1 then va_up f k v else f
theorem up1_0 {α : Type} {b : Int} (h : b = 0) (f : Nat → α) (k : Nat) (v : α) : up1 b f k v = f := if_neg (by omega)
theorem up1_1 {α : Type} {b : Int} (h : b = 1) (f : Nat → α) (k : Nat) (v : α) : up1 b f k v = va_up f k v := if_pos h
theorem sgn_0 {neg : Int} {n : Nat} (h : neg = 0) : sgn neg n = n := if_neg (by omega)
theorem sgn_1 {neg : Int} {n : Nat} (h : neg = 0 ∨ neg = 1) (h2 : neg ≠ 0) : sgn neg n = -(n : Int) := if_pos (by omega)
theorem laI_1 {n : Nat} {sc : Int} (h : n < 10 ^ 18) (h2 : -18 ≤ sc ∧ sc ≤ 36) : laI n sc = 1 := if_pos ⟨h, h2⟩
theorem laI_0 {n : Nat} {sc : Int} (h2 : sc < -18 ∨ 36 < sc) : laI n sc = 0 := if_neg (by omega)
theorem laI_00 {n : Nat} {sc : Int} (h2 : 10 ^ 18 ≤ n) : laI n sc = 0 := if_neg (by omega)
theorem laI_cases (n : Nat) (sc : Int) : laI n sc = 0 ∨ laI n sc = 1 := by unfold laI; split <;> omega
theorem rok_18 {D M : Nat → Nat} {r n : Nat} (h : rok D M r n) (hm : M r ≤ 18) : n < 10 ^ 18 := Nat.lt_of_lt_of_le (rok_lt h) (Nat.pow_le_pow_right (by omega) hm)
theorem rok_19 {D M : Nat → Nat} {r n : Nat} (h : rok D M r n) (hm : 18 < M r) : 10 ^ 18 ≤ n := by
  rcases Nat.lt_or_ge n (10 ^ 18) with c | c
  · have := rok_le h c; omega
  · exact c
-- an operation with a code: 0 does it, else it does nothing
def up0 {α : Type} (c : Int) (f : Nat → α) (k : Nat) (v : α) : Nat → α := if c = 0 then va_up f k v else f
def if0 (c x : Int) : Int := if c = 0 then x else 0
theorem up0_0 {α : Type} (f : Nat → α) (k : Nat) (v : α) : up0 0 f k v = va_up f k v := rfl
theorem up0_1 {α : Type} (f : Nat → α) (k : Nat) (v : α) : up0 1 f k v = f := rfl
theorem up0_2 {α : Type} (f : Nat → α) (k : Nat) (v : α) : up0 2 f k v = f := rfl
theorem up0_3 {α : Type} (f : Nat → α) (k : Nat) (v : α) : up0 3 f k v = f := rfl
theorem up0_4 {α : Type} (f : Nat → α) (k : Nat) (v : α) : up0 4 f k v = f := rfl
theorem up0_5 {α : Type} (f : Nat → α) (k : Nat) (v : α) : up0 5 f k v = f := rfl
theorem up0_6 {α : Type} (f : Nat → α) (k : Nat) (v : α) : up0 6 f k v = f := rfl
theorem if0_0 (v : Int) : if0 0 v = v := rfl
def HB (H : Nat → Int) : Prop := ∀ k, H k = 0 ∨ H k = 1
def putC (s u sc : Int) : Int := if s < 0 ∨ 11 < s then 1 else if sc < -18 ∨ 36 < sc ∨ u < -999999999999999999 ∨ 999999999999999999 < u then 2 else 0
def nvC (s : Int) (H : Nat → Int) : Int := if s < 0 ∨ 11 < s then 1 else if H s.toNat = 0 then 2 else 0
theorem nvC_cases (s : Int) (H : Nat → Int) : (nvC s H = 1 ∧ (s < 0 ∨ 11 < s)) ∨ (nvC s H = 2 ∧ 0 ≤ s ∧ s ≤ 11 ∧ H s.toNat = 0) ∨ (nvC s H = 0 ∧ 0 ≤ s ∧ s ≤ 11 ∧ H s.toNat ≠ 0) := by unfold nvC; (repeat' split) <;> omega
def prI (v : Int) : Int := if v < 0 then -(dgc v.natAbs : Int) else dgc v.natAbs
def upS (b : Bool) (x : Int) : Int := if b then x else 0
theorem if0_n {c x : Int} (h : c ≠ 0) : if0 c x = 0 := if_neg h
theorem if0_p {c x : Int} (h : c = 0) : if0 c x = x := if_pos h
def NB (N : Nat → Int) : Prop := ∀ k, -999999999999999999 ≤ N k ∧ N k ≤ 999999999999999999
def SB (Sc : Nat → Int) : Prop := ∀ k, -18 ≤ Sc k ∧ Sc k ≤ 36
def sgI (v : Int) : Int := if v < 0 then -1 else if 0 < v then 1 else 0
theorem sgI_cases (v : Int) : (v < 0 ∧ sgI v = -1) ∨ (v = 0 ∧ sgI v = 0) ∨ (0 < v ∧ sgI v = 1) := by unfold sgI; (repeat' split) <;> omega
def nxI (s c : Int) : Int :=
  if s = 0 then (if c = 43 ∨ c = 45 then 1 else if 48 ≤ c ∧ c ≤ 57 then 2 else if c = 46 then 3 else -1)
  else if s = 1 then (if 48 ≤ c ∧ c ≤ 57 then 2 else if c = 46 then 3 else -1)
  else if s = 2 then (if 48 ≤ c ∧ c ≤ 57 then 2 else if c = 46 then 4 else if c = 101 ∨ c = 69 then 5 else -1)
  else if s = 3 then (if 48 ≤ c ∧ c ≤ 57 then 6 else -1)
  else if s = 4 ∨ s = 6 then (if 48 ≤ c ∧ c ≤ 57 then 6 else if c = 101 ∨ c = 69 then 5 else -1)
  else if s = 5 then (if c = 43 ∨ c = 45 then 7 else if 48 ≤ c ∧ c ≤ 57 then 8 else -1)
  else if s = 7 then (if 48 ≤ c ∧ c ≤ 57 then 8 else -1)
  else if s = 8 ∨ s = 9 then (if 48 ≤ c ∧ c ≤ 57 then s + 1 else -1) else -1
theorem sgn_abs0 {v : Int} (h : 0 ≤ v) : sgn 0 v.natAbs = v := by unfold sgn; rw [if_neg (by decide)]; omega
theorem sgn_abs1 {v : Int} (h : v < 0) : sgn 1 v.natAbs = v := by unfold sgn; rw [if_pos rfl]; omega
theorem abs_18 {v : Int} (h : -999999999999999999 ≤ v ∧ v ≤ 999999999999999999) : v.natAbs < 10 ^ 18 := by
  rw [show (10:Nat)^18 = 1000000000000000000 from by decide]; omega
theorem big_mul {x e m k : Nat} (h : x < 10 ^ m) (hk : e ≤ k) (hb : m + k ≤ 240) : x * 10 ^ e < big := by
  have h1 : x * 10 ^ e < 10 ^ m * 10 ^ e := Nat.mul_lt_mul_of_pos_right h (Nat.pow_pos (by decide))
  rw [← Nat.pow_add] at h1
  exact Nat.lt_of_lt_of_le h1 (Nat.pow_le_pow_right (by decide) (by omega))
theorem big_add {x y m : Nat} (h : x < 10 ^ m) (h2 : y < 10 ^ m) (hb : m < 240) : x + y < big := by
  have : 10 ^ m * 10 ≤ big := by rw [← Nat.pow_succ]; exact Nat.pow_le_pow_right (by decide) (by omega)
  omega
theorem mul_big {x y : Nat} (h : x < 10 ^ 18) (h2 : y < 10 ^ 18) : x * y < big := by
  have h1 : x * y ≤ x * 10 ^ 18 := Nat.mul_le_mul_left _ (by omega)
  exact Nat.lt_of_le_of_lt h1 (big_mul h (Nat.le_refl 18) (by omega))
def xrI (a b : Int) : Int := if (a < 0 ∧ b < 0) ∨ (0 ≤ a ∧ 0 ≤ b) then 0 else 1
theorem xrI_0 {a b : Int} (h : (a < 0 ∧ b < 0) ∨ (0 ≤ a ∧ 0 ≤ b)) : xrI a b = 0 := if_pos h
theorem xrI_1 {a b : Int} (h : (a < 0 ∧ 0 ≤ b) ∨ (0 ≤ a ∧ b < 0)) : xrI a b = 1 := if_neg (by omega)
-- sums and order over shelves
def smA (N Sc : Nat → Int) (i : Nat) (sc : Int) : Nat := (N i).natAbs * 10 ^ (sc - Sc i).toNat
def bl (v : Int) : Int := if v < 0 then 1 else 0
def tI (b t : Int) : Int := if b = t then 0 else 1
def smV (N Sc : Nat → Int) (i j : Nat) (tn : Int) : Int := sgn (bl (N i)) (smA N Sc i (grI (Sc i) (Sc j))) + sgn (tI (bl (N j)) tn) (smA N Sc j (grI (Sc i) (Sc j)))
theorem bl_01 (v : Int) : bl v = 0 ∨ bl v = 1 := by unfold bl; split <;> omega
theorem tI_01 (v w : Int) : tI v w = 0 ∨ tI v w = 1 := by unfold tI; split <;> omega
theorem smA_72 {N Sc : Nat → Int} (hN : NB N) (hS : SB Sc) (i : Nat) {sc : Int} (h : sc ≤ 36) : smA N Sc i sc < 10 ^ 72 := by
  have h1 := abs_18 (hN i); have h2 := hS i
  have h3 : smA N Sc i sc < 10 ^ 18 * 10 ^ (sc - Sc i).toNat := Nat.mul_lt_mul_of_pos_right h1 (Nat.pow_pos (by decide))
  rw [← Nat.pow_add] at h3
  exact Nat.lt_of_lt_of_le h3 (Nat.pow_le_pow_right (by decide) (by omega))
theorem b72 {n : Nat} (h : n < 10 ^ 72) : n < big := Nat.lt_of_lt_of_le h (Nat.pow_le_pow_right (by decide) (by decide))
theorem sm_1 {p q : Int} {u v : Nat} (hp : p = 0 ∨ p = 1) (h : p = q) : u + v = (sgn p u + sgn q v).natAbs ∧ sgn p (sgn p u + sgn q v).natAbs = sgn p u + sgn q v := by
  subst h; have z : ∀ n : Nat, sgn 0 n = n := fun _ => rfl; have o : ∀ n : Nat, sgn 1 n = -(n : Int) := fun _ => rfl; rcases hp with e | e <;> subst e
  · simp only [z, o]; omega
  · simp only [z, o]; omega
theorem sm_2 {p q : Int} {u v : Nat} (hp : p = 0 ∨ p = 1) (hq : q = 0 ∨ q = 1) (h : p ≠ q) (hl : v ≤ u) : u - v = (sgn p u + sgn q v).natAbs ∧ sgn p (sgn p u + sgn q v).natAbs = sgn p u + sgn q v := by
  have z : ∀ n : Nat, sgn 0 n = n := fun _ => rfl; have o : ∀ n : Nat, sgn 1 n = -(n : Int) := fun _ => rfl; rcases hp with e | e <;> rcases hq with f | f <;> subst e <;> subst f
  · exact absurd rfl h
  · simp only [z, o]; omega
  · simp only [z, o]; omega
  · exact absurd rfl h
theorem sm_3 {p q : Int} {u v : Nat} (hp : p = 0 ∨ p = 1) (hq : q = 0 ∨ q = 1) (h : p ≠ q) (hl : u < v) : v - u = (sgn p u + sgn q v).natAbs ∧ sgn q (sgn p u + sgn q v).natAbs = sgn p u + sgn q v := by
  have z : ∀ n : Nat, sgn 0 n = n := fun _ => rfl; have o : ∀ n : Nat, sgn 1 n = -(n : Int) := fun _ => rfl; rcases hp with e | e <;> rcases hq with f | f <;> subst e <;> subst f
  · exact absurd rfl h
  · simp only [z, o]; omega
  · simp only [z, o]; omega
  · exact absurd rfl h
def ordI (N Sc : Nat → Int) (i j : Nat) : Int := if sgI (N i) ≠ sgI (N j) then (if sgI (N i) < sgI (N j) then -1 else 1) else sgI (N i) * cmpI (smA N Sc i (grI (Sc i) (Sc j))) (smA N Sc j (grI (Sc i) (Sc j)))
theorem ord_m {N Sc : Nat → Int} {i j : Nat} (h : sgI (N i) < sgI (N j)) : ordI N Sc i j = -1 := by unfold ordI; rw [if_pos (by omega), if_pos h]
theorem ord_p {N Sc : Nat → Int} {i j : Nat} (h : sgI (N j) < sgI (N i)) : ordI N Sc i j = 1 := by unfold ordI; rw [if_pos (by omega), if_neg (by omega)]
theorem ord_e {N Sc : Nat → Int} {i j : Nat} (h : sgI (N i) = sgI (N j)) : ordI N Sc i j = sgI (N i) * cmpI (smA N Sc i (grI (Sc i) (Sc j))) (smA N Sc j (grI (Sc i) (Sc j))) := by unfold ordI; rw [if_neg (by omega)]
