/-! whole numbers behind ints and longs: jI z, jL z hold z modulo 2^32, 2^64 -/
def jI (z : Int) : Int32 := Int32.ofInt z
def jL (z : Int) : Int64 := Int64.ofInt z
theorem jI_toInt {z : Int} (h : -2147483648 ≤ z ∧ z ≤ 2147483647) : (jI z).toInt = z :=
  Int32.toInt_ofInt_of_le (by omega) (by omega)
theorem jL_toInt {z : Int} (h : -9223372036854775808 ≤ z ∧ z ≤ 9223372036854775807) : (jL z).toInt = z :=
  Int64.toInt_ofInt_of_le (by omega) (by omega)
theorem jI_of (x : Int32) : jI x.toInt = x := Int32.ofInt_toInt x
theorem jL_of (x : Int64) : jL x.toInt = x := Int64.ofInt_toInt x
theorem jI_rng (x : Int32) : -2147483648 ≤ x.toInt ∧ x.toInt ≤ 2147483647 := by
  have h1 := x.le_toInt; have h2 := x.toInt_lt; omega
theorem jL_rng (x : Int64) : -9223372036854775808 ≤ x.toInt ∧ x.toInt ≤ 9223372036854775807 := by
  have h1 := x.le_toInt; have h2 := x.toInt_lt; omega
theorem jI_add (a b : Int) : jI a + jI b = jI (a + b) := (Int32.ofInt_add a b).symm
theorem jI_sub (a b : Int) : jI a - jI b = jI (a - b) := (Int32.ofInt_sub a b).symm
theorem jI_mul (a b : Int) : jI a * jI b = jI (a * b) := (Int32.ofInt_mul a b).symm
theorem jI_neg (a : Int) : -jI a = jI (-a) := (Int32.ofInt_neg a).symm
theorem jL_add (a b : Int) : jL a + jL b = jL (a + b) := (Int64.ofInt_add a b).symm
theorem jL_sub (a b : Int) : jL a - jL b = jL (a - b) := (Int64.ofInt_sub a b).symm
theorem jL_mul (a b : Int) : jL a * jL b = jL (a * b) := (Int64.ofInt_mul a b).symm
theorem jL_neg (a : Int) : -jL a = jL (-a) := (Int64.ofInt_neg a).symm
theorem jI_mod {a b : Int} (h : a % 4294967296 = b % 4294967296) : jI a = jI b := by
  apply Int32.toInt_inj.mp
  show (Int32.ofInt a).toInt = (Int32.ofInt b).toInt
  rw [Int32.toInt_ofInt, Int32.toInt_ofInt]
  show a.bmod 4294967296 = b.bmod 4294967296
  simp only [Int.bmod, show ((4294967296 : Nat) : Int) = 4294967296 from rfl]
  rw [h]
theorem jL_mod {a b : Int} (h : a % 18446744073709551616 = b % 18446744073709551616) : jL a = jL b := by
  apply Int64.toInt_inj.mp
  show (Int64.ofInt a).toInt = (Int64.ofInt b).toInt
  rw [Int64.toInt_ofInt, Int64.toInt_ofInt]
  show a.bmod 18446744073709551616 = b.bmod 18446744073709551616
  simp only [Int.bmod, show ((18446744073709551616 : Nat) : Int) = 18446744073709551616 from rfl]
  rw [h]
theorem jI_lt {a b : Int} (ha : -2147483648 ≤ a ∧ a ≤ 2147483647) (hb : -2147483648 ≤ b ∧ b ≤ 2147483647) : jI a < jI b ↔ a < b := by
  rw [Int32.lt_iff_toInt_lt, jI_toInt ha, jI_toInt hb]
theorem jI_le {a b : Int} (ha : -2147483648 ≤ a ∧ a ≤ 2147483647) (hb : -2147483648 ≤ b ∧ b ≤ 2147483647) : jI a ≤ jI b ↔ a ≤ b := by
  rw [Int32.le_iff_toInt_le, jI_toInt ha, jI_toInt hb]
theorem jI_eq {a b : Int} (ha : -2147483648 ≤ a ∧ a ≤ 2147483647) (hb : -2147483648 ≤ b ∧ b ≤ 2147483647) : jI a = jI b ↔ a = b := by
  rw [← Int32.toInt_inj, jI_toInt ha, jI_toInt hb]
theorem jL_lt {a b : Int} (ha : -9223372036854775808 ≤ a ∧ a ≤ 9223372036854775807) (hb : -9223372036854775808 ≤ b ∧ b ≤ 9223372036854775807) : jL a < jL b ↔ a < b := by
  rw [Int64.lt_iff_toInt_lt, jL_toInt ha, jL_toInt hb]
theorem jL_eq {a b : Int} (ha : -9223372036854775808 ≤ a ∧ a ≤ 9223372036854775807) (hb : -9223372036854775808 ≤ b ∧ b ≤ 9223372036854775807) : jL a = jL b ↔ a = b := by
  rw [← Int64.toInt_inj, jL_toInt ha, jL_toInt hb]
theorem jI_0 : (0 : Int32) = jI 0 := by decide
theorem jL_0 : (0 : Int64) = jL 0 := by decide
theorem jI_ne0 {b : Int} (hb : -2147483648 ≤ b ∧ b ≤ 2147483647) (h : b ≠ 0) : ¬ jI b = 0 := by
  rw [jI_0, jI_eq hb (by omega)]; exact h
theorem jL_ne0 {b : Int} (hb : -9223372036854775808 ≤ b ∧ b ≤ 9223372036854775807) (h : b ≠ 0) : ¬ jL b = 0 := by
  rw [jL_0, jL_eq hb (by omega)]; exact h
theorem jI_div {a b : Int} (ha : -2147483648 ≤ a ∧ a ≤ 2147483647) (hb : -2147483648 ≤ b ∧ b ≤ 2147483647) : jI a / jI b = jI (a.tdiv b) := by
  apply Int32.toInt_inj.mp
  rw [Int32.toInt_div, jI_toInt ha, jI_toInt hb]
  show _ = (Int32.ofInt _).toInt
  rw [Int32.toInt_ofInt]
theorem jL_div {a b : Int} (ha : -9223372036854775808 ≤ a ∧ a ≤ 9223372036854775807) (hb : -9223372036854775808 ≤ b ∧ b ≤ 9223372036854775807) : jL a / jL b = jL (a.tdiv b) := by
  apply Int64.toInt_inj.mp
  rw [Int64.toInt_div, jL_toInt ha, jL_toInt hb]
  show _ = (Int64.ofInt _).toInt
  rw [Int64.toInt_ofInt]
theorem jI_rem {a b : Int} (ha : -2147483648 ≤ a ∧ a ≤ 2147483647) (hb : -2147483648 ≤ b ∧ b ≤ 2147483647) : jI a - jI a / jI b * jI b = jI (a.tmod b) := by
  rw [jI_div ha hb, jI_mul, jI_sub]
  congr 1
  have := Int.mul_tdiv_add_tmod a b
  rw [Int.mul_comm] at this
  omega
theorem jL_rem {a b : Int} (ha : -9223372036854775808 ≤ a ∧ a ≤ 9223372036854775807) (hb : -9223372036854775808 ≤ b ∧ b ≤ 9223372036854775807) : jL a - jL a / jL b * jL b = jL (a.tmod b) := by
  rw [jL_div ha hb, jL_mul, jL_sub]
  congr 1
  have := Int.mul_tdiv_add_tmod a b
  rw [Int.mul_comm] at this
  omega
theorem jI_toL {a : Int} (ha : -2147483648 ≤ a ∧ a ≤ 2147483647) : (jI a).toInt64 = jL a := by
  apply Int64.toInt_inj.mp
  rw [Int32.toInt_toInt64, jI_toInt ha, jL_toInt (by omega)]
theorem jL_toI (a : Int) : (jL a).toInt32 = jI a := Int64.toInt32_ofInt
/-- an array's index -/
theorem jI_in {i : Int} {n : Nat} (h : 0 ≤ i ∧ i < (n : Int)) (hn : (n : Int) ≤ 2147483647) : vp_in (jI i) n := by
  rw [vp_in_iff, jI_toInt (by omega)]; exact h
theorem jI_cl {i : Int} {j : Nat} (h : i = (j : Int)) (hn : i ≤ 2147483647) : (jI i).toNatClampNeg = j := by
  show (jI i).toInt.toNat = j
  rw [jI_toInt (by omega), h]; rfl
theorem jI_nat (n : Nat) : Int32.ofNat n = jI (n : Int) := (Int32.ofInt_eq_ofNat).symm
theorem jL_cmp {a b : Int} (ha : -9223372036854775808 ≤ a ∧ a ≤ 9223372036854775807) (hb : -9223372036854775808 ≤ b ∧ b ≤ 9223372036854775807) :
    lg_cmp (jL a) (jL b) = jI (if a < b then -1 else if a = b then 0 else 1) := by
  unfold lg_cmp
  by_cases h1 : a < b
  · simp [jL_lt ha hb, jL_lt hb ha, jL_eq ha hb, jL_eq hb ha, h1, Int.not_lt.mpr (Int.le_of_lt h1), Int.ne_of_lt h1]; decide
  · by_cases h2 : a = b
    · subst h2; simp [jL_lt ha ha]; decide
    · have h3 : b < a := by omega
      simp [jL_lt ha hb, jL_lt hb ha, jL_eq ha hb, jL_eq hb ha, h1, h2, h3]; decide
theorem jI_tn (a : Int) : (jI a).toBitVec.toNat = (a % 4294967296).toNat := by
  show (Int32.ofInt a).toBitVec.toNat = _
  rw [Int32.toBitVec_ofInt, BitVec.toNat_ofInt]
  rfl
theorem jL_tn (a : Int) : (jL a).toBitVec.toNat = (a % 18446744073709551616).toNat := by
  show (Int64.ofInt a).toBitVec.toNat = _
  rw [Int64.toBitVec_ofInt, BitVec.toNat_ofInt]
  rfl
theorem jI_i2c (a : Int) : ((jI a).toUInt32 % 65536).toInt32 = jI (a % 65536) := by
  rw [pk_char, jI_tn]
  show Int32.ofNat _ = _
  rw [jI_nat]
  apply jI_mod
  omega
theorem jI_i2b {a : Int} (h : -128 ≤ a ∧ a ≤ 127) : (jI a).toInt8.toInt32 = jI a := by
  apply Int32.toInt_inj.mp
  rw [Int8.toInt_toInt32, Int32.toInt_toInt8, jI_toInt (by omega)]
  show a.bmod 256 = a
  simp only [Int.bmod, show ((256 : Nat) : Int) = 256 from rfl]
  split <;> omega
theorem jI_nb {v : Int} (h : -128 ≤ v ∧ v ≤ 127) : narrow .byte (.int (jI v)) = .int (jI v) := by
  rw [narrow_byte, jI_i2b h]
theorem jI_nc {v : Int} (h : 0 ≤ v ∧ v ≤ 65535) : narrow .char (.int (jI v)) = .int (jI v) := by
  have e : jI v = nI v.toNat := by
    show _ = Int32.ofNat v.toNat
    rw [jI_nat]
    congr 1
    omega
  rw [e]
  exact (pk_charN (by omega)).1
theorem jI_nz {v : Int} (h : v = 0 ∨ v = 1) : narrow .boolean (.int (jI v)) = .int (jI v) := by
  rcases h with e | e <;> subst e <;> rfl
theorem jI_fb {v : Int} (h : -128 ≤ v ∧ v ≤ 127) : fits .byte (.int (jI v)) = true := by
  rw [← jI_i2b h]; exact pk_fb (jI v)
theorem jI_fc {v : Int} (h : 0 ≤ v ∧ v ≤ 65535) : fits .char (.int (jI v)) = true := by
  have e : jI v = nI v.toNat := by
    show _ = Int32.ofNat v.toNat
    rw [jI_nat]
    congr 1
    omega
  rw [e]
  exact (pk_charN (by omega)).2
theorem jI_fz {v : Int} (h : v = 0 ∨ v = 1) : fits .boolean (.int (jI v)) = true := by
  rcases h with e | e <;> subst e <;> rfl
