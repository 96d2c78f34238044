/-! shifts and masks of whole numbers -/
theorem iL_ext {a b : Int64} (h : a.toBitVec.toNat = b.toBitVec.toNat) : a = b := Int64.toBitVec_inj.mp (BitVec.eq_of_toNat_eq h)
theorem iI_ext {a b : Int32} (h : a.toBitVec.toNat = b.toBitVec.toNat) : a = b := Int32.toBitVec_inj.mp (BitVec.eq_of_toNat_eq h)
theorem jL_ext {a : Int64} {z : Int} (h : a.toBitVec.toNat = (z % 18446744073709551616).toNat) : a = jL z := iL_ext (by rw [h, jL_tn])
theorem jI_ext {a : Int32} {z : Int} (h : a.toBitVec.toNat = (z % 4294967296).toNat) : a = jI z := iI_ext (by rw [h, jI_tn])
theorem jL_ushr (z : Int) (k : Nat) (hk : k < 64) : ((jL z).toUInt64 >>> ((jI (k : Int)).toInt64.toUInt64 &&& Int64.toUInt64 63)).toInt64 = jL (z % 18446744073709551616 / (2 ^ k : Nat)) := by
  apply jL_ext
  have e1 : ((jI (k : Int)).toInt64.toUInt64 &&& Int64.toUInt64 63).toBitVec.toNat = k := by
    rw [jI_toL (by omega)]
    show ((jL (k : Int)).toBitVec &&& (63 : BitVec 64)).toNat = k
    rw [BitVec.toNat_and, jL_tn]
    have : ((k : Int) % 18446744073709551616).toNat = k := by omega
    rw [this]
    show k &&& 63 = k
    rw [show (63 : Nat) = 2 ^ 6 - 1 from rfl, Nat.and_two_pow_sub_one_eq_mod]
    omega
  show ((jL z).toUInt64 >>> ((jI (k : Int)).toInt64.toUInt64 &&& Int64.toUInt64 63)).toBitVec.toNat = _
  rw [UInt64.toBitVec_shiftRight, BitVec.ushiftRight_eq', BitVec.toNat_ushiftRight, BitVec.toNat_umod, e1]
  show (jL z).toBitVec.toNat >>> (k % 64) = _
  rw [jL_tn, Nat.mod_eq_of_lt hk, Nat.shiftRight_eq_div_pow]
  have h0 : 0 < 2 ^ k := Nat.pow_pos (by decide)
  have hd : (z % 18446744073709551616).toNat / 2 ^ k ≤ (z % 18446744073709551616).toNat := Nat.div_le_self _ _
  have hz : ((z % 18446744073709551616).toNat : Int) = z % 18446744073709551616 := by omega
  have hq : (((z % 18446744073709551616).toNat / 2 ^ k : Nat) : Int) = z % 18446744073709551616 / ((2 ^ k : Nat) : Int) := by rw [Int.natCast_ediv, hz]
  rw [← hq]
  have key : ∀ a d : Nat, d ≤ a → a < 18446744073709551616 → d = ((d : Int) % 18446744073709551616).toNat := by intro a d h1 h2; omega
  exact key _ _ hd (by omega)
theorem jL_mask32 (z : Int) : jL z &&& jL 4294967295 = jL (z % 4294967296) := by
  apply jL_ext
  show ((jL z).toBitVec &&& (jL 4294967295).toBitVec).toNat = _
  rw [BitVec.toNat_and, jL_tn, jL_tn]
  show (z % 18446744073709551616).toNat &&& 4294967295 = _
  rw [show (4294967295 : Nat) = 2 ^ 32 - 1 from rfl, Nat.and_two_pow_sub_one_eq_mod]
  omega
/-- an int read as a word -/
theorem jI_word (z : Int) : (jI z).toInt64 &&& jL 4294967295 = jL (z % 4294967296) := by
  have h := jI_rng (jI z)
  have e : (jI z).toInt64 = jL (jI z).toInt := by rw [← jI_toL h, jI_of]
  rw [e, jL_mask32]
  apply jL_mod
  have h2 : (jI z).toInt = z.bmod 4294967296 := by show (Int32.ofInt z).toInt = _; rw [Int32.toInt_ofInt]
  rw [h2]
  simp only [Int.bmod, show ((4294967296 : Nat) : Int) = 4294967296 from rfl]
  split <;> omega
