/-! shifts by a number, masks, or of parts -/
theorem sm31 : ∀ k < 32, (BitVec.ofNat 32 k).smod 32 = BitVec.ofNat 32 k := by decide
theorem sm63 : ∀ k < 64, (BitVec.ofNat 64 k).smod 64 = BitVec.ofNat 64 k := by decide
theorem um31 : ∀ k < 32, (BitVec.ofNat 32 k).umod 32 = BitVec.ofNat 32 k := by decide
theorem jI_c31 {c : Int} {k : Nat} (h : c % 32 = (k : Int)) : (jI c).toBitVec &&& (31 : BitVec 32) = BitVec.ofNat 32 k := by
  apply BitVec.eq_of_toNat_eq
  rw [BitVec.toNat_and, jI_tn, BitVec.toNat_ofNat]
  show (c % 4294967296).toNat &&& 31 = k % 4294967296
  rw [show (31 : Nat) = 2 ^ 5 - 1 from rfl, Nat.and_two_pow_sub_one_eq_mod]
  omega
theorem jI_c63 {c : Int} {k : Nat} (hc : -2147483648 ≤ c ∧ c ≤ 2147483647) (h : c % 64 = (k : Int)) : (jI c).toInt64.toBitVec &&& (63 : BitVec 64) = BitVec.ofNat 64 k := by
  apply BitVec.eq_of_toNat_eq
  rw [jI_toL hc, BitVec.toNat_and, jL_tn, BitVec.toNat_ofNat]
  show (c % 18446744073709551616).toNat &&& 63 = k % 18446744073709551616
  rw [show (63 : Nat) = 2 ^ 6 - 1 from rfl, Nat.and_two_pow_sub_one_eq_mod]
  omega
theorem bn32 {k : Nat} (h : k < 32) : (BitVec.ofNat 32 k).toNat = k := by rw [BitVec.toNat_ofNat]; omega
theorem bn64 {k : Nat} (h : k < 64) : (BitVec.ofNat 64 k).toNat = k := by rw [BitVec.toNat_ofNat]; omega
theorem sh_key {z p : Int} {N : Nat} (hN : 0 < N) (hp : 0 ≤ p) : (((z % (N : Int)).toNat * p.toNat % N : Nat) : Int) = z * p % (N : Int) := by
  have h1 : ((z % (N : Int)).toNat : Int) = z % (N : Int) := Int.toNat_of_nonneg (Int.emod_nonneg _ (by omega))
  rw [Int.natCast_emod, Int.natCast_mul, h1, Int.toNat_of_nonneg hp, Int.mul_emod (z % (N : Int)) p N, Int.emod_emod_of_dvd _ (Int.dvd_refl _), ← Int.mul_emod]
theorem jI_shl (z : Int) {c : Int} {k : Nat} (h : c % 32 = (k : Int)) : jI z <<< (jI c &&& 31) = jI (z * ((2 ^ k : Nat) : Int)) := by
  apply jI_ext
  have hk : k < 32 := by omega
  show ((jI z).toBitVec <<< (((jI c).toBitVec &&& (31 : BitVec 32)).smod 32)).toNat = _
  rw [jI_c31 h, sm31 k hk, BitVec.shiftLeft_eq', BitVec.toNat_shiftLeft, bn32 hk, jI_tn, Nat.shiftLeft_eq]
  have e := sh_key (z := z) (p := ((2 ^ k : Nat) : Int)) (N := 4294967296) (by decide) (Int.natCast_nonneg _)
  rw [Int.toNat_natCast] at e
  have e2 : (((z % (4294967296 : Int)).toNat * 2 ^ k % 4294967296 : Nat) : Int) = z * ((2 ^ k : Nat) : Int) % (4294967296 : Int) := e
  rw [← e2, Int.toNat_natCast]
theorem jL_shl (z : Int) {c : Int} {k : Nat} (hc : -2147483648 ≤ c ∧ c ≤ 2147483647) (h : c % 64 = (k : Int)) : jL z <<< ((jI c).toInt64 &&& 63) = jL (z * ((2 ^ k : Nat) : Int)) := by
  apply jL_ext
  have hk : k < 64 := by omega
  show ((jL z).toBitVec <<< (((jI c).toInt64.toBitVec &&& (63 : BitVec 64)).smod 64)).toNat = _
  rw [jI_c63 hc h, sm63 k hk, BitVec.shiftLeft_eq', BitVec.toNat_shiftLeft, bn64 hk, jL_tn, Nat.shiftLeft_eq]
  have e := sh_key (z := z) (p := ((2 ^ k : Nat) : Int)) (N := 18446744073709551616) (by decide) (Int.natCast_nonneg _)
  rw [Int.toNat_natCast] at e
  have e2 : (((z % (18446744073709551616 : Int)).toNat * 2 ^ k % 18446744073709551616 : Nat) : Int) = z * ((2 ^ k : Nat) : Int) % (18446744073709551616 : Int) := e
  rw [← e2, Int.toNat_natCast]
theorem jI_shr {z : Int} (hz : -2147483648 ≤ z ∧ z ≤ 2147483647) {c : Int} {k : Nat} (h : c % 32 = (k : Int)) : jI z >>> (jI c &&& 31) = jI (z / ((2 ^ k : Nat) : Int)) := by
  have hk : k < 32 := by omega
  rw [← jI_of (jI z >>> (jI c &&& 31))]
  congr 1
  show (BitVec.sshiftRight' (jI z).toBitVec (((jI c).toBitVec &&& (31 : BitVec 32)).smod 32)).toInt = _
  rw [jI_c31 h, sm31 k hk, BitVec.toInt_sshiftRight', bn32 hk]
  show (jI z).toInt >>> k = _
  rw [jI_toInt hz, Int.shiftRight_eq_div_pow]
theorem jL_shr {z : Int} (hz : -9223372036854775808 ≤ z ∧ z ≤ 9223372036854775807) {c : Int} {k : Nat} (hc : -2147483648 ≤ c ∧ c ≤ 2147483647) (h : c % 64 = (k : Int)) : jL z >>> ((jI c).toInt64 &&& 63) = jL (z / ((2 ^ k : Nat) : Int)) := by
  have hk : k < 64 := by omega
  rw [← jL_of (jL z >>> ((jI c).toInt64 &&& 63))]
  congr 1
  show (BitVec.sshiftRight' (jL z).toBitVec (((jI c).toInt64.toBitVec &&& (63 : BitVec 64)).smod 64)).toInt = _
  rw [jI_c63 hc h, sm63 k hk, BitVec.toInt_sshiftRight', bn64 hk]
  show (jL z).toInt >>> k = _
  rw [jL_toInt hz, Int.shiftRight_eq_div_pow]
theorem us_key {z : Int} {k N : Nat} (hN : 0 < N) : (((z % (N : Int)).toNat / 2 ^ k : Nat)) = (z % (N : Int) / ((2 ^ k : Nat) : Int) % (N : Int)).toNat := by
  have h1 : ((z % (N : Int)).toNat : Int) = z % (N : Int) := Int.toNat_of_nonneg (Int.emod_nonneg _ (by omega))
  have h2 : (((z % (N : Int)).toNat / 2 ^ k : Nat) : Int) = z % (N : Int) / ((2 ^ k : Nat) : Int) := by rw [Int.natCast_ediv, h1]
  have h3 : (z % (N : Int)).toNat / 2 ^ k ≤ (z % (N : Int)).toNat := Nat.div_le_self _ _
  have h4 : z % (N : Int) < N := Int.emod_lt_of_pos _ (by omega)
  rw [← h2, Int.emod_eq_of_lt (Int.natCast_nonneg _) (by omega), Int.toNat_natCast]
theorem jI_ushr (z : Int) {c : Int} {k : Nat} (h : c % 32 = (k : Int)) : ((jI z).toUInt32 >>> ((jI c).toUInt32 &&& Int32.toUInt32 31)).toInt32 = jI (z % 4294967296 / ((2 ^ k : Nat) : Int)) := by
  apply jI_ext
  have hk : k < 32 := by omega
  show ((jI z).toBitVec >>> (((jI c).toBitVec &&& (31 : BitVec 32)).umod 32)).toNat = _
  rw [jI_c31 h, um31 k hk, BitVec.ushiftRight_eq', BitVec.toNat_ushiftRight, bn32 hk, jI_tn, Nat.shiftRight_eq_div_pow]
  exact us_key (N := 4294967296) (by decide)
theorem jL_ushrc (z : Int) {c : Int} {k : Nat} (hc : -2147483648 ≤ c ∧ c ≤ 2147483647) (h : c % 64 = (k : Int)) : ((jL z).toUInt64 >>> ((jI c).toInt64.toUInt64 &&& Int64.toUInt64 63)).toInt64 = jL (z % 18446744073709551616 / ((2 ^ k : Nat) : Int)) := by
  have hk : k < 64 := by omega
  have e : ((jI c).toInt64.toUInt64 &&& Int64.toUInt64 63) = ((jI (k : Int)).toInt64.toUInt64 &&& Int64.toUInt64 63) := by
    apply UInt64.toBitVec_inj.mp
    show (jI c).toInt64.toBitVec &&& (63 : BitVec 64) = (jI (k : Int)).toInt64.toBitVec &&& (63 : BitVec 64)
    rw [jI_c63 hc h, jI_c63 (k := k) (by omega) (by omega)]
  rw [e]; exact jL_ushr z k hk
/-- the lowest k bits -/
theorem jI_and {z m : Int} (k : Nat) (hk : k ≤ 32) (hm : m = ((2 ^ k - 1 : Nat) : Int)) : jI z &&& jI m = jI (z % ((2 ^ k : Nat) : Int)) := by
  subst hm
  have hp : 2 ^ k ≤ 2 ^ 32 := Nat.pow_le_pow_right (by decide) hk
  have h0 : 0 < 2 ^ k := Nat.pow_pos (by decide)
  have hd : 2 ^ k ∣ 2 ^ 32 := Nat.pow_dvd_pow 2 hk
  apply jI_ext
  show ((jI z).toBitVec &&& (jI ((2 ^ k - 1 : Nat) : Int)).toBitVec).toNat = _
  rw [BitVec.toNat_and, jI_tn, jI_tn]
  have e1 : (((2 ^ k - 1 : Nat) : Int) % 4294967296).toNat = 2 ^ k - 1 := by omega
  rw [e1, Nat.and_two_pow_sub_one_eq_mod]
  have h1 : ((z % 4294967296).toNat : Int) = z % 4294967296 := by omega
  have h2 : (((z % 4294967296).toNat % 2 ^ k : Nat) : Int) = z % ((2 ^ k : Nat) : Int) := by
    rw [Int.natCast_emod, h1]; exact Int.emod_emod_of_dvd _ (Int.ofNat_dvd.mpr hd)
  have h3 : (z % 4294967296).toNat % 2 ^ k < 2 ^ k := Nat.mod_lt _ h0
  omega
theorem jL_and {z m : Int} (k : Nat) (hk : k ≤ 64) (hm : m = ((2 ^ k - 1 : Nat) : Int)) : jL z &&& jL m = jL (z % ((2 ^ k : Nat) : Int)) := by
  subst hm
  have hp : 2 ^ k ≤ 2 ^ 64 := Nat.pow_le_pow_right (by decide) hk
  have h0 : 0 < 2 ^ k := Nat.pow_pos (by decide)
  have hd : 2 ^ k ∣ 2 ^ 64 := Nat.pow_dvd_pow 2 hk
  apply jL_ext
  show ((jL z).toBitVec &&& (jL ((2 ^ k - 1 : Nat) : Int)).toBitVec).toNat = _
  rw [BitVec.toNat_and, jL_tn, jL_tn]
  have e1 : (((2 ^ k - 1 : Nat) : Int) % 18446744073709551616).toNat = 2 ^ k - 1 := by omega
  rw [e1, Nat.and_two_pow_sub_one_eq_mod]
  have h1 : ((z % 18446744073709551616).toNat : Int) = z % 18446744073709551616 := by omega
  have h2 : (((z % 18446744073709551616).toNat % 2 ^ k : Nat) : Int) = z % ((2 ^ k : Nat) : Int) := by
    rw [Int.natCast_emod, h1]; exact Int.emod_emod_of_dvd _ (Int.ofNat_dvd.mpr hd)
  have h3 : (z % 18446744073709551616).toNat % 2 ^ k < 2 ^ k := Nat.mod_lt _ h0
  omega
/-- or of a number whose lowest k bits are 0 and one of k bits -/
theorem nor_key {a b k : Nat} (ha : a % 2 ^ k = 0) (hb : b < 2 ^ k) : a ||| b = a + b := by
  have h := Nat.two_pow_add_eq_or_of_lt hb (a / 2 ^ k)
  have e : 2 ^ k * (a / 2 ^ k) = a := Nat.mul_div_cancel' (Nat.dvd_of_mod_eq_zero ha)
  rw [e] at h; exact h.symm
theorem dv_key {a : Int} {k n : Nat} (hk : k ≤ n) (ha : a % ((2 ^ k : Nat) : Int) = 0) : (a % ((2 ^ n : Nat) : Int)).toNat % 2 ^ k = 0 := by
  have h0 : 0 < 2 ^ n := Nat.pow_pos (by decide)
  have h1 : ((a % ((2 ^ n : Nat) : Int)).toNat : Int) = a % ((2 ^ n : Nat) : Int) := Int.toNat_of_nonneg (Int.emod_nonneg _ (by omega))
  have h2 : (((a % ((2 ^ n : Nat) : Int)).toNat % 2 ^ k : Nat) : Int) = a % ((2 ^ k : Nat) : Int) := by
    rw [Int.natCast_emod, h1]; exact Int.emod_emod_of_dvd _ (Int.ofNat_dvd.mpr (Nat.pow_dvd_pow 2 hk))
  omega
theorem jI_or {a b : Int} (k : Nat) (hk : k ≤ 32) (ha : a % ((2 ^ k : Nat) : Int) = 0) (hb : 0 ≤ b ∧ b < ((2 ^ k : Nat) : Int)) : jI a ||| jI b = jI (a + b) := by
  have hp : 2 ^ k ≤ 2 ^ 32 := Nat.pow_le_pow_right (by decide) hk
  have h2 : (a % 4294967296).toNat % 2 ^ k = 0 := dv_key (n := 32) hk ha
  have h3 := nor_key (b := b.toNat) h2 (by omega)
  apply jI_ext
  show ((jI a).toBitVec ||| (jI b).toBitVec).toNat = _
  have hlt : (jI a).toBitVec.toNat ||| (jI b).toBitVec.toNat < 2 ^ 32 := Nat.or_lt_two_pow (jI a).toBitVec.isLt (jI b).toBitVec.isLt
  rw [BitVec.toNat_or]
  rw [jI_tn, jI_tn, show (b % 4294967296).toNat = b.toNat by omega, h3] at hlt ⊢
  omega
theorem jL_or {a b : Int} (k : Nat) (hk : k ≤ 64) (ha : a % ((2 ^ k : Nat) : Int) = 0) (hb : 0 ≤ b ∧ b < ((2 ^ k : Nat) : Int)) : jL a ||| jL b = jL (a + b) := by
  have hp : 2 ^ k ≤ 2 ^ 64 := Nat.pow_le_pow_right (by decide) hk
  have h2 : (a % 18446744073709551616).toNat % 2 ^ k = 0 := dv_key (n := 64) hk ha
  have h3 := nor_key (b := b.toNat) h2 (by omega)
  apply jL_ext
  show ((jL a).toBitVec ||| (jL b).toBitVec).toNat = _
  have hlt : (jL a).toBitVec.toNat ||| (jL b).toBitVec.toNat < 2 ^ 64 := Nat.or_lt_two_pow (jL a).toBitVec.isLt (jL b).toBitVec.isLt
  rw [BitVec.toNat_or]
  rw [jL_tn, jL_tn, show (b % 18446744073709551616).toNat = b.toNat by omega, h3] at hlt ⊢
  omega
/-- how many bits a number has -/
def blen (n : Nat) : Nat := if n = 0 then 0 else blen (n / 2) + 1
termination_by n
decreasing_by omega
theorem blen_0 : blen 0 = 0 := by rw [blen, if_pos rfl]
theorem blen_s {n : Nat} (h : n ≠ 0) : blen n = blen (n / 2) + 1 := by rw [blen, if_neg h]
theorem blen_1 : blen 1 = 1 := by rw [blen_s (by decide), show 1 / 2 = 0 from rfl, blen_0]
theorem blen_sh {n : Nat} (k : Nat) (h : 2 ^ k ≤ n) : blen n = blen (n / 2 ^ k) + k := by
  induction k with
  | zero => rw [Nat.pow_zero, Nat.div_one, Nat.add_zero]
  | succ k ih =>
    have h1 : 2 ^ (k + 1) = 2 ^ k * 2 := Nat.pow_succ 2 k
    have h0 : 0 < 2 ^ k := Nat.pow_pos (by decide)
    rw [ih (by omega), h1, ← Nat.div_div_eq_div_mul]
    have h2 : n / 2 ^ k ≠ 0 := by
      have := (Nat.le_div_iff_mul_le h0).mpr (show 1 * 2 ^ k ≤ n by omega)
      omega
    rw [blen_s h2]; omega
theorem blen_lt (n : Nat) : n < 2 ^ blen n := by
  induction n using Nat.strongRecOn with
  | _ n ih =>
    by_cases h : n = 0
    · subst h; rw [blen_0]; decide
    · have := ih (n / 2) (by omega)
      rw [blen_s h, Nat.pow_succ]; omega
theorem blen_le {n : Nat} (h : n ≠ 0) : 2 ^ (blen n - 1) ≤ n := by
  induction n using Nat.strongRecOn with
  | _ n ih =>
    rw [blen_s h]
    by_cases h2 : n / 2 = 0
    · rw [h2, blen_0]; show 1 ≤ n; omega
    · have h3 := ih (n / 2) (by omega) h2
      have h4 : blen (n / 2) ≠ 0 := by rw [blen_s h2]; omega
      rw [show blen (n / 2) + 1 - 1 = (blen (n / 2) - 1) + 1 by omega, Nat.pow_succ]; omega
theorem blen_of {n k : Nat} (h1 : 2 ^ k ≤ n) (h2 : n < 2 ^ (k + 1)) : blen n = k + 1 := by
  have h0 : n ≠ 0 := by have : 0 < 2 ^ k := Nat.pow_pos (by decide); omega
  have h3 := blen_le h0
  have h4 := blen_lt n
  have a : blen n - 1 < k + 1 := (Nat.pow_lt_pow_iff_right (by decide)).mp (Nat.lt_of_le_of_lt h3 h2)
  have b : k < blen n := (Nat.pow_lt_pow_iff_right (by decide)).mp (Nat.lt_of_le_of_lt h1 h4)
  omega
theorem blen_lm {n k : Nat} (h : n < 2 ^ k) : blen n ≤ k := by
  by_cases h0 : n = 0
  · subst h0; rw [blen_0]; omega
  · have h3 := blen_le h0
    have a : blen n - 1 < k := (Nat.pow_lt_pow_iff_right (by decide)).mp (Nat.lt_of_le_of_lt h3 h)
    have : blen n ≠ 0 := by rw [blen_s h0]; omega
    omega
