/-! words of 32 bits: shifts by 32, tests of a word, arrays of words -/
theorem jL_ushr32 (z : Int) : ((jL z).toUInt64 >>> ((jI 32).toInt64.toUInt64 &&& Int64.toUInt64 63)).toInt64 = jL (z % 18446744073709551616 / 4294967296) := jL_ushr z 32 (by decide)
theorem jI_eq0U {a : Int} (ha : 0 ≤ a ∧ a < 4294967296) : jI a = 0 ↔ a = 0 := by
  rw [jI_0, ← Int32.toInt_inj]
  show (Int32.ofInt a).toInt = (Int32.ofInt 0).toInt ↔ a = 0
  rw [Int32.toInt_ofInt, Int32.toInt_ofInt]
  show a.bmod 4294967296 = (0 : Int).bmod 4294967296 ↔ a = 0
  simp only [Int.bmod, show ((4294967296 : Nat) : Int) = 4294967296 from rfl]
  constructor
  · intro h
    (repeat' split at h) <;> omega
  · intro h; subst h; rfl
theorem aI_aN {g : GG} {k x n : Nat} {d : Nat → Int} {f : Nat → Nat} (h : ∀ j, d j % 4294967296 = (f j : Int) % 4294967296) : aI g k x n d = aN g k x n f := by
  have e : (fun j => Value.int (jI (d j))) = (fun j => Value.int (jI (f j : Nat))) := funext fun j => by rw [jI_mod (h j)]
  unfold aI aN
  rw [e]
section ROWU
variable {x : EX} {y : MethodName} {cc : ByteArray} {ret : Option FieldType} {nL fr lo : Nat} {tab : List ExceptionTableEntry} {Ps : List HP} {bc bs pc n : Nat} {L : List (Nat × Value)} {st : List Value}
theorem sw_if_eqU (F : Fx x y cc ret nL fr lo tab) {a : Int} (ha : 0 ≤ a ∧ a < 4294967296) {off : Int} {tgt : Nat} (hd : decode cc pc = .ok (.ifCond .eq off, 3)) (ht : (pc : Int) + off = (tgt : Int)) (hn : pc + 3 = n) (kt : a = 0 → SW x Ps bc bs tgt L st) (kf : a ≠ 0 → SW x Ps bc bs n L st) : SW x Ps bc bs pc L (.int (jI a) :: st) := by
  subst hn; intro H locs h uc us ls I hl
  exact lv_if_eq F.exec F.code hd ht (fun q => kt ((jI_eq0U ha).mp q) H locs h uc us ls I hl) (fun q => kf (fun e => q ((jI_eq0U ha).mpr e)) H locs h uc us ls I hl)
theorem sw_if_neU (F : Fx x y cc ret nL fr lo tab) {a : Int} (ha : 0 ≤ a ∧ a < 4294967296) {off : Int} {tgt : Nat} (hd : decode cc pc = .ok (.ifCond .ne off, 3)) (ht : (pc : Int) + off = (tgt : Int)) (hn : pc + 3 = n) (kt : a ≠ 0 → SW x Ps bc bs tgt L st) (kf : a = 0 → SW x Ps bc bs n L st) : SW x Ps bc bs pc L (.int (jI a) :: st) := by
  subst hn; intro H locs h uc us ls I hl
  exact lv_if_ne F.exec F.code hd ht (fun q => kt (fun e => q ((jI_eq0U ha).mpr e)) H locs h uc us ls I hl) (fun q => kf ((jI_eq0U ha).mp q) H locs h uc us ls I hl)
end ROWU
