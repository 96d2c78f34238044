/-! Math.abs, max, min -/
section MATH
variable {x : EX} {y : MethodName} {cc : ByteArray} {ret : Option FieldType} {nL fr lo : Nat} {tab : List ExceptionTableEntry} {Ps : List HP} {bc bs pc n : Nat} {L : List (Nat × Value)} {st : List Value}
def abI (a : Int) : Int := if a < 0 then -a else a
theorem abI_cases (a : Int) : (a < 0 ∧ abI a = -a) ∨ (0 ≤ a ∧ abI a = a) := by unfold abI; split <;> omega
theorem sw_mabsL (F : Fx x y cc ret nL fr lo tab) {a : Int} (ha : -9223372036854775808 ≤ a ∧ a ≤ 9223372036854775807) {idx : Nat} (q1 : Cond.methodLink y.cls idx Lib.MathLoose.abs_long.x ∈ lw_all) (q2 : Cond.static Lib.MathLoose.abs_long.x ∈ lw_all) (q3 : Cond.initialized "java/lang/Math" ∈ lw_all) (q4 : Cond.code Lib.MathLoose.abs_long.x Lib.MathLoose.abs_long.code 2 (some .long) ∈ lw_all) (hR : 1 ≤ fr ∧ (st.map fun v => v.category).sum + 13 ≤ lo) (hd : decode cc pc = .ok (.invokestatic idx, 3)) (hn : pc + 3 = n) (k : SW x Ps bc bs n L (.long (jL (abI a)) :: st)) : SW x Ps bc bs pc L (.long (jL a) :: st) := by
  subst hn
  intro H locs h uc us ls I hL
  have w := k H locs h uc us ls I hL
  have e : (if 0 < jL a then jL a else -jL a) = jL (abI a) := by
    rw [jL_0, jL_neg]
    have h0 := jL_lt (a := 0) (b := a) (by omega) ha
    unfold abI
    by_cases c : 0 < a
    · rw [if_pos (h0.mpr c), if_neg (by omega)]
    · rw [if_neg (fun q => c (h0.mp q))]
      split
      · rfl
      · rw [show a = 0 by omega]; rfl
  exact va_mabs_long F.exec F.code (F.mL.trans (hL.1.trans F.nl).symm) F.own (F.wd _ q1) (F.wd _ q2) (F.wd _ q3) (F.wd _ q4) (by show 1 ≤ (xn x).1; rw [F.fR]; exact hR.1) (by show _ + 13 ≤ (xn x).2.1; rw [F.lO]; exact hR.2) (by show uc ≤ (xn x).2.2.1; have := I.2.2.2.2.1; omega) (by show us ≤ (xn x).2.2.2.1; have := I.2.2.2.2.2; omega) hd (by rw [e]; exact w)
theorem sw_mabsI (F : Fx x y cc ret nL fr lo tab) {a : Int} (ha : -2147483648 ≤ a ∧ a ≤ 2147483647) {idx : Nat} (q1 : Cond.methodLink y.cls idx Lib.Math.abs.name ∈ lw_all) (q2 : Cond.static Lib.Math.abs.name ∈ lw_all) (q3 : Cond.initialized "java/lang/Math" ∈ lw_all) (q4 : Cond.code Lib.Math.abs.name Lib.Math.abs.code 1 (some .int) ∈ lw_all) (hR : 1 ≤ fr ∧ (st.map fun v => v.category).sum + 13 ≤ lo) (hd : decode cc pc = .ok (.invokestatic idx, 3)) (hn : pc + 3 = n) (k : SW x Ps bc bs n L (.int (jI (abI a)) :: st)) : SW x Ps bc bs pc L (.int (jI a) :: st) := by
  subst hn
  intro H locs h uc us ls I hL
  have w := k H locs h uc us ls I hL
  have e : (if 0 ≤ jI a then jI a else 0 - jI a) = jI (abI a) := by
    rw [jI_0, jI_sub]
    have h0 := jI_le (a := 0) (b := a) (by omega) ha
    unfold abI
    by_cases c : 0 ≤ a
    · rw [if_pos (h0.mpr c), if_neg (by omega)]
    · rw [if_neg (fun q => c (h0.mp q)), if_pos (by omega), Int.zero_sub]
  exact va_mabs F.exec F.code (F.mL.trans (hL.1.trans F.nl).symm) F.own (F.wd _ q1) (F.wd _ q2) (F.wd _ q3) (F.wd _ q4) (by show 1 ≤ (xn x).1; rw [F.fR]; exact hR.1) (by show _ + 13 ≤ (xn x).2.1; rw [F.lO]; exact hR.2) (by show uc ≤ (xn x).2.2.1; have := I.2.2.2.2.1; omega) (by show us ≤ (xn x).2.2.2.1; have := I.2.2.2.2.2; omega) hd (by rw [e]; exact w)
theorem sw_mmax (F : Fx x y cc ret nL fr lo tab) {a b : Int} (ha : -2147483648 ≤ a ∧ a ≤ 2147483647) (hb : -2147483648 ≤ b ∧ b ≤ 2147483647) {idx : Nat} (q1 : Cond.methodLink y.cls idx Lib.Math.max.name ∈ lw_all) (q2 : Cond.static Lib.Math.max.name ∈ lw_all) (q3 : Cond.initialized "java/lang/Math" ∈ lw_all) (q4 : Cond.code Lib.Math.max.name Lib.Math.max.code 2 (some .int) ∈ lw_all) (hR : 1 ≤ fr ∧ (st.map fun v => v.category).sum + 13 ≤ lo) (hd : decode cc pc = .ok (.invokestatic idx, 3)) (hn : pc + 3 = n) (k : SW x Ps bc bs n L (.int (jI (max a b)) :: st)) : SW x Ps bc bs pc L (.int (jI b) :: .int (jI a) :: st) := by
  subst hn
  intro H locs h uc us ls I hL
  have w := k H locs h uc us ls I hL
  have e : (if jI a < jI b then jI b else jI a) = jI (max a b) := by
    have h0 := jI_lt ha hb
    by_cases c : a < b
    · rw [if_pos (h0.mpr c), Int.max_eq_right (by omega)]
    · rw [if_neg (fun q => c (h0.mp q)), Int.max_eq_left (by omega)]
  exact va_mmax F.exec F.code (F.mL.trans (hL.1.trans F.nl).symm) F.own (F.wd _ q1) (F.wd _ q2) (F.wd _ q3) (F.wd _ q4) (by show 1 ≤ (xn x).1; rw [F.fR]; exact hR.1) (by show _ + 13 ≤ (xn x).2.1; rw [F.lO]; exact hR.2) (by show uc ≤ (xn x).2.2.1; have := I.2.2.2.2.1; omega) (by show us ≤ (xn x).2.2.2.1; have := I.2.2.2.2.2; omega) hd (by rw [e]; exact w)
theorem sw_mmin (F : Fx x y cc ret nL fr lo tab) {a b : Int} (ha : -2147483648 ≤ a ∧ a ≤ 2147483647) (hb : -2147483648 ≤ b ∧ b ≤ 2147483647) {idx : Nat} (q1 : Cond.methodLink y.cls idx Lib.Math.min.name ∈ lw_all) (q2 : Cond.static Lib.Math.min.name ∈ lw_all) (q3 : Cond.initialized "java/lang/Math" ∈ lw_all) (q4 : Cond.code Lib.Math.min.name Lib.Math.min.code 2 (some .int) ∈ lw_all) (hR : 1 ≤ fr ∧ (st.map fun v => v.category).sum + 13 ≤ lo) (hd : decode cc pc = .ok (.invokestatic idx, 3)) (hn : pc + 3 = n) (k : SW x Ps bc bs n L (.int (jI (min a b)) :: st)) : SW x Ps bc bs pc L (.int (jI b) :: .int (jI a) :: st) := by
  subst hn
  intro H locs h uc us ls I hL
  have w := k H locs h uc us ls I hL
  have e : (if jI b < jI a then jI b else jI a) = jI (min a b) := by
    have h0 := jI_lt hb ha
    by_cases c : b < a
    · rw [if_pos (h0.mpr c), Int.min_eq_right (by omega)]
    · rw [if_neg (fun q => c (h0.mp q)), Int.min_eq_left (by omega)]
  exact va_mmin F.exec F.code (F.mL.trans (hL.1.trans F.nl).symm) F.own (F.wd _ q1) (F.wd _ q2) (F.wd _ q3) (F.wd _ q4) (by show 1 ≤ (xn x).1; rw [F.fR]; exact hR.1) (by show _ + 13 ≤ (xn x).2.1; rw [F.lO]; exact hR.2) (by show uc ≤ (xn x).2.2.1; have := I.2.2.2.2.1; omega) (by show us ≤ (xn x).2.2.2.1; have := I.2.2.2.2.2; omega) hd (by rw [e]; exact w)
end MATH
