/-! class objects, casts of an object to its own class; xor and and of longs by their signs -/
section ROW4
variable {x : EX} {y : MethodName} {cc : ByteArray} {ret : Option FieldType} {nL fr lo : Nat} {tab : List ExceptionTableEntry} {Ps : List HP} {bc bs pc n : Nat} {L : List (Nat × Value)} {st : List Value}
theorem mi_x (F : Fx x y cc ret nL fr lo tab) {C : String} (h : ∃ mi : Nat, va_Mi C mi (gS (xg x))) : ∃ mi : Nat, va_Mi C mi (xs x) := h.imp fun _ k => va_Mi.moved F.gx.2.1.alike k
theorem sw_getClass (F : Fx x y cc ret nL fr lo tab) {a mi : Nat} {C : String} (hrec : Rcv x Ps bc bs a C) (hM : va_Mi C mi (xs x)) {idx : Nat} (q1 : Cond.methodLink y.cls idx ⟨"java/lang/Object", "getClass", "()Ljava/lang/Class;"⟩ ∈ lw_all) (q2 : Cond.selects C ⟨"java/lang/Object", "getClass", "()Ljava/lang/Class;"⟩ ⟨"java/lang/Object", "getClass", "()Ljava/lang/Class;"⟩ ∈ lw_all) (hR : 1 ≤ fr ∧ (st.map fun v => v.category).sum + 14 ≤ lo) (hd : decode cc pc = .ok (.invokevirtual idx, 3)) (hn : pc + 3 = n) (k : SW x Ps bc bs n L (.ref mi :: st)) : SW x Ps bc bs pc L (.ref a :: st) := by
  subst hn
  intro H locs h uc us ls I hL
  exact va_getC F.exec F.code (F.mL.trans (hL.1.trans F.nl).symm) F.own (F.wd _ q1) (va_Dc.use (va_Dc.moved F.gx.2.1.alike (va_Dc.of (F.gx.1.2.1 _ q4408)))) (F.wd _ q2) (F.wd _ q1169) (F.wd _ q1211) hM (hrec H locs h uc us I) (by show 1 ≤ (xn x).1; rw [F.fR]; exact hR.1) (by show _ + 14 ≤ (xn x).2.1; rw [F.lO]; exact hR.2) hd (k H locs h uc us ls I hL)
theorem sw_ldcM (F : Fx x y cc ret nL fr lo tab) {mi idx : Nat} {C : String} (hM : va_Mi C mi (xs x)) (q1 : Cond.classLink y.cls idx C ∈ lw_all) (hd : decode cc pc = .ok (.ldc idx, 2)) (hn : pc + 2 = n) (k : SW x Ps bc bs n L (.ref mi :: st)) : SW x Ps bc bs pc L st := by
  subst hn
  intro H locs h uc us ls I hL
  exact va_ldcM F.exec F.code F.own (F.wd _ q1) hM hd (k H locs h uc us ls I hL)
theorem sw_castO (F : Fx x y cc ret nL fr lo tab) {a idx : Nat} {C : String} (hrec : Rcv x Ps bc bs a C) (q1 : Cond.classLink y.cls idx C ∈ lw_all) (hd : decode cc pc = .ok (.checkcast idx, 3)) (hn : pc + 3 = n) (k : SW x Ps bc bs n L (.ref a :: st)) : SW x Ps bc bs pc L (.ref a :: st) := by
  subst hn
  intro H locs h uc us ls I hL T hT X
  obtain ⟨cell, g1, g2, g3⟩ := hrec H locs h uc us I
  obtain ⟨vm', X', step⟩ := X.checkcastYes F.exec F.own (F.wd _ q1) (a := a) (by rw [hT]; exact g1) g2 g3 (va_asg _ _) (g := F0 (xm x) pc ls (.ref a :: st)) rfl rfl (by rw [F.code]; exact hd)
  obtain ⟨t, a1, b1⟩ := k H locs h uc us ls I hL (T.setVm vm') hT X'
  exact ⟨t, step t a1, b1⟩
theorem sw_instO (F : Fx x y cc ret nL fr lo tab) {a idx : Nat} {C : String} (hrec : Rcv x Ps bc bs a C) (q1 : Cond.classLink y.cls idx C ∈ lw_all) (hd : decode cc pc = .ok (.instanceof idx, 3)) (hn : pc + 3 = n) (k : SW x Ps bc bs n L (.int (jI 1) :: st)) : SW x Ps bc bs pc L (.ref a :: st) := by
  subst hn
  intro H locs h uc us ls I hL T hT X
  obtain ⟨cell, g1, g2, g3⟩ := hrec H locs h uc us I
  obtain ⟨vm', X', step⟩ := X.instanceofYes F.exec F.own (F.wd _ q1) (a := a) (by rw [hT]; exact g1) g2 g3 (va_asg _ _) (g := F0 (xm x) pc ls (.ref a :: st)) rfl rfl (by rw [F.code]; exact hd)
  obtain ⟨t, a1, b1⟩ := k H locs h uc us ls I hL (T.setVm vm') hT X'
  exact ⟨t, step t a1, b1⟩
end ROW4
def xoL (a b : Int) : Int := (jL a ^^^ jL b).toInt
def anL (a b : Int) : Int := (jL a &&& jL b).toInt
theorem xoL_j (a b : Int) : jL a ^^^ jL b = jL (xoL a b) := (jL_of _).symm
theorem anL_j (a b : Int) : jL a &&& jL b = jL (anL a b) := (jL_of _).symm
theorem xoL_rng (a b : Int) : -9223372036854775808 ≤ xoL a b ∧ xoL a b ≤ 9223372036854775807 := jL_rng _
theorem anL_rng (a b : Int) : -9223372036854775808 ≤ anL a b ∧ anL a b ≤ 9223372036854775807 := jL_rng _
theorem lneg_msb (a : Int64) : a.toInt < 0 ↔ a.toBitVec.msb = true := by
  show a.toBitVec.toInt < 0 ↔ _
  rw [BitVec.toInt_neg_iff]
  rw [BitVec.msb_eq_decide]
  simp
  omega
theorem jL_msb {a : Int} (h : -9223372036854775808 ≤ a ∧ a ≤ 9223372036854775807) : (jL a).toBitVec.msb = decide (a < 0) := by
  have h1 := lneg_msb (jL a)
  rw [jL_toInt h] at h1
  by_cases c : a < 0
  · rw [h1.mp c]; simp [c]
  · have : (jL a).toBitVec.msb ≠ true := fun e => c (h1.mpr e)
    rw [Bool.eq_false_iff.mpr this]; simp [c]
theorem xoL_neg {a b : Int} (ha : -9223372036854775808 ≤ a ∧ a ≤ 9223372036854775807) (hb : -9223372036854775808 ≤ b ∧ b ≤ 9223372036854775807) : xoL a b < 0 ↔ ((a < 0 ∧ 0 ≤ b) ∨ (0 ≤ a ∧ b < 0)) := by
  unfold xoL
  rw [lneg_msb]
  show ((jL a).toBitVec ^^^ (jL b).toBitVec).msb = true ↔ _
  rw [BitVec.msb_xor, jL_msb ha, jL_msb hb]
  by_cases c : a < 0 <;> by_cases d : b < 0 <;> simp [c, d] <;> omega
theorem anL_neg {a b : Int} (ha : -9223372036854775808 ≤ a ∧ a ≤ 9223372036854775807) (hb : -9223372036854775808 ≤ b ∧ b ≤ 9223372036854775807) : anL a b < 0 ↔ (a < 0 ∧ b < 0) := by
  unfold anL
  rw [lneg_msb]
  show ((jL a).toBitVec &&& (jL b).toBitVec).msb = true ↔ _
  rw [BitVec.msb_and, jL_msb ha, jL_msb hb]
  by_cases c : a < 0 <;> by_cases d : b < 0 <;> simp [c, d] <;> omega
/-- a long's number, wrapped -/
def wL (z : Int) : Int := (z + 9223372036854775808) % 18446744073709551616 - 9223372036854775808
theorem wL_s (z : Int) : -9223372036854775808 ≤ wL z ∧ wL z ≤ 9223372036854775807 ∧ wL z % 18446744073709551616 = z % 18446744073709551616 := by unfold wL; omega
theorem jL_w (z : Int) : jL z = jL (wL z) := jL_mod (wL_s z).2.2.symm
theorem wL_id {z : Int} (h : -9223372036854775808 ≤ z ∧ z ≤ 9223372036854775807) : wL z = z := by unfold wL; omega
