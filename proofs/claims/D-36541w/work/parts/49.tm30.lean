def poP (d a b u S E : Int) : Int := if a < 0 ∨ 99 < a ∨ b < 0 ∨ 99 < b then 1 else if d < 0 ∨ 9999 < d ∨ u < 1 ∨ 1000000000000 < u ∨ a = b then 2 else if d ≤ S then 3 else if E = 200 then 4 else 0
theorem poP_c (d a b u S E : Int) : (poP d a b u S E = 1 ∧ (a < 0 ∨ 99 < a ∨ b < 0 ∨ 99 < b)) ∨ (poP d a b u S E = 2 ∧ ¬(a < 0 ∨ 99 < a ∨ b < 0 ∨ 99 < b) ∧ (d < 0 ∨ 9999 < d ∨ u < 1 ∨ 1000000000000 < u ∨ a = b)) ∨ (poP d a b u S E = 3 ∧ ¬(a < 0 ∨ 99 < a ∨ b < 0 ∨ 99 < b) ∧ ¬(d < 0 ∨ 9999 < d ∨ u < 1 ∨ 1000000000000 < u ∨ a = b) ∧ (d ≤ S)) ∨ (poP d a b u S E = 4 ∧ ¬(a < 0 ∨ 99 < a ∨ b < 0 ∨ 99 < b) ∧ ¬(d < 0 ∨ 9999 < d ∨ u < 1 ∨ 1000000000000 < u ∨ a = b) ∧ ¬(d ≤ S) ∧ (E = 200)) ∨ (poP d a b u S E = 0 ∧ ¬(a < 0 ∨ 99 < a ∨ b < 0 ∨ 99 < b) ∧ ¬(d < 0 ∨ 9999 < d ∨ u < 1 ∨ 1000000000000 < u ∨ a = b) ∧ ¬(d ≤ S) ∧ ¬(E = 200)) := by
  unfold poP
  by_cases h0 : a < 0 ∨ 99 < a ∨ b < 0 ∨ 99 < b
  · rw [if_pos h0]; exact Or.inl ⟨rfl, h0⟩
  · rw [if_neg h0]
    by_cases h1 : d < 0 ∨ 9999 < d ∨ u < 1 ∨ 1000000000000 < u ∨ a = b
    · rw [if_pos h1]; exact Or.inr (Or.inl ⟨rfl, h0, h1⟩)
    · rw [if_neg h1]
      by_cases h2 : d ≤ S
      · rw [if_pos h2]; exact Or.inr (Or.inr (Or.inl ⟨rfl, h0, h1, h2⟩))
      · rw [if_neg h2]
        by_cases h3 : E = 200
        · rw [if_pos h3]; exact Or.inr (Or.inr (Or.inr (Or.inl ⟨rfl, h0, h1, h2, h3⟩)))
        · rw [if_neg h3]
          exact Or.inr (Or.inr (Or.inr (Or.inr (⟨rfl, h0, h1, h2, h3⟩))))
theorem poP_nn (d a b u S E : Int) : 0 ≤ poP d a b u S E ∧ poP d a b u S E ≤ 4 := by
  unfold poP
  by_cases h0 : a < 0 ∨ 99 < a ∨ b < 0 ∨ 99 < b
  · rw [if_pos h0]; decide
  · rw [if_neg h0]
    by_cases h1 : d < 0 ∨ 9999 < d ∨ u < 1 ∨ 1000000000000 < u ∨ a = b
    · rw [if_pos h1]; decide
    · rw [if_neg h1]
      by_cases h2 : d ≤ S
      · rw [if_pos h2]; decide
      · rw [if_neg h2]
        by_cases h3 : E = 200
        · rw [if_pos h3]; decide
        · rw [if_neg h3]
          decide
theorem poP_0 (d a b u S E : Int) (h : poP d a b u S E = 0) : ¬(a < 0 ∨ 99 < a ∨ b < 0 ∨ 99 < b) ∧ ¬(d < 0 ∨ 9999 < d ∨ u < 1 ∨ 1000000000000 < u ∨ a = b) ∧ ¬(d ≤ S) ∧ ¬(E = 200) := by
  revert h
  unfold poP
  by_cases h0 : a < 0 ∨ 99 < a ∨ b < 0 ∨ 99 < b
  · rw [if_pos h0]; exact fun h => absurd h (by decide)
  · rw [if_neg h0]
    by_cases h1 : d < 0 ∨ 9999 < d ∨ u < 1 ∨ 1000000000000 < u ∨ a = b
    · rw [if_pos h1]; exact fun h => absurd h (by decide)
    · rw [if_neg h1]
      by_cases h2 : d ≤ S
      · rw [if_pos h2]; exact fun h => absurd h (by decide)
      · rw [if_neg h2]
        by_cases h3 : E = 200
        · rw [if_pos h3]; exact fun h => absurd h (by decide)
        · rw [if_neg h3]
          exact fun _ => ⟨h0, h1, h2, h3⟩
def siP (a b : Int) : Int := if a < 0 ∨ 99 < a ∨ b < 0 ∨ 99 < b then 1 else if b < a then 2 else 0
theorem siP_c (a b : Int) : (siP a b = 1 ∧ (a < 0 ∨ 99 < a ∨ b < 0 ∨ 99 < b)) ∨ (siP a b = 2 ∧ ¬(a < 0 ∨ 99 < a ∨ b < 0 ∨ 99 < b) ∧ (b < a)) ∨ (siP a b = 0 ∧ ¬(a < 0 ∨ 99 < a ∨ b < 0 ∨ 99 < b) ∧ ¬(b < a)) := by
  unfold siP
  by_cases h0 : a < 0 ∨ 99 < a ∨ b < 0 ∨ 99 < b
  · rw [if_pos h0]; exact Or.inl ⟨rfl, h0⟩
  · rw [if_neg h0]
    by_cases h1 : b < a
    · rw [if_pos h1]; exact Or.inr (Or.inl ⟨rfl, h0, h1⟩)
    · rw [if_neg h1]
      exact Or.inr (Or.inr (⟨rfl, h0, h1⟩))
theorem siP_nn (a b : Int) : 0 ≤ siP a b ∧ siP a b ≤ 2 := by
  unfold siP
  by_cases h0 : a < 0 ∨ 99 < a ∨ b < 0 ∨ 99 < b
  · rw [if_pos h0]; decide
  · rw [if_neg h0]
    by_cases h1 : b < a
    · rw [if_pos h1]; decide
    · rw [if_neg h1]
      decide
theorem siP_0 (a b : Int) (h : siP a b = 0) : ¬(a < 0 ∨ 99 < a ∨ b < 0 ∨ 99 < b) ∧ ¬(b < a) := by
  revert h
  unfold siP
  by_cases h0 : a < 0 ∨ 99 < a ∨ b < 0 ∨ 99 < b
  · rw [if_pos h0]; exact fun h => absurd h (by decide)
  · rw [if_neg h0]
    by_cases h1 : b < a
    · rw [if_pos h1]; exact fun h => absurd h (by decide)
    · rw [if_neg h1]
      exact fun _ => ⟨h0, h1⟩
def naP (b : Int) : Int := if b = 100 then 1 else 0
theorem naP_c (b : Int) : (naP b = 1 ∧ (b = 100)) ∨ (naP b = 0 ∧ ¬(b = 100)) := by
  unfold naP
  by_cases h0 : b = 100
  · rw [if_pos h0]; exact Or.inl ⟨rfl, h0⟩
  · rw [if_neg h0]
    exact Or.inr (⟨rfl, h0⟩)
theorem naP_nn (b : Int) : 0 ≤ naP b ∧ naP b ≤ 1 := by
  unfold naP
  by_cases h0 : b = 100
  · rw [if_pos h0]; decide
  · rw [if_neg h0]
    decide
theorem naP_0 (b : Int) (h : naP b = 0) : ¬(b = 100) := by
  revert h
  unfold naP
  by_cases h0 : b = 100
  · rw [if_pos h0]; exact fun h => absurd h (by decide)
  · rw [if_neg h0]
    exact fun _ => h0
def suP (d S : Int) : Int := if d < 0 ∨ 9999 < d then 1 else if d ≤ S then 2 else 0
theorem suP_c (d S : Int) : (suP d S = 1 ∧ (d < 0 ∨ 9999 < d)) ∨ (suP d S = 2 ∧ ¬(d < 0 ∨ 9999 < d) ∧ (d ≤ S)) ∨ (suP d S = 0 ∧ ¬(d < 0 ∨ 9999 < d) ∧ ¬(d ≤ S)) := by
  unfold suP
  by_cases h0 : d < 0 ∨ 9999 < d
  · rw [if_pos h0]; exact Or.inl ⟨rfl, h0⟩
  · rw [if_neg h0]
    by_cases h1 : d ≤ S
    · rw [if_pos h1]; exact Or.inr (Or.inl ⟨rfl, h0, h1⟩)
    · rw [if_neg h1]
      exact Or.inr (Or.inr (⟨rfl, h0, h1⟩))
theorem suP_nn (d S : Int) : 0 ≤ suP d S ∧ suP d S ≤ 2 := by
  unfold suP
  by_cases h0 : d < 0 ∨ 9999 < d
  · rw [if_pos h0]; decide
  · rw [if_neg h0]
    by_cases h1 : d ≤ S
    · rw [if_pos h1]; decide
    · rw [if_neg h1]
      decide
theorem suP_0 (d S : Int) (h : suP d S = 0) : ¬(d < 0 ∨ 9999 < d) ∧ ¬(d ≤ S) := by
  revert h
  unfold suP
  by_cases h0 : d < 0 ∨ 9999 < d
  · rw [if_pos h0]; exact fun h => absurd h (by decide)
  · rw [if_neg h0]
    by_cases h1 : d ≤ S
    · rw [if_pos h1]; exact fun h => absurd h (by decide)
    · rw [if_neg h1]
      exact fun _ => ⟨h0, h1⟩
def unP (A d S : Int) : Int := if A = 0 then 1 else if d ≤ S then 2 else 0
theorem unP_c (A d S : Int) : (unP A d S = 1 ∧ (A = 0)) ∨ (unP A d S = 2 ∧ ¬(A = 0) ∧ (d ≤ S)) ∨ (unP A d S = 0 ∧ ¬(A = 0) ∧ ¬(d ≤ S)) := by
  unfold unP
  by_cases h0 : A = 0
  · rw [if_pos h0]; exact Or.inl ⟨rfl, h0⟩
  · rw [if_neg h0]
    by_cases h1 : d ≤ S
    · rw [if_pos h1]; exact Or.inr (Or.inl ⟨rfl, h0, h1⟩)
    · rw [if_neg h1]
      exact Or.inr (Or.inr (⟨rfl, h0, h1⟩))
theorem unP_nn (A d S : Int) : 0 ≤ unP A d S ∧ unP A d S ≤ 2 := by
  unfold unP
  by_cases h0 : A = 0
  · rw [if_pos h0]; decide
  · rw [if_neg h0]
    by_cases h1 : d ≤ S
    · rw [if_pos h1]; decide
    · rw [if_neg h1]
      decide
theorem unP_0 (A d S : Int) (h : unP A d S = 0) : ¬(A = 0) ∧ ¬(d ≤ S) := by
  revert h
  unfold unP
  by_cases h0 : A = 0
  · rw [if_pos h0]; exact fun h => absurd h (by decide)
  · rw [if_neg h0]
    by_cases h1 : d ≤ S
    · rw [if_pos h1]; exact fun h => absurd h (by decide)
    · rw [if_neg h1]
      exact fun _ => ⟨h0, h1⟩
def wh0 {α : Type} (c : Int) (a b : α) : α := if c = 0 then a else b
theorem wh0_p {α : Type} {c : Int} (h : c = 0) (a b : α) : wh0 c a b = a := if_pos h
theorem wh0_n {α : Type} {c : Int} (h : c ≠ 0) (a b : α) : wh0 c a b = b := if_neg h
def siF (l : Int) (Lf Rg : Nat → Int) : Nat → Int := if l = 0 then Rg else Lf
def siS (F Mn : Nat → Int) (a b : Int) : Nat → Int
  | 0 => 0
  | k + 1 => siS F Mn a b k + (if a ≤ F k ∧ F k ≤ b then Mn k else 0)
def naB (Lf Rg : Nat → Int) (a : Int) : Nat → Int
  | 0 => 100
  | k + 1 => if a < Rg k ∧ Rg k < (if a < Lf k ∧ Lf k < naB Lf Rg a k then Lf k else naB Lf Rg a k) then Rg k else (if a < Lf k ∧ Lf k < naB Lf Rg a k then Lf k else naB Lf Rg a k)
theorem naB_rng {Lf Rg : Nat → Int} {a : Int} (h : BD 0 99 Lf) (h2 : BD 0 99 Rg) : ∀ k, 0 ≤ naB Lf Rg a k ∧ naB Lf Rg a k ≤ 100 := by
  intro k
  induction k with
  | zero => show 0 ≤ (100 : Int) ∧ (100 : Int) ≤ 100; omega
  | succ k ih => have := h k; have := h2 k; simp only [naB]; (repeat' split) <;> omega
def shN (Ed : Nat → Int) (d : Int) : Nat → Int
  | 0 => 0
  | k + 1 => shN Ed d k + (if Ed k ≤ d then 1 else 0)
theorem nd_X4_notes : yX4_notes.cls ≠ "java/lang/invoke/MethodHandle" ∧ yX4_notes.cls ≠ "java/lang/invoke/VarHandle" ∧ (parseMethodDescriptor yX4_notes.desc).map (fun d => d.parameters.length) = some 2 := by decide +kernel
set_option maxRecDepth 100000 in
set_option maxHeartbeats 16000000 in
theorem ct_X4_notes {g : GG} {l : Launch} (o : Nat) (a : Nat → Nat) (z : Nat → Int) (Ah : Nat → Int) (Ad : Nat → Int) (Bb : Nat → Int) (d : Int) (v : Int) (hz49 : 0 ≤ z 49 ∧ z 49 ≤ 500) (hz44 : 0 ≤ z 44 ∧ z 44 ≤ 200) : Ct g l yX4_notes (ws_ yX4_notes cX4_notes 3 (Option.none : Option Jvm.ClassFile.FieldType)) 1 12 0 0 [.ref o, .int (jI d), .int (jI v)] [tmO g o a z, aI g 0 (a 46) 600 Ah, aI g 0 (a 47) 600 Ad, aI g 0 (a 48) 600 Bb] (fun v9 Ws9 => v9 = none ∧ Ws9 = [tmO g o a (va_up z 49 (z 49 + 1)), aI g 0 (a 46) 600 (va_up Ah (z 49).toNat (z 44)), aI g 0 (a 47) 600 (va_up Ad (z 49).toNat d), aI g 0 (a 48) 600 (va_up Bb (z 49).toNat v)]) (nox) := by
  refine Ct.of (cc := cX4_notes) (nL := 3) (ret := (Option.none : Option Jvm.ClassFile.FieldType)) (by decide) rfl (Nat.le_of_ble_eq_true rfl) ?_
  intro x hg hl hPo hPx hmc hms F
  subst hg; subst hl
  refine SW.cast (L' := [(0, .ref o), (1, .int (jI d)), (2, .int (jI v))]) ?_ rfl rfl rfl
  refine sw_aload_n (n := 1) F 0 (some o) rfl rfl rfl dX4_notes_0 rfl ?_
  refine sw_get (n := 4) F 0 rfl (k := 46) ⟨(RX4, TX4, 50), rfl, by decide, q3845, in_X4, Or.inl rfl⟩ (v := .ref (a 46)) rfl dX4_notes_1 rfl ?_
  refine sw_aload_n (n := 5) F 0 (some o) rfl rfl rfl dX4_notes_4 rfl ?_
  refine sw_get (n := 8) F 0 rfl (k := 49) ⟨(RX4, TX4, 50), rfl, by decide, q3848, in_X4, Or.inl rfl⟩ (v := .int (jI (z 49))) rfl dX4_notes_5 rfl ?_
  refine sw_aload_n (n := 9) F 0 (some o) rfl rfl rfl dX4_notes_8 rfl ?_
  refine sw_get (n := 12) F 0 rfl (k := 44) ⟨(RX4, TX4, 50), rfl, by decide, q3843, in_X4, Or.inl rfl⟩ (v := .int (jI (z 44))) rfl dX4_notes_9 rfl ?_
  refine sw_iastoreI (n := 13) F 1 rfl (fun _ => rfl) ((z 49 : Int).toNat) (by omega) (by omega) [tmO (xg x) o a z, aI (xg x) 0 (a 46) 600 (va_up Ah ((z 49 : Int).toNat) (z 44)), aI (xg x) 0 (a 47) 600 Ad, aI (xg x) 0 (a 48) 600 Bb] (by simp [List.set]) dX4_notes_12 rfl ?_
  refine sw_aload_n (n := 14) F 0 (some o) rfl rfl rfl dX4_notes_13 rfl ?_
  refine sw_get (n := 17) F 0 rfl (k := 47) ⟨(RX4, TX4, 50), rfl, by decide, q3846, in_X4, Or.inl rfl⟩ (v := .ref (a 47)) rfl dX4_notes_14 rfl ?_
  refine sw_aload_n (n := 18) F 0 (some o) rfl rfl rfl dX4_notes_17 rfl ?_
  refine sw_get (n := 21) F 0 rfl (k := 49) ⟨(RX4, TX4, 50), rfl, by decide, q3848, in_X4, Or.inl rfl⟩ (v := .int (jI (z 49))) rfl dX4_notes_18 rfl ?_
  refine sw_iload_n (n := 22) F 1 rfl rfl dX4_notes_21 rfl ?_
  refine sw_iastoreI (n := 23) F 2 rfl (fun _ => rfl) ((z 49 : Int).toNat) (by omega) (by omega) [tmO (xg x) o a z, aI (xg x) 0 (a 46) 600 (va_up Ah ((z 49 : Int).toNat) (z 44)), aI (xg x) 0 (a 47) 600 (va_up Ad ((z 49 : Int).toNat) d), aI (xg x) 0 (a 48) 600 Bb] (by simp [List.set]) dX4_notes_22 rfl ?_
  refine sw_aload_n (n := 24) F 0 (some o) rfl rfl rfl dX4_notes_23 rfl ?_
  refine sw_get (n := 27) F 0 rfl (k := 48) ⟨(RX4, TX4, 50), rfl, by decide, q3847, in_X4, Or.inl rfl⟩ (v := .ref (a 48)) rfl dX4_notes_24 rfl ?_
  refine sw_aload_n (n := 28) F 0 (some o) rfl rfl rfl dX4_notes_27 rfl ?_
  refine sw_get (n := 31) F 0 rfl (k := 49) ⟨(RX4, TX4, 50), rfl, by decide, q3848, in_X4, Or.inl rfl⟩ (v := .int (jI (z 49))) rfl dX4_notes_28 rfl ?_
  refine sw_iload_n (n := 32) F 2 rfl rfl dX4_notes_31 rfl ?_
  refine sw_iastoreI (n := 33) F 3 rfl (fun _ => rfl) ((z 49 : Int).toNat) (by omega) (by omega) [tmO (xg x) o a z, aI (xg x) 0 (a 46) 600 (va_up Ah ((z 49 : Int).toNat) (z 44)), aI (xg x) 0 (a 47) 600 (va_up Ad ((z 49 : Int).toNat) d), aI (xg x) 0 (a 48) 600 (va_up Bb ((z 49 : Int).toNat) v)] (by simp [List.set]) dX4_notes_32 rfl ?_
  refine sw_aload_n (n := 34) F 0 (some o) rfl rfl rfl dX4_notes_33 rfl ?_
  refine sw_dup (n := 35) F rfl dX4_notes_34 rfl ?_
  refine sw_get (n := 38) F 0 rfl (k := 49) ⟨(RX4, TX4, 50), rfl, by decide, q3848, in_X4, Or.inl rfl⟩ (v := .int (jI (z 49))) rfl dX4_notes_35 rfl ?_
  refine sw_iconst (n := 39) F (1) (by decide) dX4_notes_38 rfl ?_
  refine sw_iadd (n := 40) F dX4_notes_39 rfl ?_
  refine sw_put (n := 43) F 0 rfl (k := 49) ⟨(RX4, TX4, 50), rfl, by decide, q3848, in_X4, Or.inl rfl⟩ .int ⟨(RX4, TX4, 50), rfl, rfl, tyX4_ok 49 (by decide), nmX4, tyX4, tyX4_ok⟩ rfl rfl (Nat.le_of_ble_eq_true rfl) (fs' := tmF a (va_up z 49 ((z 49) + 1))) rfl [tmO (xg x) o a (va_up z 49 ((z 49) + 1)), aI (xg x) 0 (a 46) 600 (va_up Ah ((z 49 : Int).toNat) (z 44)), aI (xg x) 0 (a 47) 600 (va_up Ad ((z 49 : Int).toNat) d), aI (xg x) 0 (a 48) 600 (va_up Bb ((z 49 : Int).toNat) v)] rfl dX4_notes_40 rfl ?_
  exact sw_vret F rfl dX4_notes_43 (by rw [hPo]; exact ⟨rfl, (by rfl)⟩)
theorem nd_X4_enters : yX4_enters.cls ≠ "java/lang/invoke/MethodHandle" ∧ yX4_enters.cls ≠ "java/lang/invoke/VarHandle" ∧ (parseMethodDescriptor yX4_enters.desc).map (fun d => d.parameters.length) = some 4 := by decide +kernel
set_option maxRecDepth 100000 in
set_option maxHeartbeats 16000000 in
theorem ct_X4_enters {g : GG} {l : Launch} (o : Nat) (a : Nat → Nat) (z : Nat → Int) (Ed : Nat → Int) (Lf : Nat → Int) (Rg : Nat → Int) (Mn : Nat → Int) (d : Int) (a9 : Int) (b9 : Int) (u : Int) (hz44 : 0 ≤ z 44 ∧ z 44 < 200) : Ct g l yX4_enters (ws_ yX4_enters cX4_enters 6 (Option.none : Option Jvm.ClassFile.FieldType)) 1 12 0 0 [.ref o, .int (jI d), .int (jI a9), .int (jI b9), .long (jL u)] [tmO g o a z, aI g 0 (a 40) 200 Ed, aI g 0 (a 41) 200 Lf, aI g 0 (a 42) 200 Rg, aL g (a 43) 200 Mn] (fun v9 Ws9 => v9 = none ∧ Ws9 = [tmO g o a (va_up z 44 (z 44 + 1)), aI g 0 (a 40) 200 (va_up Ed (z 44).toNat d), aI g 0 (a 41) 200 (va_up Lf (z 44).toNat a9), aI g 0 (a 42) 200 (va_up Rg (z 44).toNat b9), aL g (a 43) 200 (va_up Mn (z 44).toNat u)]) (nox) := by
  refine Ct.of (cc := cX4_enters) (nL := 6) (ret := (Option.none : Option Jvm.ClassFile.FieldType)) (by decide) rfl (Nat.le_of_ble_eq_true rfl) ?_
  intro x hg hl hPo hPx hmc hms F
  subst hg; subst hl
  refine SW.cast (L' := [(0, .ref o), (1, .int (jI d)), (2, .int (jI a9)), (3, .int (jI b9)), (4, .long (jL u))]) ?_ rfl rfl rfl
  refine sw_aload_n (n := 1) F 0 (some o) rfl rfl rfl dX4_enters_0 rfl ?_
  refine sw_get (n := 4) F 0 rfl (k := 40) ⟨(RX4, TX4, 50), rfl, by decide, q3839, in_X4, Or.inl rfl⟩ (v := .ref (a 40)) rfl dX4_enters_1 rfl ?_
  refine sw_aload_n (n := 5) F 0 (some o) rfl rfl rfl dX4_enters_4 rfl ?_
  refine sw_get (n := 8) F 0 rfl (k := 44) ⟨(RX4, TX4, 50), rfl, by decide, q3843, in_X4, Or.inl rfl⟩ (v := .int (jI (z 44))) rfl dX4_enters_5 rfl ?_
  refine sw_iload_n (n := 9) F 1 rfl rfl dX4_enters_8 rfl ?_
  refine sw_iastoreI (n := 10) F 1 rfl (fun _ => rfl) ((z 44 : Int).toNat) (by omega) (by omega) [tmO (xg x) o a z, aI (xg x) 0 (a 40) 200 (va_up Ed ((z 44 : Int).toNat) d), aI (xg x) 0 (a 41) 200 Lf, aI (xg x) 0 (a 42) 200 Rg, aL (xg x) (a 43) 200 Mn] (by simp [List.set]) dX4_enters_9 rfl ?_
  refine sw_aload_n (n := 11) F 0 (some o) rfl rfl rfl dX4_enters_10 rfl ?_
  refine sw_get (n := 14) F 0 rfl (k := 41) ⟨(RX4, TX4, 50), rfl, by decide, q3840, in_X4, Or.inl rfl⟩ (v := .ref (a 41)) rfl dX4_enters_11 rfl ?_
  refine sw_aload_n (n := 15) F 0 (some o) rfl rfl rfl dX4_enters_14 rfl ?_
  refine sw_get (n := 18) F 0 rfl (k := 44) ⟨(RX4, TX4, 50), rfl, by decide, q3843, in_X4, Or.inl rfl⟩ (v := .int (jI (z 44))) rfl dX4_enters_15 rfl ?_
  refine sw_iload_n (n := 19) F 2 rfl rfl dX4_enters_18 rfl ?_
  refine sw_iastoreI (n := 20) F 2 rfl (fun _ => rfl) ((z 44 : Int).toNat) (by omega) (by omega) [tmO (xg x) o a z, aI (xg x) 0 (a 40) 200 (va_up Ed ((z 44 : Int).toNat) d), aI (xg x) 0 (a 41) 200 (va_up Lf ((z 44 : Int).toNat) a9), aI (xg x) 0 (a 42) 200 Rg, aL (xg x) (a 43) 200 Mn] (by simp [List.set]) dX4_enters_19 rfl ?_
  refine sw_aload_n (n := 21) F 0 (some o) rfl rfl rfl dX4_enters_20 rfl ?_
  refine sw_get (n := 24) F 0 rfl (k := 42) ⟨(RX4, TX4, 50), rfl, by decide, q3841, in_X4, Or.inl rfl⟩ (v := .ref (a 42)) rfl dX4_enters_21 rfl ?_
  refine sw_aload_n (n := 25) F 0 (some o) rfl rfl rfl dX4_enters_24 rfl ?_
  refine sw_get (n := 28) F 0 rfl (k := 44) ⟨(RX4, TX4, 50), rfl, by decide, q3843, in_X4, Or.inl rfl⟩ (v := .int (jI (z 44))) rfl dX4_enters_25 rfl ?_
  refine sw_iload_n (n := 29) F 3 rfl rfl dX4_enters_28 rfl ?_
  refine sw_iastoreI (n := 30) F 3 rfl (fun _ => rfl) ((z 44 : Int).toNat) (by omega) (by omega) [tmO (xg x) o a z, aI (xg x) 0 (a 40) 200 (va_up Ed ((z 44 : Int).toNat) d), aI (xg x) 0 (a 41) 200 (va_up Lf ((z 44 : Int).toNat) a9), aI (xg x) 0 (a 42) 200 (va_up Rg ((z 44 : Int).toNat) b9), aL (xg x) (a 43) 200 Mn] (by simp [List.set]) dX4_enters_29 rfl ?_
  refine sw_aload_n (n := 31) F 0 (some o) rfl rfl rfl dX4_enters_30 rfl ?_
  refine sw_get (n := 34) F 0 rfl (k := 43) ⟨(RX4, TX4, 50), rfl, by decide, q3842, in_X4, Or.inl rfl⟩ (v := .ref (a 43)) rfl dX4_enters_31 rfl ?_
  refine sw_aload_n (n := 35) F 0 (some o) rfl rfl rfl dX4_enters_34 rfl ?_
  refine sw_get (n := 38) F 0 rfl (k := 44) ⟨(RX4, TX4, 50), rfl, by decide, q3843, in_X4, Or.inl rfl⟩ (v := .int (jI (z 44))) rfl dX4_enters_35 rfl ?_
  refine sw_lload (n := 40) F 4 rfl dX4_enters_38 rfl ?_
  refine sw_lastoreL (n := 41) F 4 rfl (fun _ => rfl) ((z 44 : Int).toNat) (by omega) (by omega) [tmO (xg x) o a z, aI (xg x) 0 (a 40) 200 (va_up Ed ((z 44 : Int).toNat) d), aI (xg x) 0 (a 41) 200 (va_up Lf ((z 44 : Int).toNat) a9), aI (xg x) 0 (a 42) 200 (va_up Rg ((z 44 : Int).toNat) b9), aL (xg x) (a 43) 200 (va_up Mn ((z 44 : Int).toNat) u)] (by simp [List.set]) dX4_enters_40 rfl ?_
  refine sw_aload_n (n := 42) F 0 (some o) rfl rfl rfl dX4_enters_41 rfl ?_
  refine sw_dup (n := 43) F rfl dX4_enters_42 rfl ?_
  refine sw_get (n := 46) F 0 rfl (k := 44) ⟨(RX4, TX4, 50), rfl, by decide, q3843, in_X4, Or.inl rfl⟩ (v := .int (jI (z 44))) rfl dX4_enters_43 rfl ?_
  refine sw_iconst (n := 47) F (1) (by decide) dX4_enters_46 rfl ?_
  refine sw_iadd (n := 48) F dX4_enters_47 rfl ?_
  refine sw_put (n := 51) F 0 rfl (k := 44) ⟨(RX4, TX4, 50), rfl, by decide, q3843, in_X4, Or.inl rfl⟩ .int ⟨(RX4, TX4, 50), rfl, rfl, tyX4_ok 44 (by decide), nmX4, tyX4, tyX4_ok⟩ rfl rfl (Nat.le_of_ble_eq_true rfl) (fs' := tmF a (va_up z 44 ((z 44) + 1))) rfl [tmO (xg x) o a (va_up z 44 ((z 44) + 1)), aI (xg x) 0 (a 40) 200 (va_up Ed ((z 44 : Int).toNat) d), aI (xg x) 0 (a 41) 200 (va_up Lf ((z 44 : Int).toNat) a9), aI (xg x) 0 (a 42) 200 (va_up Rg ((z 44 : Int).toNat) b9), aL (xg x) (a 43) 200 (va_up Mn ((z 44 : Int).toNat) u)] rfl dX4_enters_48 rfl ?_
  exact sw_vret F rfl dX4_enters_51 (by rw [hPo]; exact ⟨rfl, (by rfl)⟩)
theorem nd_X4_isAccount : yX4_isAccount.cls ≠ "java/lang/invoke/MethodHandle" ∧ yX4_isAccount.cls ≠ "java/lang/invoke/VarHandle" ∧ (parseMethodDescriptor yX4_isAccount.desc).map (fun d => d.parameters.length) = some 1 := by decide +kernel
set_option maxRecDepth 100000 in
set_option maxHeartbeats 16000000 in
theorem ct_X4_isAccount {g : GG} {l : Launch} (k : Int) (hk : -2147483648 ≤ k ∧ k ≤ 2147483647) : Ct g l yX4_isAccount (ws_ yX4_isAccount cX4_isAccount 1 (Option.some Jvm.ClassFile.FieldType.boolean)) 2 37 0 0 [.int (jI k)] [] (fun v9 Ws9 => v9 = some (.int (jI (inI k 0 99))) ∧ ((inI k 0 99 = 1 ∧ 0 ≤ k ∧ k ≤ 99) ∨ (inI k 0 99 = 0 ∧ (k < 0 ∨ 99 < k))) ∧ Ws9 = []) (nox) := by
  refine Ct.of (cc := cX4_isAccount) (nL := 1) (ret := (Option.some Jvm.ClassFile.FieldType.boolean)) (by decide) rfl (Nat.le_of_ble_eq_true rfl) ?_
  intro x hg hl hPo hPx hmc hms F
  subst hg; subst hl
  refine SW.cast (L' := [(0, .int (jI k))]) ?_ rfl rfl rfl
  refine sw_iload_n (n := 1) F 0 rfl rfl dX4_isAccount_0 rfl ?_
  refine sw_i2l (n := 2) F (by omega) dX4_isAccount_1 rfl ?_
  refine sw_lconst (n := 3) F 0 (by decide) dX4_isAccount_2 rfl ?_
  refine sw_ldc2 (n := 6) F (99) q4300 (by decide) dX4_isAccount_3 rfl ?_
  refine sw_callS (n := 9) F (ct_X4_in (g := xg x) (l := xl x) k 0 99 (by first | omega | assumption) (by first | omega | assumption) (by first | omega | assumption)) q3963 q3964 q120 q3965 nd_X4_in rfl (by decide) [] rfl [] rfl 0 0 ⟨by omega, by omega⟩ [] rfl (Nat.le_of_ble_eq_true rfl) dX4_isAccount_6 rfl (fun _ _ h => h.elim) (fun v Ws h => ?_)
  obtain ⟨rfl, hs_1, rfl⟩ := h
  show SW x [] _ _ _ _ [.int (jI (inI k 0 99))]
  exact sw_iret F _ rfl (by first | rfl | exact jI_nz (by omega) | exact jI_nc (by omega)) dX4_isAccount_9 (by rw [hPo]; exact ⟨rfl, (by exact inI_cases _ _ _), rfl⟩)
theorem nd_X4_post : yX4_post.cls ≠ "java/lang/invoke/MethodHandle" ∧ yX4_post.cls ≠ "java/lang/invoke/VarHandle" ∧ (parseMethodDescriptor yX4_post.desc).map (fun d => d.parameters.length) = some 4 := by decide +kernel
set_option maxRecDepth 100000 in
set_option maxHeartbeats 16000000 in
theorem ct_X4_post {g : GG} {l : Launch} (o : Nat) (a : Nat → Nat) (z : Nat → Int) (Ed : Nat → Int) (Lf : Nat → Int) (Rg : Nat → Int) (Mn : Nat → Int) (Ah : Nat → Int) (Ad : Nat → Int) (Bb : Nat → Int) (d : Int) (a9 : Int) (b9 : Int) (u : Int) (hd : -2147483648 ≤ d ∧ d ≤ 2147483647) (ha : -2147483648 ≤ a9 ∧ a9 ≤ 2147483647) (hb : -2147483648 ≤ b9 ∧ b9 ≤ 2147483647) (hu : -9223372036854775808 ≤ u ∧ u ≤ 9223372036854775807) (hz44 : 0 ≤ z 44 ∧ z 44 ≤ 200) (hz45 : -1 ≤ z 45 ∧ z 45 ≤ 9999) (hz49 : 0 ≤ z 49 ∧ z 49 ≤ 500) : Ct g l yX4_post (ws_ yX4_post cX4_post 7 (Option.some Jvm.ClassFile.FieldType.int)) 3 57 0 0 [.ref o, .int (jI d), .int (jI a9), .int (jI b9), .long (jL u)] [tmO g o a z, aI g 0 (a 40) 200 Ed, aI g 0 (a 41) 200 Lf, aI g 0 (a 42) 200 Rg, aL g (a 43) 200 Mn, aI g 0 (a 46) 600 Ah, aI g 0 (a 47) 600 Ad, aI g 0 (a 48) 600 Bb] (fun v9 Ws9 => v9 = some (.int (jI (if0 (poP d a9 b9 u (z 45) (z 44)) (z 44 + 1)))) ∧ Ws9 = [tmO g o a (up0 (poP d a9 b9 u (z 45) (z 44)) (up0 (poP d a9 b9 u (z 45) (z 44)) (va_up z 8 (poP d a9 b9 u (z 45) (z 44))) 49 (z 49 + 1)) 44 (z 44 + 1)), aI g 0 (a 40) 200 (up0 (poP d a9 b9 u (z 45) (z 44)) Ed (z 44).toNat d), aI g 0 (a 41) 200 (up0 (poP d a9 b9 u (z 45) (z 44)) Lf (z 44).toNat a9), aI g 0 (a 42) 200 (up0 (poP d a9 b9 u (z 45) (z 44)) Rg (z 44).toNat b9), aL g (a 43) 200 (up0 (poP d a9 b9 u (z 45) (z 44)) Mn (z 44).toNat u), aI g 0 (a 46) 600 (up0 (poP d a9 b9 u (z 45) (z 44)) Ah (z 49).toNat (z 44)), aI g 0 (a 47) 600 (up0 (poP d a9 b9 u (z 45) (z 44)) Ad (z 49).toNat d), aI g 0 (a 48) 600 (up0 (poP d a9 b9 u (z 45) (z 44)) Bb (z 49).toNat (-1))]) (nox) := by
  refine Ct.of (cc := cX4_post) (nL := 7) (ret := (Option.some Jvm.ClassFile.FieldType.int)) (by decide) rfl (Nat.le_of_ble_eq_true rfl) ?_
  intro x hg hl hPo hPx hmc hms F
  subst hg; subst hl
  refine SW.cast (L' := [(0, .ref o), (1, .int (jI d)), (2, .int (jI a9)), (3, .int (jI b9)), (4, .long (jL u))]) ?_ rfl rfl rfl
  refine sw_iload_n (n := 1) F 1 rfl rfl dX4_post_0 rfl ?_
  have K91 : ∀ (p9 : Int), (p9 = poP d a9 b9 u (z 45) (z 44)) → SW x [tmO (xg x) o a z, aI (xg x) 0 (a 40) 200 Ed, aI (xg x) 0 (a 41) 200 Lf, aI (xg x) 0 (a 42) 200 Rg, aL (xg x) (a 43) 200 Mn, aI (xg x) 0 (a 46) 600 Ah, aI (xg x) 0 (a 47) 600 Ad, aI (xg x) 0 (a 48) 600 Bb] 0 0 91 [(0, .ref o), (1, .int (jI d)), (2, .int (jI a9)), (3, .int (jI b9)), (4, .long (jL u))] [.int (jI p9), .ref o] := by
    intro p9 hpc
    subst hpc
    have hcs := poP_nn d a9 b9 u (z 45) (z 44)
    refine sw_callV (n := 94) F (ct_X4_fails (g := xg x) (l := xl x) o a z (poP d a9 b9 u (z 45) (z 44)) (by first | omega | assumption)) (rcv_ob F 0 (ci := 3) rfl rfl) q3973 q3975 qs68 q120 q3976 nd_X4_fails rfl (by decide) [0, 1, 2, 3, 4, 5, 6, 7] (perm_ok _ 8 (by decide +kernel) rfl) [aI (xg x) 0 (a 40) 200 Ed, aI (xg x) 0 (a 41) 200 Lf, aI (xg x) 0 (a 42) 200 Rg, aL (xg x) (a 43) 200 Mn, aI (xg x) 0 (a 46) 600 Ah, aI (xg x) 0 (a 47) 600 Ad, aI (xg x) 0 (a 48) 600 Bb] rfl 0 0 ⟨by omega, by omega⟩ [] rfl (Nat.le_of_ble_eq_true rfl) dX4_post_91 rfl (fun _ _ h => h.elim) (fun v Ws h => ?_)
    obtain ⟨rfl, hps_1, rfl⟩ := h
    show SW x [tmO (xg x) o a (va_up z 8 (poP d a9 b9 u (z 45) (z 44))), aI (xg x) 0 (a 40) 200 Ed, aI (xg x) 0 (a 41) 200 Lf, aI (xg x) 0 (a 42) 200 Rg, aL (xg x) (a 43) 200 Mn, aI (xg x) 0 (a 46) 600 Ah, aI (xg x) 0 (a 47) 600 Ad, aI (xg x) 0 (a 48) 600 Bb] _ _ _ _ [.int (jI (psI (poP d a9 b9 u (z 45) (z 44))))]
    refine sw_if_eq (n := 97) F (by omega) (tgt := 99) dX4_post_94 (by decide) rfl (fun c_94 => ?_) (fun c_94 => ?_)
    ·
      have e0 : poP d a9 b9 u (z 45) (z 44) = 0 := by omega
      obtain ⟨hz0, hz1, hz2, hz3⟩ := poP_0 d a9 b9 u (z 45) (z 44) e0
      have rg0 : 0 ≤ d ∧ d ≤ 9999 := by omega
      have rg1 : z 44 ≤ 199 := by omega
      clear hz0 hz1 hz2 hz3 hcs c_94 hps_1
      refine sw_aload_n (n := 100) F 0 (some o) rfl rfl rfl dX4_post_99 rfl ?_
      refine sw_iload_n (n := 101) F 1 rfl rfl dX4_post_100 rfl ?_
      refine sw_iconst (n := 102) F (-1) (by decide) dX4_post_101 rfl ?_
      refine sw_callV (n := 105) F (ct_X4_notes (g := xg x) (l := xl x) o a (va_up z 8 (poP d a9 b9 u (z 45) (z 44))) Ah Ad Bb d (-1) (by first | omega | assumption) (by first | omega | assumption)) (rcv_ob F 0 (ci := 3) rfl rfl) q4301 q4303 qs100 q120 q4304 nd_X4_notes rfl (by decide) [0, 5, 6, 7, 1, 2, 3, 4] (perm_ok _ 8 (by decide +kernel) rfl) [aI (xg x) 0 (a 40) 200 Ed, aI (xg x) 0 (a 41) 200 Lf, aI (xg x) 0 (a 42) 200 Rg, aL (xg x) (a 43) 200 Mn] rfl 0 0 ⟨by omega, by omega⟩ [] rfl (Nat.le_of_ble_eq_true rfl) dX4_post_102 rfl (fun _ _ h => h.elim) (fun v Ws h => ?_)
      obtain ⟨rfl, rfl⟩ := h
      show SW x [tmO (xg x) o a (va_up (va_up z 8 (poP d a9 b9 u (z 45) (z 44))) 49 ((z 49) + 1)), aI (xg x) 0 (a 46) 600 (va_up Ah ((z 49)).toNat ((z 44))), aI (xg x) 0 (a 47) 600 (va_up Ad ((z 49)).toNat d), aI (xg x) 0 (a 48) 600 (va_up Bb ((z 49)).toNat (-1)), aI (xg x) 0 (a 40) 200 Ed, aI (xg x) 0 (a 41) 200 Lf, aI (xg x) 0 (a 42) 200 Rg, aL (xg x) (a 43) 200 Mn] _ _ _ _ []
      refine sw_aload_n (n := 106) F 0 (some o) rfl rfl rfl dX4_post_105 rfl ?_
      refine sw_iload_n (n := 107) F 1 rfl rfl dX4_post_106 rfl ?_
      refine sw_iload_n (n := 108) F 2 rfl rfl dX4_post_107 rfl ?_
      refine sw_iload_n (n := 109) F 3 rfl rfl dX4_post_108 rfl ?_
      refine sw_lload (n := 111) F 4 rfl dX4_post_109 rfl ?_
      refine sw_callV (n := 114) F (ct_X4_enters (g := xg x) (l := xl x) o a (va_up (va_up z 8 (poP d a9 b9 u (z 45) (z 44))) 49 ((z 49) + 1)) Ed Lf Rg Mn d a9 b9 u (by show 0 ≤ z 44 ∧ z 44 < 200; omega)) (rcv_ob F 0 (ci := 3) rfl rfl) q4305 q4307 qs101 q120 q4308 nd_X4_enters rfl (by decide) [0, 4, 5, 6, 7, 1, 2, 3] (perm_ok _ 8 (by decide +kernel) rfl) [aI (xg x) 0 (a 46) 600 (va_up Ah ((z 49)).toNat ((z 44))), aI (xg x) 0 (a 47) 600 (va_up Ad ((z 49)).toNat d), aI (xg x) 0 (a 48) 600 (va_up Bb ((z 49)).toNat (-1))] rfl 0 0 ⟨by omega, by omega⟩ [] rfl (Nat.le_of_ble_eq_true rfl) dX4_post_111 rfl (fun _ _ h => h.elim) (fun v Ws h => ?_)
      obtain ⟨rfl, rfl⟩ := h
      show SW x [tmO (xg x) o a (va_up (va_up (va_up z 8 (poP d a9 b9 u (z 45) (z 44))) 49 ((z 49) + 1)) 44 ((z 44) + 1)), aI (xg x) 0 (a 40) 200 (va_up Ed ((z 44)).toNat d), aI (xg x) 0 (a 41) 200 (va_up Lf ((z 44)).toNat a9), aI (xg x) 0 (a 42) 200 (va_up Rg ((z 44)).toNat b9), aL (xg x) (a 43) 200 (va_up Mn ((z 44)).toNat u), aI (xg x) 0 (a 46) 600 (va_up Ah ((z 49)).toNat ((z 44))), aI (xg x) 0 (a 47) 600 (va_up Ad ((z 49)).toNat d), aI (xg x) 0 (a 48) 600 (va_up Bb ((z 49)).toNat (-1))] _ _ _ _ []
      refine sw_aload_n (n := 115) F 0 (some o) rfl rfl rfl dX4_post_114 rfl ?_
      refine sw_get (n := 118) F 0 rfl (k := 44) ⟨(RX4, TX4, 50), rfl, by decide, q3843, in_X4, Or.inl rfl⟩ (v := .int (jI ((z 44) + 1))) rfl dX4_post_115 rfl ?_
      have e0 : poP d a9 b9 u (z 45) (z 44) = 0 := by omega
      exact sw_iret F _ rfl (by first | rfl | exact jI_nz (by omega) | exact jI_nc (by omega)) dX4_post_118 (by rw [hPo]; exact ⟨(by rw [if0_p e0]), (by simp only [up0_p e0, up_88])⟩)
    ·
      refine sw_iconst (n := 98) F (0) (by decide) dX4_post_97 rfl ?_
      have e0 : poP d a9 b9 u (z 45) (z 44) ≠ 0 := by omega
      exact sw_iret F _ rfl (by first | rfl | exact jI_nz (by omega) | exact jI_nc (by omega)) dX4_post_98 (by rw [hPo]; exact ⟨(by rw [if0_n e0]), (by simp only [up0_n e0, up_88])⟩)
  refine sw_i2l (n := 2) F (by omega) dX4_post_1 rfl ?_
  refine sw_lconst (n := 3) F 0 (by decide) dX4_post_2 rfl ?_
  refine sw_ldc2 (n := 6) F (9999) q4195 (by decide) dX4_post_3 rfl ?_
  refine sw_callS (n := 9) F (ct_X4_in (g := xg x) (l := xl x) d 0 9999 (by first | omega | assumption) (by first | omega | assumption) (by first | omega | assumption)) q3963 q3964 q120 q3965 nd_X4_in rfl (by decide) [0, 1, 2, 3, 4, 5, 6, 7] (perm_ok _ 8 (by decide +kernel) rfl) [tmO (xg x) o a z, aI (xg x) 0 (a 40) 200 Ed, aI (xg x) 0 (a 41) 200 Lf, aI (xg x) 0 (a 42) 200 Rg, aL (xg x) (a 43) 200 Mn, aI (xg x) 0 (a 46) 600 Ah, aI (xg x) 0 (a 47) 600 Ad, aI (xg x) 0 (a 48) 600 Bb] rfl 0 0 ⟨by omega, by omega⟩ [] rfl (Nat.le_of_ble_eq_true rfl) dX4_post_6 rfl (fun _ _ h => h.elim) (fun v Ws h => ?_)
  obtain ⟨rfl, hs_2, rfl⟩ := h
  show SW x [tmO (xg x) o a z, aI (xg x) 0 (a 40) 200 Ed, aI (xg x) 0 (a 41) 200 Lf, aI (xg x) 0 (a 42) 200 Rg, aL (xg x) (a 43) 200 Mn, aI (xg x) 0 (a 46) 600 Ah, aI (xg x) 0 (a 47) 600 Ad, aI (xg x) 0 (a 48) 600 Bb] _ _ _ _ [.int (jI (inI d 0 9999))]
  refine sw_if_eq (n := 12) F (by omega) (tgt := 33) dX4_post_9 (by decide) rfl (fun c_9 => ?_) (fun c_9 => ?_)
  ·
    refine sw_iconst (n := 34) F (0) (by decide) dX4_post_33 rfl ?_
    refine sw_istore (n := 36) F (L2 := [(6, .int (jI 0)), (0, .ref o), (1, .int (jI d)), (2, .int (jI a9)), (3, .int (jI b9)), (4, .long (jL u))]) rfl (by decide) dX4_post_34 rfl ?_
    refine sw_aload_n (n := 37) F 1 (some o) rfl rfl rfl dX4_post_36 rfl ?_
    refine sw_iload_n (n := 38) F 3 rfl rfl dX4_post_37 rfl ?_
    refine sw_callS (n := 41) F (ct_X4_isAccount (g := xg x) (l := xl x) a9 ha) q4297 q4298 q120 q4299 nd_X4_isAccount rfl (by decide) [0, 1, 2, 3, 4, 5, 6, 7] (perm_ok _ 8 (by decide +kernel) rfl) [tmO (xg x) o a z, aI (xg x) 0 (a 40) 200 Ed, aI (xg x) 0 (a 41) 200 Lf, aI (xg x) 0 (a 42) 200 Rg, aL (xg x) (a 43) 200 Mn, aI (xg x) 0 (a 46) 600 Ah, aI (xg x) 0 (a 47) 600 Ad, aI (xg x) 0 (a 48) 600 Bb] rfl 0 0 ⟨by omega, by omega⟩ [.ref o] rfl (Nat.le_of_ble_eq_true rfl) dX4_post_38 rfl (fun _ _ h => h.elim) (fun v Ws h => ?_)
    obtain ⟨rfl, hs_3, rfl⟩ := h
    show SW x [tmO (xg x) o a z, aI (xg x) 0 (a 40) 200 Ed, aI (xg x) 0 (a 41) 200 Lf, aI (xg x) 0 (a 42) 200 Rg, aL (xg x) (a 43) 200 Mn, aI (xg x) 0 (a 46) 600 Ah, aI (xg x) 0 (a 47) 600 Ad, aI (xg x) 0 (a 48) 600 Bb] _ _ _ _ [.int (jI (inI a9 0 99)), .ref o]
    refine sw_if_eq (n := 44) F (by omega) (tgt := 51) dX4_post_41 (by decide) rfl (fun c_41 => ?_) (fun c_41 => ?_)
    ·
      refine sw_iconst (n := 52) F (1) (by decide) dX4_post_51 rfl ?_
      refine sw_goto F (n := 91) dX4_post_52 (by decide) ?_
      refine sw_loc [1, 2, 3, 4, 5] (L2 := [(0, .ref o), (1, .int (jI d)), (2, .int (jI a9)), (3, .int (jI b9)), (4, .long (jL u))]) rfl ?_
      exact K91 1 (by unfold poP; (repeat' split) <;> omega)
    ·
      refine sw_iload_n (n := 45) F 4 rfl rfl dX4_post_44 rfl ?_
      refine sw_callS (n := 48) F (ct_X4_isAccount (g := xg x) (l := xl x) b9 hb) q4297 q4298 q120 q4299 nd_X4_isAccount rfl (by decide) [0, 1, 2, 3, 4, 5, 6, 7] (perm_ok _ 8 (by decide +kernel) rfl) [tmO (xg x) o a z, aI (xg x) 0 (a 40) 200 Ed, aI (xg x) 0 (a 41) 200 Lf, aI (xg x) 0 (a 42) 200 Rg, aL (xg x) (a 43) 200 Mn, aI (xg x) 0 (a 46) 600 Ah, aI (xg x) 0 (a 47) 600 Ad, aI (xg x) 0 (a 48) 600 Bb] rfl 0 0 ⟨by omega, by omega⟩ [.ref o] rfl (Nat.le_of_ble_eq_true rfl) dX4_post_45 rfl (fun _ _ h => h.elim) (fun v Ws h => ?_)
      obtain ⟨rfl, hs_4, rfl⟩ := h
      show SW x [tmO (xg x) o a z, aI (xg x) 0 (a 40) 200 Ed, aI (xg x) 0 (a 41) 200 Lf, aI (xg x) 0 (a 42) 200 Rg, aL (xg x) (a 43) 200 Mn, aI (xg x) 0 (a 46) 600 Ah, aI (xg x) 0 (a 47) 600 Ad, aI (xg x) 0 (a 48) 600 Bb] _ _ _ _ [.int (jI (inI b9 0 99)), .ref o]
      refine sw_if_ne (n := 51) F (by omega) (tgt := 55) dX4_post_48 (by decide) rfl (fun c_48 => ?_) (fun c_48 => ?_)
      ·
        refine sw_iload (n := 57) F 0 rfl dX4_post_55 rfl ?_
        refine sw_if_ne (n := 60) F (by decide) (tgt := 64) dX4_post_57 (by decide) rfl (fun c_57 => ?_) (fun c_57 => ?_)
        · exfalso; exact absurd c_57 (by decide)
        ·
          refine sw_iconst (n := 61) F (2) (by decide) dX4_post_60 rfl ?_
          refine sw_goto F (n := 91) dX4_post_61 (by decide) ?_
          refine sw_loc [1, 2, 3, 4, 5] (L2 := [(0, .ref o), (1, .int (jI d)), (2, .int (jI a9)), (3, .int (jI b9)), (4, .long (jL u))]) rfl ?_
          exact K91 2 (by unfold poP; (repeat' split) <;> omega)
      ·
        refine sw_iconst (n := 52) F (1) (by decide) dX4_post_51 rfl ?_
        refine sw_goto F (n := 91) dX4_post_52 (by decide) ?_
        refine sw_loc [1, 2, 3, 4, 5] (L2 := [(0, .ref o), (1, .int (jI d)), (2, .int (jI a9)), (3, .int (jI b9)), (4, .long (jL u))]) rfl ?_
        exact K91 1 (by unfold poP; (repeat' split) <;> omega)
  ·
    refine sw_lload (n := 14) F 4 rfl dX4_post_12 rfl ?_
    refine sw_lconst (n := 15) F 1 (by decide) dX4_post_14 rfl ?_
    refine sw_ldc2 (n := 18) F (1000000000000) q4179 (by decide) dX4_post_15 rfl ?_
    refine sw_callS (n := 21) F (ct_X4_in (g := xg x) (l := xl x) u 1 1000000000000 hu (by first | omega | assumption) (by first | omega | assumption)) q3963 q3964 q120 q3965 nd_X4_in rfl (by decide) [0, 1, 2, 3, 4, 5, 6, 7] (perm_ok _ 8 (by decide +kernel) rfl) [tmO (xg x) o a z, aI (xg x) 0 (a 40) 200 Ed, aI (xg x) 0 (a 41) 200 Lf, aI (xg x) 0 (a 42) 200 Rg, aL (xg x) (a 43) 200 Mn, aI (xg x) 0 (a 46) 600 Ah, aI (xg x) 0 (a 47) 600 Ad, aI (xg x) 0 (a 48) 600 Bb] rfl 0 0 ⟨by omega, by omega⟩ [] rfl (Nat.le_of_ble_eq_true rfl) dX4_post_18 rfl (fun _ _ h => h.elim) (fun v Ws h => ?_)
    obtain ⟨rfl, hs_5, rfl⟩ := h
    show SW x [tmO (xg x) o a z, aI (xg x) 0 (a 40) 200 Ed, aI (xg x) 0 (a 41) 200 Lf, aI (xg x) 0 (a 42) 200 Rg, aL (xg x) (a 43) 200 Mn, aI (xg x) 0 (a 46) 600 Ah, aI (xg x) 0 (a 47) 600 Ad, aI (xg x) 0 (a 48) 600 Bb] _ _ _ _ [.int (jI (inI u 1 1000000000000))]
    refine sw_if_eq (n := 24) F (by omega) (tgt := 33) dX4_post_21 (by decide) rfl (fun c_21 => ?_) (fun c_21 => ?_)
    ·
      refine sw_iconst (n := 34) F (0) (by decide) dX4_post_33 rfl ?_
      refine sw_istore (n := 36) F (L2 := [(6, .int (jI 0)), (0, .ref o), (1, .int (jI d)), (2, .int (jI a9)), (3, .int (jI b9)), (4, .long (jL u))]) rfl (by decide) dX4_post_34 rfl ?_
      refine sw_aload_n (n := 37) F 1 (some o) rfl rfl rfl dX4_post_36 rfl ?_
      refine sw_iload_n (n := 38) F 3 rfl rfl dX4_post_37 rfl ?_
      refine sw_callS (n := 41) F (ct_X4_isAccount (g := xg x) (l := xl x) a9 ha) q4297 q4298 q120 q4299 nd_X4_isAccount rfl (by decide) [0, 1, 2, 3, 4, 5, 6, 7] (perm_ok _ 8 (by decide +kernel) rfl) [tmO (xg x) o a z, aI (xg x) 0 (a 40) 200 Ed, aI (xg x) 0 (a 41) 200 Lf, aI (xg x) 0 (a 42) 200 Rg, aL (xg x) (a 43) 200 Mn, aI (xg x) 0 (a 46) 600 Ah, aI (xg x) 0 (a 47) 600 Ad, aI (xg x) 0 (a 48) 600 Bb] rfl 0 0 ⟨by omega, by omega⟩ [.ref o] rfl (Nat.le_of_ble_eq_true rfl) dX4_post_38 rfl (fun _ _ h => h.elim) (fun v Ws h => ?_)
      obtain ⟨rfl, hs_6, rfl⟩ := h
      show SW x [tmO (xg x) o a z, aI (xg x) 0 (a 40) 200 Ed, aI (xg x) 0 (a 41) 200 Lf, aI (xg x) 0 (a 42) 200 Rg, aL (xg x) (a 43) 200 Mn, aI (xg x) 0 (a 46) 600 Ah, aI (xg x) 0 (a 47) 600 Ad, aI (xg x) 0 (a 48) 600 Bb] _ _ _ _ [.int (jI (inI a9 0 99)), .ref o]
      refine sw_if_eq (n := 44) F (by omega) (tgt := 51) dX4_post_41 (by decide) rfl (fun c_41 => ?_) (fun c_41 => ?_)
      ·
        refine sw_iconst (n := 52) F (1) (by decide) dX4_post_51 rfl ?_
        refine sw_goto F (n := 91) dX4_post_52 (by decide) ?_
        refine sw_loc [1, 2, 3, 4, 5] (L2 := [(0, .ref o), (1, .int (jI d)), (2, .int (jI a9)), (3, .int (jI b9)), (4, .long (jL u))]) rfl ?_
        exact K91 1 (by unfold poP; (repeat' split) <;> omega)
      ·
        refine sw_iload_n (n := 45) F 4 rfl rfl dX4_post_44 rfl ?_
        refine sw_callS (n := 48) F (ct_X4_isAccount (g := xg x) (l := xl x) b9 hb) q4297 q4298 q120 q4299 nd_X4_isAccount rfl (by decide) [0, 1, 2, 3, 4, 5, 6, 7] (perm_ok _ 8 (by decide +kernel) rfl) [tmO (xg x) o a z, aI (xg x) 0 (a 40) 200 Ed, aI (xg x) 0 (a 41) 200 Lf, aI (xg x) 0 (a 42) 200 Rg, aL (xg x) (a 43) 200 Mn, aI (xg x) 0 (a 46) 600 Ah, aI (xg x) 0 (a 47) 600 Ad, aI (xg x) 0 (a 48) 600 Bb] rfl 0 0 ⟨by omega, by omega⟩ [.ref o] rfl (Nat.le_of_ble_eq_true rfl) dX4_post_45 rfl (fun _ _ h => h.elim) (fun v Ws h => ?_)
        obtain ⟨rfl, hs_7, rfl⟩ := h
        show SW x [tmO (xg x) o a z, aI (xg x) 0 (a 40) 200 Ed, aI (xg x) 0 (a 41) 200 Lf, aI (xg x) 0 (a 42) 200 Rg, aL (xg x) (a 43) 200 Mn, aI (xg x) 0 (a 46) 600 Ah, aI (xg x) 0 (a 47) 600 Ad, aI (xg x) 0 (a 48) 600 Bb] _ _ _ _ [.int (jI (inI b9 0 99)), .ref o]
        refine sw_if_ne (n := 51) F (by omega) (tgt := 55) dX4_post_48 (by decide) rfl (fun c_48 => ?_) (fun c_48 => ?_)
        ·
          refine sw_iload (n := 57) F 0 rfl dX4_post_55 rfl ?_
          refine sw_if_ne (n := 60) F (by decide) (tgt := 64) dX4_post_57 (by decide) rfl (fun c_57 => ?_) (fun c_57 => ?_)
          · exfalso; exact absurd c_57 (by decide)
          ·
            refine sw_iconst (n := 61) F (2) (by decide) dX4_post_60 rfl ?_
            refine sw_goto F (n := 91) dX4_post_61 (by decide) ?_
            refine sw_loc [1, 2, 3, 4, 5] (L2 := [(0, .ref o), (1, .int (jI d)), (2, .int (jI a9)), (3, .int (jI b9)), (4, .long (jL u))]) rfl ?_
            exact K91 2 (by unfold poP; (repeat' split) <;> omega)
        ·
          refine sw_iconst (n := 52) F (1) (by decide) dX4_post_51 rfl ?_
          refine sw_goto F (n := 91) dX4_post_52 (by decide) ?_
          refine sw_loc [1, 2, 3, 4, 5] (L2 := [(0, .ref o), (1, .int (jI d)), (2, .int (jI a9)), (3, .int (jI b9)), (4, .long (jL u))]) rfl ?_
          exact K91 1 (by unfold poP; (repeat' split) <;> omega)
    ·
      refine sw_iload_n (n := 25) F 2 rfl rfl dX4_post_24 rfl ?_
      refine sw_iload_n (n := 26) F 3 rfl rfl dX4_post_25 rfl ?_
      refine sw_icmp_eq (n := 29) F (by omega) (by omega) (tgt := 33) dX4_post_26 (by decide) rfl (fun c_26 => ?_) (fun c_26 => ?_)
      ·
        refine sw_iconst (n := 34) F (0) (by decide) dX4_post_33 rfl ?_
        refine sw_istore (n := 36) F (L2 := [(6, .int (jI 0)), (0, .ref o), (1, .int (jI d)), (2, .int (jI a9)), (3, .int (jI b9)), (4, .long (jL u))]) rfl (by decide) dX4_post_34 rfl ?_
        refine sw_aload_n (n := 37) F 1 (some o) rfl rfl rfl dX4_post_36 rfl ?_
        refine sw_iload_n (n := 38) F 3 rfl rfl dX4_post_37 rfl ?_
        refine sw_callS (n := 41) F (ct_X4_isAccount (g := xg x) (l := xl x) a9 ha) q4297 q4298 q120 q4299 nd_X4_isAccount rfl (by decide) [0, 1, 2, 3, 4, 5, 6, 7] (perm_ok _ 8 (by decide +kernel) rfl) [tmO (xg x) o a z, aI (xg x) 0 (a 40) 200 Ed, aI (xg x) 0 (a 41) 200 Lf, aI (xg x) 0 (a 42) 200 Rg, aL (xg x) (a 43) 200 Mn, aI (xg x) 0 (a 46) 600 Ah, aI (xg x) 0 (a 47) 600 Ad, aI (xg x) 0 (a 48) 600 Bb] rfl 0 0 ⟨by omega, by omega⟩ [.ref o] rfl (Nat.le_of_ble_eq_true rfl) dX4_post_38 rfl (fun _ _ h => h.elim) (fun v Ws h => ?_)
        obtain ⟨rfl, hs_8, rfl⟩ := h
        show SW x [tmO (xg x) o a z, aI (xg x) 0 (a 40) 200 Ed, aI (xg x) 0 (a 41) 200 Lf, aI (xg x) 0 (a 42) 200 Rg, aL (xg x) (a 43) 200 Mn, aI (xg x) 0 (a 46) 600 Ah, aI (xg x) 0 (a 47) 600 Ad, aI (xg x) 0 (a 48) 600 Bb] _ _ _ _ [.int (jI (inI a9 0 99)), .ref o]
        refine sw_if_eq (n := 44) F (by omega) (tgt := 51) dX4_post_41 (by decide) rfl (fun c_41 => ?_) (fun c_41 => ?_)
        ·
          refine sw_iconst (n := 52) F (1) (by decide) dX4_post_51 rfl ?_
          refine sw_goto F (n := 91) dX4_post_52 (by decide) ?_
          refine sw_loc [1, 2, 3, 4, 5] (L2 := [(0, .ref o), (1, .int (jI d)), (2, .int (jI a9)), (3, .int (jI b9)), (4, .long (jL u))]) rfl ?_
          exact K91 1 (by unfold poP; (repeat' split) <;> omega)
        ·
          refine sw_iload_n (n := 45) F 4 rfl rfl dX4_post_44 rfl ?_
          refine sw_callS (n := 48) F (ct_X4_isAccount (g := xg x) (l := xl x) b9 hb) q4297 q4298 q120 q4299 nd_X4_isAccount rfl (by decide) [0, 1, 2, 3, 4, 5, 6, 7] (perm_ok _ 8 (by decide +kernel) rfl) [tmO (xg x) o a z, aI (xg x) 0 (a 40) 200 Ed, aI (xg x) 0 (a 41) 200 Lf, aI (xg x) 0 (a 42) 200 Rg, aL (xg x) (a 43) 200 Mn, aI (xg x) 0 (a 46) 600 Ah, aI (xg x) 0 (a 47) 600 Ad, aI (xg x) 0 (a 48) 600 Bb] rfl 0 0 ⟨by omega, by omega⟩ [.ref o] rfl (Nat.le_of_ble_eq_true rfl) dX4_post_45 rfl (fun _ _ h => h.elim) (fun v Ws h => ?_)
          obtain ⟨rfl, hs_9, rfl⟩ := h
          show SW x [tmO (xg x) o a z, aI (xg x) 0 (a 40) 200 Ed, aI (xg x) 0 (a 41) 200 Lf, aI (xg x) 0 (a 42) 200 Rg, aL (xg x) (a 43) 200 Mn, aI (xg x) 0 (a 46) 600 Ah, aI (xg x) 0 (a 47) 600 Ad, aI (xg x) 0 (a 48) 600 Bb] _ _ _ _ [.int (jI (inI b9 0 99)), .ref o]
          refine sw_if_ne (n := 51) F (by omega) (tgt := 55) dX4_post_48 (by decide) rfl (fun c_48 => ?_) (fun c_48 => ?_)
          ·
            refine sw_iload (n := 57) F 0 rfl dX4_post_55 rfl ?_
            refine sw_if_ne (n := 60) F (by decide) (tgt := 64) dX4_post_57 (by decide) rfl (fun c_57 => ?_) (fun c_57 => ?_)
            · exfalso; exact absurd c_57 (by decide)
            ·
              refine sw_iconst (n := 61) F (2) (by decide) dX4_post_60 rfl ?_
              refine sw_goto F (n := 91) dX4_post_61 (by decide) ?_
              refine sw_loc [1, 2, 3, 4, 5] (L2 := [(0, .ref o), (1, .int (jI d)), (2, .int (jI a9)), (3, .int (jI b9)), (4, .long (jL u))]) rfl ?_
              exact K91 2 (by unfold poP; (repeat' split) <;> omega)
          ·
            refine sw_iconst (n := 52) F (1) (by decide) dX4_post_51 rfl ?_
            refine sw_goto F (n := 91) dX4_post_52 (by decide) ?_
            refine sw_loc [1, 2, 3, 4, 5] (L2 := [(0, .ref o), (1, .int (jI d)), (2, .int (jI a9)), (3, .int (jI b9)), (4, .long (jL u))]) rfl ?_
            exact K91 1 (by unfold poP; (repeat' split) <;> omega)
      ·
        refine sw_iconst (n := 30) F (1) (by decide) dX4_post_29 rfl ?_
        refine sw_goto F (n := 34) dX4_post_30 (by decide) ?_
        refine sw_istore (n := 36) F (L2 := [(6, .int (jI 1)), (0, .ref o), (1, .int (jI d)), (2, .int (jI a9)), (3, .int (jI b9)), (4, .long (jL u))]) rfl (by decide) dX4_post_34 rfl ?_
        refine sw_aload_n (n := 37) F 1 (some o) rfl rfl rfl dX4_post_36 rfl ?_
        refine sw_iload_n (n := 38) F 3 rfl rfl dX4_post_37 rfl ?_
        refine sw_callS (n := 41) F (ct_X4_isAccount (g := xg x) (l := xl x) a9 ha) q4297 q4298 q120 q4299 nd_X4_isAccount rfl (by decide) [0, 1, 2, 3, 4, 5, 6, 7] (perm_ok _ 8 (by decide +kernel) rfl) [tmO (xg x) o a z, aI (xg x) 0 (a 40) 200 Ed, aI (xg x) 0 (a 41) 200 Lf, aI (xg x) 0 (a 42) 200 Rg, aL (xg x) (a 43) 200 Mn, aI (xg x) 0 (a 46) 600 Ah, aI (xg x) 0 (a 47) 600 Ad, aI (xg x) 0 (a 48) 600 Bb] rfl 0 0 ⟨by omega, by omega⟩ [.ref o] rfl (Nat.le_of_ble_eq_true rfl) dX4_post_38 rfl (fun _ _ h => h.elim) (fun v Ws h => ?_)
        obtain ⟨rfl, hs_10, rfl⟩ := h
        show SW x [tmO (xg x) o a z, aI (xg x) 0 (a 40) 200 Ed, aI (xg x) 0 (a 41) 200 Lf, aI (xg x) 0 (a 42) 200 Rg, aL (xg x) (a 43) 200 Mn, aI (xg x) 0 (a 46) 600 Ah, aI (xg x) 0 (a 47) 600 Ad, aI (xg x) 0 (a 48) 600 Bb] _ _ _ _ [.int (jI (inI a9 0 99)), .ref o]
        refine sw_if_eq (n := 44) F (by omega) (tgt := 51) dX4_post_41 (by decide) rfl (fun c_41 => ?_) (fun c_41 => ?_)
        ·
          refine sw_iconst (n := 52) F (1) (by decide) dX4_post_51 rfl ?_
          refine sw_goto F (n := 91) dX4_post_52 (by decide) ?_
          refine sw_loc [1, 2, 3, 4, 5] (L2 := [(0, .ref o), (1, .int (jI d)), (2, .int (jI a9)), (3, .int (jI b9)), (4, .long (jL u))]) rfl ?_
          exact K91 1 (by unfold poP; (repeat' split) <;> omega)
        ·
          refine sw_iload_n (n := 45) F 4 rfl rfl dX4_post_44 rfl ?_
          refine sw_callS (n := 48) F (ct_X4_isAccount (g := xg x) (l := xl x) b9 hb) q4297 q4298 q120 q4299 nd_X4_isAccount rfl (by decide) [0, 1, 2, 3, 4, 5, 6, 7] (perm_ok _ 8 (by decide +kernel) rfl) [tmO (xg x) o a z, aI (xg x) 0 (a 40) 200 Ed, aI (xg x) 0 (a 41) 200 Lf, aI (xg x) 0 (a 42) 200 Rg, aL (xg x) (a 43) 200 Mn, aI (xg x) 0 (a 46) 600 Ah, aI (xg x) 0 (a 47) 600 Ad, aI (xg x) 0 (a 48) 600 Bb] rfl 0 0 ⟨by omega, by omega⟩ [.ref o] rfl (Nat.le_of_ble_eq_true rfl) dX4_post_45 rfl (fun _ _ h => h.elim) (fun v Ws h => ?_)
          obtain ⟨rfl, hs_11, rfl⟩ := h
          show SW x [tmO (xg x) o a z, aI (xg x) 0 (a 40) 200 Ed, aI (xg x) 0 (a 41) 200 Lf, aI (xg x) 0 (a 42) 200 Rg, aL (xg x) (a 43) 200 Mn, aI (xg x) 0 (a 46) 600 Ah, aI (xg x) 0 (a 47) 600 Ad, aI (xg x) 0 (a 48) 600 Bb] _ _ _ _ [.int (jI (inI b9 0 99)), .ref o]
          refine sw_if_ne (n := 51) F (by omega) (tgt := 55) dX4_post_48 (by decide) rfl (fun c_48 => ?_) (fun c_48 => ?_)
          ·
            refine sw_iload (n := 57) F 0 rfl dX4_post_55 rfl ?_
            refine sw_if_ne (n := 60) F (by decide) (tgt := 64) dX4_post_57 (by decide) rfl (fun c_57 => ?_) (fun c_57 => ?_)
            ·
              refine sw_iload_n (n := 65) F 2 rfl rfl dX4_post_64 rfl ?_
              refine sw_aload_n (n := 66) F 1 (some o) rfl rfl rfl dX4_post_65 rfl ?_
              refine sw_get (n := 69) F 0 rfl (k := 45) ⟨(RX4, TX4, 50), rfl, by decide, q3844, in_X4, Or.inl rfl⟩ (v := .int (jI (z 45))) rfl dX4_post_66 rfl ?_
              refine sw_icmp_gt (n := 72) F (by omega) (by omega) (tgt := 76) dX4_post_69 (by decide) rfl (fun c_69 => ?_) (fun c_69 => ?_)
              ·
                refine sw_aload_n (n := 77) F 1 (some o) rfl rfl rfl dX4_post_76 rfl ?_
                refine sw_get (n := 80) F 0 rfl (k := 44) ⟨(RX4, TX4, 50), rfl, by decide, q3843, in_X4, Or.inl rfl⟩ (v := .int (jI (z 44))) rfl dX4_post_77 rfl ?_
                refine sw_sipush (n := 83) F (200) (by decide) dX4_post_80 rfl ?_
                refine sw_icmp_ne (n := 86) F (by omega) (by decide) (tgt := 90) dX4_post_83 (by decide) rfl (fun c_83 => ?_) (fun c_83 => ?_)
                ·
                  refine sw_iconst (n := 91) F (0) (by decide) dX4_post_90 rfl ?_
                  refine sw_loc [1, 2, 3, 4, 5] (L2 := [(0, .ref o), (1, .int (jI d)), (2, .int (jI a9)), (3, .int (jI b9)), (4, .long (jL u))]) rfl ?_
                  exact K91 0 (by unfold poP; (repeat' split) <;> omega)
                ·
                  refine sw_iconst (n := 87) F (4) (by decide) dX4_post_86 rfl ?_
                  refine sw_goto F (n := 91) dX4_post_87 (by decide) ?_
                  refine sw_loc [1, 2, 3, 4, 5] (L2 := [(0, .ref o), (1, .int (jI d)), (2, .int (jI a9)), (3, .int (jI b9)), (4, .long (jL u))]) rfl ?_
                  exact K91 4 (by unfold poP; (repeat' split) <;> omega)
              ·
                refine sw_iconst (n := 73) F (3) (by decide) dX4_post_72 rfl ?_
                refine sw_goto F (n := 91) dX4_post_73 (by decide) ?_
                refine sw_loc [1, 2, 3, 4, 5] (L2 := [(0, .ref o), (1, .int (jI d)), (2, .int (jI a9)), (3, .int (jI b9)), (4, .long (jL u))]) rfl ?_
                exact K91 3 (by unfold poP; (repeat' split) <;> omega)
            · exfalso; exact absurd c_57 (by decide)
          ·
            refine sw_iconst (n := 52) F (1) (by decide) dX4_post_51 rfl ?_
            refine sw_goto F (n := 91) dX4_post_52 (by decide) ?_
            refine sw_loc [1, 2, 3, 4, 5] (L2 := [(0, .ref o), (1, .int (jI d)), (2, .int (jI a9)), (3, .int (jI b9)), (4, .long (jL u))]) rfl ?_
            exact K91 1 (by unfold poP; (repeat' split) <;> omega)
theorem nd_X4_isBooked : yX4_isBooked.cls ≠ "java/lang/invoke/MethodHandle" ∧ yX4_isBooked.cls ≠ "java/lang/invoke/VarHandle" ∧ (parseMethodDescriptor yX4_isBooked.desc).map (fun d => d.parameters.length) = some 1 := by decide +kernel
set_option maxRecDepth 100000 in
set_option maxHeartbeats 16000000 in
theorem ct_X4_isBooked {g : GG} {l : Launch} (o : Nat) (a : Nat → Nat) (z : Nat → Int) (Hb : Nat → Int) (v : Int) (hHb : HB Hb) (hv : -2147483648 ≤ v ∧ v ≤ 2147483647) (hz27 : 0 ≤ z 27 ∧ z 27 ≤ 20) : Ct g l yX4_isBooked (ws_ yX4_isBooked cX4_isBooked 2 (Option.some Jvm.ClassFile.FieldType.boolean)) 3 58 0 0 [.ref o, .int (jI v)] [tmO g o a z, aI g 4 (a 24) 20 Hb] (fun v9 Ws9 => v9 = some (.int (jI (if0 (ivP v (z 27)) (Hb v.toNat)))) ∧ Ws9 = [tmO g o a (va_up z 8 (ivP v (z 27))), aI g 4 (a 24) 20 Hb]) (nox) := by
  refine Ct.of (cc := cX4_isBooked) (nL := 2) (ret := (Option.some Jvm.ClassFile.FieldType.boolean)) (by decide) rfl (Nat.le_of_ble_eq_true rfl) ?_
  intro x hg hl hPo hPx hmc hms F
  subst hg; subst hl
  refine SW.cast (L' := [(0, .ref o), (1, .int (jI v))]) ?_ rfl rfl rfl
  have hhb := hHb v.toNat
  refine sw_aload_n (n := 1) F 0 (some o) rfl rfl rfl dX4_isBooked_0 rfl ?_
  have K14 : ∀ (p9 : Int), (p9 = ivP v (z 27)) → SW x [tmO (xg x) o a z, aI (xg x) 4 (a 24) 20 Hb] 0 0 14 [(0, .ref o), (1, .int (jI v))] [.int (jI p9), .ref o] := by
    intro p9 hpc
    subst hpc
    have hcs := ivP_nn v (z 27)
    refine sw_callV (n := 17) F (ct_X4_fails (g := xg x) (l := xl x) o a z (ivP v (z 27)) (by first | omega | assumption)) (rcv_ob F 0 (ci := 3) rfl rfl) q3973 q3975 qs68 q120 q3976 nd_X4_fails rfl (by decide) [0, 1] rfl [aI (xg x) 4 (a 24) 20 Hb] rfl 0 0 ⟨by omega, by omega⟩ [] rfl (Nat.le_of_ble_eq_true rfl) dX4_isBooked_14 rfl (fun _ _ h => h.elim) (fun v Ws h => ?_)
    obtain ⟨rfl, hps_1, rfl⟩ := h
    show SW x [tmO (xg x) o a (va_up z 8 (ivP v (z 27))), aI (xg x) 4 (a 24) 20 Hb] _ _ _ _ [.int (jI (psI (ivP v (z 27))))]
    refine sw_if_ne (n := 20) F (by omega) (tgt := 33) dX4_isBooked_17 (by decide) rfl (fun c_17 => ?_) (fun c_17 => ?_)
    ·
      refine sw_iconst (n := 34) F (0) (by decide) dX4_isBooked_33 rfl ?_
      have e0 : ivP v (z 27) ≠ 0 := by omega
      exact sw_iret F _ rfl (by first | rfl | exact jI_nz (by omega) | exact jI_nc (by omega)) dX4_isBooked_34 (by rw [hPo]; exact ⟨(by rw [if0_n e0]), rfl⟩)
    ·
      have e0 : ivP v (z 27) = 0 := by omega
      obtain hz0 := ivP_0 v (z 27) e0
      have rg0 : 0 ≤ v ∧ v ≤ 19 := by omega
      clear hz0 hcs c_17 hps_1
      refine sw_aload_n (n := 21) F 0 (some o) rfl rfl rfl dX4_isBooked_20 rfl ?_
      refine sw_get (n := 24) F 0 rfl (k := 24) ⟨(RX4, TX4, 50), rfl, by decide, q3823, in_X4, Or.inl rfl⟩ (v := .ref (a 24)) rfl dX4_isBooked_21 rfl ?_
      refine sw_iload_n (n := 25) F 1 rfl rfl dX4_isBooked_24 rfl ?_
      refine sw_zaloadI (n := 26) F 1 rfl (fun _ => rfl) ((v : Int).toNat) (by omega) (by omega) dX4_isBooked_25 rfl ?_
      refine sw_if_eq (n := 29) F (by omega) (tgt := 33) dX4_isBooked_26 (by decide) rfl (fun c_26 => ?_) (fun c_26 => ?_)
      ·
        refine sw_iconst (n := 34) F (0) (by decide) dX4_isBooked_33 rfl ?_
        have e0 : ivP v (z 27) = 0 := by omega
        exact sw_iret F _ rfl (by first | rfl | exact jI_nz (by omega) | exact jI_nc (by omega)) dX4_isBooked_34 (by rw [hPo]; exact ⟨(by rw [if0_p e0]; congr 3; omega), rfl⟩)
      ·
        refine sw_iconst (n := 30) F (1) (by decide) dX4_isBooked_29 rfl ?_
        refine sw_goto F (n := 34) dX4_isBooked_30 (by decide) ?_
        have e0 : ivP v (z 27) = 0 := by omega
        exact sw_iret F _ rfl (by first | rfl | exact jI_nz (by omega) | exact jI_nc (by omega)) dX4_isBooked_34 (by rw [hPo]; exact ⟨(by rw [if0_p e0]; congr 3; omega), rfl⟩)
  refine sw_aload_n (n := 2) F 0 (some o) rfl rfl rfl dX4_isBooked_1 rfl ?_
  refine sw_iload_n (n := 3) F 1 rfl rfl dX4_isBooked_2 rfl ?_
  refine sw_callV (n := 6) F (ct_X4_isInvoice (g := xg x) (l := xl x) o a z v hv hz27) (rcv_ob F 0 (ci := 3) rfl rfl) q4224 q4226 qs95 q120 q4227 nd_X4_isInvoice rfl (by decide) [0, 1] rfl [aI (xg x) 4 (a 24) 20 Hb] rfl 0 0 ⟨by omega, by omega⟩ [.ref o] rfl (Nat.le_of_ble_eq_true rfl) dX4_isBooked_3 rfl (fun _ _ h => h.elim) (fun v Ws h => ?_)
  obtain ⟨rfl, hs_2, rfl⟩ := h
  show SW x [tmO (xg x) o a z, aI (xg x) 4 (a 24) 20 Hb] _ _ _ _ [.int (jI (inI v 0 (z 27 - 1))), .ref o]
  refine sw_if_eq (n := 9) F (by omega) (tgt := 13) dX4_isBooked_6 (by decide) rfl (fun c_6 => ?_) (fun c_6 => ?_)
  ·
    refine sw_iconst (n := 14) F (1) (by decide) dX4_isBooked_13 rfl ?_
    exact K14 1 (by unfold ivP; (repeat' split) <;> omega)
  ·
    refine sw_iconst (n := 10) F (0) (by decide) dX4_isBooked_9 rfl ?_
    refine sw_goto F (n := 14) dX4_isBooked_10 (by decide) ?_
    exact K14 0 (by unfold ivP; (repeat' split) <;> omega)
theorem nd_X4_side : yX4_side.cls ≠ "java/lang/invoke/MethodHandle" ∧ yX4_side.cls ≠ "java/lang/invoke/VarHandle" ∧ (parseMethodDescriptor yX4_side.desc).map (fun d => d.parameters.length) = some 3 := by decide +kernel
set_option maxRecDepth 100000 in
set_option maxHeartbeats 16000000 in
theorem ct_X4_side {g : GG} {l : Launch} (o : Nat) (a : Nat → Nat) (z : Nat → Int) (Lf : Nat → Int) (Rg : Nat → Int) (Mn : Nat → Int) (a9 : Int) (b9 : Int) (l9 : Int) (hLf : BD 0 99 Lf) (hRg : BD 0 99 Rg) (hMn : BD 0 1000000000000 Mn) (ha : -2147483648 ≤ a9 ∧ a9 ≤ 2147483647) (hb : -2147483648 ≤ b9 ∧ b9 ≤ 2147483647) (hl : l9 = 0 ∨ l9 = 1) (hz44 : 0 ≤ z 44 ∧ z 44 ≤ 200) : Ct g l yX4_side (ws_ yX4_side cX4_side 7 (Option.some Jvm.ClassFile.FieldType.long)) 3 57 0 0 [.ref o, .int (jI a9), .int (jI b9), .int (jI l9)] [tmO g o a z, aI g 0 (a 41) 200 Lf, aI g 0 (a 42) 200 Rg, aL g (a 43) 200 Mn] (fun v9 Ws9 => v9 = some (.long (jL (if0 (siP a9 b9) (siS (siF l9 Lf Rg) Mn a9 b9 (z 44).toNat)))) ∧ Ws9 = [tmO g o a (va_up z 8 (siP a9 b9)), aI g 0 (a 41) 200 Lf, aI g 0 (a 42) 200 Rg, aL g (a 43) 200 Mn]) (nox) := by
  refine Ct.of (cc := cX4_side) (nL := 7) (ret := (Option.some Jvm.ClassFile.FieldType.long)) (by decide) rfl (Nat.le_of_ble_eq_true rfl) ?_
  intro x hg hl hPo hPx hmc hms F
  subst hg; subst hl
  refine SW.cast (L' := [(0, .ref o), (1, .int (jI a9)), (2, .int (jI b9)), (3, .int (jI l9))]) ?_ rfl rfl rfl
  refine sw_aload_n (n := 1) F 0 (some o) rfl rfl rfl dX4_side_0 rfl ?_
  have K29 : ∀ (p9 : Int), (p9 = siP a9 b9) → SW x [tmO (xg x) o a z, aI (xg x) 0 (a 41) 200 Lf, aI (xg x) 0 (a 42) 200 Rg, aL (xg x) (a 43) 200 Mn] 0 0 29 [(0, .ref o), (1, .int (jI a9)), (2, .int (jI b9)), (3, .int (jI l9))] [.int (jI p9), .ref o] := by
    intro p9 hpc
    subst hpc
    have hcs := siP_nn a9 b9
    refine sw_callV (n := 32) F (ct_X4_fails (g := xg x) (l := xl x) o a z (siP a9 b9) (by first | omega | assumption)) (rcv_ob F 0 (ci := 3) rfl rfl) q3973 q3975 qs68 q120 q3976 nd_X4_fails rfl (by decide) [0, 1, 2, 3] (perm_ok _ 4 (by decide +kernel) rfl) [aI (xg x) 0 (a 41) 200 Lf, aI (xg x) 0 (a 42) 200 Rg, aL (xg x) (a 43) 200 Mn] rfl 0 0 ⟨by omega, by omega⟩ [] rfl (Nat.le_of_ble_eq_true rfl) dX4_side_29 rfl (fun _ _ h => h.elim) (fun v Ws h => ?_)
    obtain ⟨rfl, hps_1, rfl⟩ := h
    show SW x [tmO (xg x) o a (va_up z 8 (siP a9 b9)), aI (xg x) 0 (a 41) 200 Lf, aI (xg x) 0 (a 42) 200 Rg, aL (xg x) (a 43) 200 Mn] _ _ _ _ [.int (jI (psI (siP a9 b9)))]
    refine sw_if_eq (n := 35) F (by omega) (tgt := 37) dX4_side_32 (by decide) rfl (fun c_32 => ?_) (fun c_32 => ?_)
    ·
      have e0 : siP a9 b9 = 0 := by omega
      obtain ⟨hz0, hz1⟩ := siP_0 a9 b9 e0
      have rg0 : 0 ≤ a9 ∧ a9 ≤ 99 := by omega
      have rg1 : 0 ≤ b9 ∧ b9 ≤ 99 := by omega
      clear hz0 hz1 hcs c_32 hps_1
      refine sw_lconst (n := 38) F 0 (by decide) dX4_side_37 rfl ?_
      refine sw_lstore (n := 40) F (L2 := [(4, .long (jL 0)), (0, .ref o), (1, .int (jI a9)), (2, .int (jI b9)), (3, .int (jI l9))]) rfl (by decide) dX4_side_38 rfl ?_
      refine sw_iconst (n := 41) F (0) (by decide) dX4_side_40 rfl ?_
      refine sw_istore (n := 43) F (L2 := [(6, .int (jI 0)), (4, .long (jL 0)), (0, .ref o), (1, .int (jI a9)), (2, .int (jI b9)), (3, .int (jI l9))]) rfl (by decide) dX4_side_41 rfl ?_
      have K43 : ∀ N43 : Nat, ∀ (k : Nat), ((k : Int) ≤ z 44) → ((201 - k) < N43) → SW x [tmO (xg x) o a (va_up z 8 (siP a9 b9)), aI (xg x) 0 (a 41) 200 Lf, aI (xg x) 0 (a 42) 200 Rg, aL (xg x) (a 43) 200 Mn] 0 0 43 [(0, .ref o), (1, .int (jI a9)), (2, .int (jI b9)), (3, .int (jI l9)), (4, .long (jL (siS (siF l9 Lf Rg) Mn a9 b9 k))), (6, .int (jI (↑k)))] [] := by
        intro N43; induction N43 with
        | zero => intro k hk hmu43; omega
        | succ N43 ih43 =>
          intro k hk hmu43
          have hlf := hLf k
          have hrg := hRg k
          have hmn := hMn k
          refine sw_iload (n := 45) F 5 rfl dX4_side_43 rfl ?_
          refine sw_aload_n (n := 46) F 0 (some o) rfl rfl rfl dX4_side_45 rfl ?_
          refine sw_get (n := 49) F 0 rfl (k := 44) ⟨(RX4, TX4, 50), rfl, by decide, q3843, in_X4, Or.inl rfl⟩ (v := .int (jI (z 44))) rfl dX4_side_46 rfl ?_
          refine sw_icmp_ge (n := 52) F (by omega) (by omega) (tgt := 107) dX4_side_49 (by decide) rfl (fun c_49 => ?_) (fun c_49 => ?_)
          ·
            obtain rfl : k = (z 44).toNat := by omega
            refine sw_lload (n := 109) F 4 rfl dX4_side_107 rfl ?_
            have e0 : siP a9 b9 = 0 := by omega
            exact sw_lret F rfl dX4_side_109 (by rw [hPo]; exact ⟨(by rw [if0_p e0]), rfl⟩)
          ·
            refine sw_lload (n := 54) F 4 rfl dX4_side_52 rfl ?_
            refine sw_iload_n (n := 55) F 3 rfl rfl dX4_side_54 rfl ?_
            refine sw_if_eq (n := 58) F (by omega) (tgt := 69) dX4_side_55 (by decide) rfl (fun c_55 => ?_) (fun c_55 => ?_)
            ·
              have eF : siF l9 Lf Rg k = Rg k := by unfold siF; rw [if_pos (by omega)]
              refine sw_aload_n (n := 70) F 0 (some o) rfl rfl rfl dX4_side_69 rfl ?_
              refine sw_get (n := 73) F 0 rfl (k := 42) ⟨(RX4, TX4, 50), rfl, by decide, q3841, in_X4, Or.inl rfl⟩ (v := .ref (a 42)) rfl dX4_side_70 rfl ?_
              refine sw_iload (n := 75) F 5 rfl dX4_side_73 rfl ?_
              refine sw_ialoadI (n := 76) F 2 rfl (fun _ => rfl) k rfl (by omega) dX4_side_75 rfl ?_
              refine sw_i2l (n := 77) F (by omega) dX4_side_76 rfl ?_
              refine sw_iload_n (n := 78) F 1 rfl rfl dX4_side_77 rfl ?_
              refine sw_i2l (n := 79) F (by omega) dX4_side_78 rfl ?_
              refine sw_iload_n (n := 80) F 2 rfl rfl dX4_side_79 rfl ?_
              refine sw_i2l (n := 81) F (by omega) dX4_side_80 rfl ?_
              refine sw_callS (n := 84) F (ct_X4_in (g := xg x) (l := xl x) (Rg k) a9 b9 (by first | omega | assumption) (by first | omega | assumption) (by first | omega | assumption)) q3963 q3964 q120 q3965 nd_X4_in rfl (by decide) [0, 1, 2, 3] (perm_ok _ 4 (by decide +kernel) rfl) [tmO (xg x) o a (va_up z 8 (siP a9 b9)), aI (xg x) 0 (a 41) 200 Lf, aI (xg x) 0 (a 42) 200 Rg, aL (xg x) (a 43) 200 Mn] rfl 0 0 ⟨by omega, by omega⟩ [.long (jL (siS (siF l9 Lf Rg) Mn a9 b9 k))] rfl (Nat.le_of_ble_eq_true rfl) dX4_side_81 rfl (fun _ _ h => h.elim) (fun v Ws h => ?_)
              obtain ⟨rfl, hs_2, rfl⟩ := h
              show SW x [tmO (xg x) o a (va_up z 8 (siP a9 b9)), aI (xg x) 0 (a 41) 200 Lf, aI (xg x) 0 (a 42) 200 Rg, aL (xg x) (a 43) 200 Mn] _ _ _ _ [.int (jI (inI (Rg k) a9 b9)), .long (jL (siS (siF l9 Lf Rg) Mn a9 b9 k))]
              refine sw_if_eq (n := 87) F (by omega) (tgt := 97) dX4_side_84 (by decide) rfl (fun c_84 => ?_) (fun c_84 => ?_)
              ·
                refine sw_lconst (n := 98) F 0 (by decide) dX4_side_97 rfl ?_
                refine sw_ladd (n := 99) F dX4_side_98 rfl ?_
                have es : siS (siF l9 Lf Rg) Mn a9 b9 (k + 1) = (siS (siF l9 Lf Rg) Mn a9 b9 k) + 0 := by simp only [siS]; rw [if_neg (by rw [eF]; omega)]
                refine SW.cast (st' := [.long (jL (siS (siF l9 Lf Rg) Mn a9 b9 (k + 1)))]) ?_ rfl rfl (by rw [es])
                refine sw_lstore (n := 101) F (L2 := [(4, .long (jL (siS (siF l9 Lf Rg) Mn a9 b9 (k + 1)))), (0, .ref o), (1, .int (jI a9)), (2, .int (jI b9)), (3, .int (jI l9)), (6, .int (jI (↑k)))]) rfl (by decide) dX4_side_99 rfl ?_
                refine sw_iinc (n := 104) F 5 (L2 := [(6, .int (jI (↑k + 1))), (4, .long (jL (siS (siF l9 Lf Rg) Mn a9 b9 (k + 1)))), (0, .ref o), (1, .int (jI a9)), (2, .int (jI b9)), (3, .int (jI l9))]) rfl rfl (by decide) dX4_side_101 rfl ?_
                refine sw_goto F (n := 43) dX4_side_104 (by decide) ?_
                refine sw_loc [2, 3, 4, 5, 1, 0] (L2 := [(0, .ref o), (1, .int (jI a9)), (2, .int (jI b9)), (3, .int (jI l9)), (4, .long (jL (siS (siF l9 Lf Rg) Mn a9 b9 (k + 1)))), (6, .int (jI (↑k + 1)))]) rfl ?_
                rw [show (↑k + 1 : Int) = ↑(k + 1) by omega]
                exact ih43 (k + 1) (by omega) (by omega)
              ·
                refine sw_aload_n (n := 88) F 0 (some o) rfl rfl rfl dX4_side_87 rfl ?_
                refine sw_get (n := 91) F 0 rfl (k := 43) ⟨(RX4, TX4, 50), rfl, by decide, q3842, in_X4, Or.inl rfl⟩ (v := .ref (a 43)) rfl dX4_side_88 rfl ?_
                refine sw_iload (n := 93) F 5 rfl dX4_side_91 rfl ?_
                refine sw_laloadL (n := 94) F 3 rfl (fun _ => rfl) k rfl (by omega) dX4_side_93 rfl ?_
                refine sw_goto F (n := 98) dX4_side_94 (by decide) ?_
                refine sw_ladd (n := 99) F dX4_side_98 rfl ?_
                have es : siS (siF l9 Lf Rg) Mn a9 b9 (k + 1) = (siS (siF l9 Lf Rg) Mn a9 b9 k) + (Mn k) := by simp only [siS]; rw [if_pos (by rw [eF]; omega)]
                refine SW.cast (st' := [.long (jL (siS (siF l9 Lf Rg) Mn a9 b9 (k + 1)))]) ?_ rfl rfl (by rw [es])
                refine sw_lstore (n := 101) F (L2 := [(4, .long (jL (siS (siF l9 Lf Rg) Mn a9 b9 (k + 1)))), (0, .ref o), (1, .int (jI a9)), (2, .int (jI b9)), (3, .int (jI l9)), (6, .int (jI (↑k)))]) rfl (by decide) dX4_side_99 rfl ?_
                refine sw_iinc (n := 104) F 5 (L2 := [(6, .int (jI (↑k + 1))), (4, .long (jL (siS (siF l9 Lf Rg) Mn a9 b9 (k + 1)))), (0, .ref o), (1, .int (jI a9)), (2, .int (jI b9)), (3, .int (jI l9))]) rfl rfl (by decide) dX4_side_101 rfl ?_
                refine sw_goto F (n := 43) dX4_side_104 (by decide) ?_
                refine sw_loc [2, 3, 4, 5, 1, 0] (L2 := [(0, .ref o), (1, .int (jI a9)), (2, .int (jI b9)), (3, .int (jI l9)), (4, .long (jL (siS (siF l9 Lf Rg) Mn a9 b9 (k + 1)))), (6, .int (jI (↑k + 1)))]) rfl ?_
                rw [show (↑k + 1 : Int) = ↑(k + 1) by omega]
                exact ih43 (k + 1) (by omega) (by omega)
            ·
              have eF : siF l9 Lf Rg k = Lf k := by unfold siF; rw [if_neg (by omega)]
              refine sw_aload_n (n := 59) F 0 (some o) rfl rfl rfl dX4_side_58 rfl ?_
              refine sw_get (n := 62) F 0 rfl (k := 41) ⟨(RX4, TX4, 50), rfl, by decide, q3840, in_X4, Or.inl rfl⟩ (v := .ref (a 41)) rfl dX4_side_59 rfl ?_
              refine sw_iload (n := 64) F 5 rfl dX4_side_62 rfl ?_
              refine sw_ialoadI (n := 65) F 1 rfl (fun _ => rfl) k rfl (by omega) dX4_side_64 rfl ?_
              refine sw_i2l (n := 66) F (by omega) dX4_side_65 rfl ?_
              refine sw_goto F (n := 77) dX4_side_66 (by decide) ?_
              refine sw_iload_n (n := 78) F 1 rfl rfl dX4_side_77 rfl ?_
              refine sw_i2l (n := 79) F (by omega) dX4_side_78 rfl ?_
              refine sw_iload_n (n := 80) F 2 rfl rfl dX4_side_79 rfl ?_
              refine sw_i2l (n := 81) F (by omega) dX4_side_80 rfl ?_
              refine sw_callS (n := 84) F (ct_X4_in (g := xg x) (l := xl x) (Lf k) a9 b9 (by first | omega | assumption) (by first | omega | assumption) (by first | omega | assumption)) q3963 q3964 q120 q3965 nd_X4_in rfl (by decide) [0, 1, 2, 3] (perm_ok _ 4 (by decide +kernel) rfl) [tmO (xg x) o a (va_up z 8 (siP a9 b9)), aI (xg x) 0 (a 41) 200 Lf, aI (xg x) 0 (a 42) 200 Rg, aL (xg x) (a 43) 200 Mn] rfl 0 0 ⟨by omega, by omega⟩ [.long (jL (siS (siF l9 Lf Rg) Mn a9 b9 k))] rfl (Nat.le_of_ble_eq_true rfl) dX4_side_81 rfl (fun _ _ h => h.elim) (fun v Ws h => ?_)
              obtain ⟨rfl, hs_3, rfl⟩ := h
              show SW x [tmO (xg x) o a (va_up z 8 (siP a9 b9)), aI (xg x) 0 (a 41) 200 Lf, aI (xg x) 0 (a 42) 200 Rg, aL (xg x) (a 43) 200 Mn] _ _ _ _ [.int (jI (inI (Lf k) a9 b9)), .long (jL (siS (siF l9 Lf Rg) Mn a9 b9 k))]
              refine sw_if_eq (n := 87) F (by omega) (tgt := 97) dX4_side_84 (by decide) rfl (fun c_84 => ?_) (fun c_84 => ?_)
              ·
                refine sw_lconst (n := 98) F 0 (by decide) dX4_side_97 rfl ?_
                refine sw_ladd (n := 99) F dX4_side_98 rfl ?_
                have es : siS (siF l9 Lf Rg) Mn a9 b9 (k + 1) = (siS (siF l9 Lf Rg) Mn a9 b9 k) + 0 := by simp only [siS]; rw [if_neg (by rw [eF]; omega)]
                refine SW.cast (st' := [.long (jL (siS (siF l9 Lf Rg) Mn a9 b9 (k + 1)))]) ?_ rfl rfl (by rw [es])
                refine sw_lstore (n := 101) F (L2 := [(4, .long (jL (siS (siF l9 Lf Rg) Mn a9 b9 (k + 1)))), (0, .ref o), (1, .int (jI a9)), (2, .int (jI b9)), (3, .int (jI l9)), (6, .int (jI (↑k)))]) rfl (by decide) dX4_side_99 rfl ?_
                refine sw_iinc (n := 104) F 5 (L2 := [(6, .int (jI (↑k + 1))), (4, .long (jL (siS (siF l9 Lf Rg) Mn a9 b9 (k + 1)))), (0, .ref o), (1, .int (jI a9)), (2, .int (jI b9)), (3, .int (jI l9))]) rfl rfl (by decide) dX4_side_101 rfl ?_
                refine sw_goto F (n := 43) dX4_side_104 (by decide) ?_
                refine sw_loc [2, 3, 4, 5, 1, 0] (L2 := [(0, .ref o), (1, .int (jI a9)), (2, .int (jI b9)), (3, .int (jI l9)), (4, .long (jL (siS (siF l9 Lf Rg) Mn a9 b9 (k + 1)))), (6, .int (jI (↑k + 1)))]) rfl ?_
                rw [show (↑k + 1 : Int) = ↑(k + 1) by omega]
                exact ih43 (k + 1) (by omega) (by omega)
              ·
                refine sw_aload_n (n := 88) F 0 (some o) rfl rfl rfl dX4_side_87 rfl ?_
                refine sw_get (n := 91) F 0 rfl (k := 43) ⟨(RX4, TX4, 50), rfl, by decide, q3842, in_X4, Or.inl rfl⟩ (v := .ref (a 43)) rfl dX4_side_88 rfl ?_
                refine sw_iload (n := 93) F 5 rfl dX4_side_91 rfl ?_
                refine sw_laloadL (n := 94) F 3 rfl (fun _ => rfl) k rfl (by omega) dX4_side_93 rfl ?_
                refine sw_goto F (n := 98) dX4_side_94 (by decide) ?_
                refine sw_ladd (n := 99) F dX4_side_98 rfl ?_
                have es : siS (siF l9 Lf Rg) Mn a9 b9 (k + 1) = (siS (siF l9 Lf Rg) Mn a9 b9 k) + (Mn k) := by simp only [siS]; rw [if_pos (by rw [eF]; omega)]
                refine SW.cast (st' := [.long (jL (siS (siF l9 Lf Rg) Mn a9 b9 (k + 1)))]) ?_ rfl rfl (by rw [es])
                refine sw_lstore (n := 101) F (L2 := [(4, .long (jL (siS (siF l9 Lf Rg) Mn a9 b9 (k + 1)))), (0, .ref o), (1, .int (jI a9)), (2, .int (jI b9)), (3, .int (jI l9)), (6, .int (jI (↑k)))]) rfl (by decide) dX4_side_99 rfl ?_
                refine sw_iinc (n := 104) F 5 (L2 := [(6, .int (jI (↑k + 1))), (4, .long (jL (siS (siF l9 Lf Rg) Mn a9 b9 (k + 1)))), (0, .ref o), (1, .int (jI a9)), (2, .int (jI b9)), (3, .int (jI l9))]) rfl rfl (by decide) dX4_side_101 rfl ?_
                refine sw_goto F (n := 43) dX4_side_104 (by decide) ?_
                refine sw_loc [2, 3, 4, 5, 1, 0] (L2 := [(0, .ref o), (1, .int (jI a9)), (2, .int (jI b9)), (3, .int (jI l9)), (4, .long (jL (siS (siF l9 Lf Rg) Mn a9 b9 (k + 1)))), (6, .int (jI (↑k + 1)))]) rfl ?_
                rw [show (↑k + 1 : Int) = ↑(k + 1) by omega]
                exact ih43 (k + 1) (by omega) (by omega)
      refine sw_loc [2, 3, 4, 5, 1, 0] (L2 := [(0, .ref o), (1, .int (jI a9)), (2, .int (jI b9)), (3, .int (jI l9)), (4, .long (jL 0)), (6, .int (jI 0))]) rfl ?_
      show SW x _ _ _ _ [(0, .ref o), (1, .int (jI a9)), (2, .int (jI b9)), (3, .int (jI l9)), (4, .long (jL (siS (siF l9 Lf Rg) Mn a9 b9 0))), (6, .int (jI 0))] _
      exact K43 _ 0 (by omega) (Nat.lt_succ_self _)
    ·
      refine sw_lconst (n := 36) F 0 (by decide) dX4_side_35 rfl ?_
      have e0 : siP a9 b9 ≠ 0 := by omega
      exact sw_lret F rfl dX4_side_36 (by rw [hPo]; exact ⟨(by rw [if0_n e0]), rfl⟩)
  refine sw_iload_n (n := 2) F 1 rfl rfl dX4_side_1 rfl ?_
  refine sw_callS (n := 5) F (ct_X4_isAccount (g := xg x) (l := xl x) a9 (by omega)) q4297 q4298 q120 q4299 nd_X4_isAccount rfl (by decide) [0, 1, 2, 3] (perm_ok _ 4 (by decide +kernel) rfl) [tmO (xg x) o a z, aI (xg x) 0 (a 41) 200 Lf, aI (xg x) 0 (a 42) 200 Rg, aL (xg x) (a 43) 200 Mn] rfl 0 0 ⟨by omega, by omega⟩ [.ref o] rfl (Nat.le_of_ble_eq_true rfl) dX4_side_2 rfl (fun _ _ h => h.elim) (fun v Ws h => ?_)
  obtain ⟨rfl, hs_4, rfl⟩ := h
  show SW x [tmO (xg x) o a z, aI (xg x) 0 (a 41) 200 Lf, aI (xg x) 0 (a 42) 200 Rg, aL (xg x) (a 43) 200 Mn] _ _ _ _ [.int (jI (inI a9 0 99)), .ref o]
  refine sw_if_eq (n := 8) F (by omega) (tgt := 15) dX4_side_5 (by decide) rfl (fun c_5 => ?_) (fun c_5 => ?_)
  ·
    refine sw_iconst (n := 16) F (1) (by decide) dX4_side_15 rfl ?_
    refine sw_goto F (n := 29) dX4_side_16 (by decide) ?_
    exact K29 1 (by unfold siP; (repeat' split) <;> omega)
  ·
    refine sw_iload_n (n := 9) F 2 rfl rfl dX4_side_8 rfl ?_
    refine sw_callS (n := 12) F (ct_X4_isAccount (g := xg x) (l := xl x) b9 (by omega)) q4297 q4298 q120 q4299 nd_X4_isAccount rfl (by decide) [0, 1, 2, 3] (perm_ok _ 4 (by decide +kernel) rfl) [tmO (xg x) o a z, aI (xg x) 0 (a 41) 200 Lf, aI (xg x) 0 (a 42) 200 Rg, aL (xg x) (a 43) 200 Mn] rfl 0 0 ⟨by omega, by omega⟩ [.ref o] rfl (Nat.le_of_ble_eq_true rfl) dX4_side_9 rfl (fun _ _ h => h.elim) (fun v Ws h => ?_)
    obtain ⟨rfl, hs_5, rfl⟩ := h
    show SW x [tmO (xg x) o a z, aI (xg x) 0 (a 41) 200 Lf, aI (xg x) 0 (a 42) 200 Rg, aL (xg x) (a 43) 200 Mn] _ _ _ _ [.int (jI (inI b9 0 99)), .ref o]
    refine sw_if_ne (n := 15) F (by omega) (tgt := 19) dX4_side_12 (by decide) rfl (fun c_12 => ?_) (fun c_12 => ?_)
    ·
      refine sw_iload_n (n := 20) F 2 rfl rfl dX4_side_19 rfl ?_
      refine sw_iload_n (n := 21) F 1 rfl rfl dX4_side_20 rfl ?_
      refine sw_icmp_ge (n := 24) F (by omega) (by omega) (tgt := 28) dX4_side_21 (by decide) rfl (fun c_21 => ?_) (fun c_21 => ?_)
      ·
        refine sw_iconst (n := 29) F (0) (by decide) dX4_side_28 rfl ?_
        exact K29 0 (by unfold siP; (repeat' split) <;> omega)
      ·
        refine sw_iconst (n := 25) F (2) (by decide) dX4_side_24 rfl ?_
        refine sw_goto F (n := 29) dX4_side_25 (by decide) ?_
        exact K29 2 (by unfold siP; (repeat' split) <;> omega)
    ·
      refine sw_iconst (n := 16) F (1) (by decide) dX4_side_15 rfl ?_
      refine sw_goto F (n := 29) dX4_side_16 (by decide) ?_
      exact K29 1 (by unfold siP; (repeat' split) <;> omega)
theorem nd_X4_nextAccount : yX4_nextAccount.cls ≠ "java/lang/invoke/MethodHandle" ∧ yX4_nextAccount.cls ≠ "java/lang/invoke/VarHandle" ∧ (parseMethodDescriptor yX4_nextAccount.desc).map (fun d => d.parameters.length) = some 1 := by decide +kernel
set_option maxRecDepth 100000 in
set_option maxHeartbeats 16000000 in
theorem ct_X4_nextAccount {g : GG} {l : Launch} (o : Nat) (a : Nat → Nat) (z : Nat → Int) (Lf : Nat → Int) (Rg : Nat → Int) (a9 : Int) (hLf : BD 0 99 Lf) (hRg : BD 0 99 Rg) (ha : -2147483648 ≤ a9 ∧ a9 ≤ 2147483647) (hz44 : 0 ≤ z 44 ∧ z 44 ≤ 200) : Ct g l yX4_nextAccount (ws_ yX4_nextAccount cX4_nextAccount 4 (Option.some Jvm.ClassFile.FieldType.int)) 2 33 0 0 [.ref o, .int (jI a9)] [tmO g o a z, aI g 0 (a 41) 200 Lf, aI g 0 (a 42) 200 Rg] (fun v9 Ws9 => v9 = some (.int (jI (if0 (naP (naB Lf Rg a9 (z 44).toNat)) (naB Lf Rg a9 (z 44).toNat)))) ∧ Ws9 = [tmO g o a (va_up z 8 (naP (naB Lf Rg a9 (z 44).toNat))), aI g 0 (a 41) 200 Lf, aI g 0 (a 42) 200 Rg]) (nox) := by
  refine Ct.of (cc := cX4_nextAccount) (nL := 4) (ret := (Option.some Jvm.ClassFile.FieldType.int)) (by decide) rfl (Nat.le_of_ble_eq_true rfl) ?_
  intro x hg hl hPo hPx hmc hms F
  subst hg; subst hl
  refine SW.cast (L' := [(0, .ref o), (1, .int (jI a9))]) ?_ rfl rfl rfl
  refine sw_bipush (n := 2) F (100) (by decide) dX4_nextAccount_0 rfl ?_
  refine sw_istore_n (n := 3) F (L2 := [(2, .int (jI 100)), (0, .ref o), (1, .int (jI a9))]) rfl (by decide) rfl dX4_nextAccount_2 rfl ?_
  refine sw_iconst (n := 4) F (0) (by decide) dX4_nextAccount_3 rfl ?_
  refine sw_istore_n (n := 5) F (L2 := [(3, .int (jI 0)), (2, .int (jI 100)), (0, .ref o), (1, .int (jI a9))]) rfl (by decide) rfl dX4_nextAccount_4 rfl ?_
  have K5 : ∀ N5 : Nat, ∀ (k : Nat), ((k : Int) ≤ z 44) → ((201 - k) < N5) → SW x [tmO (xg x) o a z, aI (xg x) 0 (a 41) 200 Lf, aI (xg x) 0 (a 42) 200 Rg] 0 0 5 [(0, .ref o), (1, .int (jI a9)), (2, .int (jI (naB Lf Rg a9 k))), (3, .int (jI (↑k)))] [] := by
    intro N5; induction N5 with
    | zero => intro k hk hmu5; omega
    | succ N5 ih5 =>
      intro k hk hmu5
      have hlf := hLf k
      have hrg := hRg k
      have hnb := naB_rng (a := a9) hLf hRg k
      refine sw_iload_n (n := 6) F 3 rfl rfl dX4_nextAccount_5 rfl ?_
      refine sw_aload_n (n := 7) F 0 (some o) rfl rfl rfl dX4_nextAccount_6 rfl ?_
      refine sw_get (n := 10) F 0 rfl (k := 44) ⟨(RX4, TX4, 50), rfl, by decide, q3843, in_X4, Or.inl rfl⟩ (v := .int (jI (z 44))) rfl dX4_nextAccount_7 rfl ?_
      refine sw_icmp_ge (n := 13) F (by omega) (by omega) (tgt := 81) dX4_nextAccount_10 (by decide) rfl (fun c_10 => ?_) (fun c_10 => ?_)
      ·
        obtain rfl : k = (z 44).toNat := by omega
        refine sw_aload_n (n := 82) F 0 (some o) rfl rfl rfl dX4_nextAccount_81 rfl ?_
        refine sw_iload_n (n := 83) F 2 rfl rfl dX4_nextAccount_82 rfl ?_
        refine sw_bipush (n := 85) F (100) (by decide) dX4_nextAccount_83 rfl ?_
        refine sw_icmp_ne (n := 88) F (by omega) (by decide) (tgt := 92) dX4_nextAccount_85 (by decide) rfl (fun c_85 => ?_) (fun c_85 => ?_)
        ·
          refine sw_iconst (n := 93) F (0) (by decide) dX4_nextAccount_92 rfl ?_
          refine sw_callV (n := 96) F (ct_X4_fails (g := xg x) (l := xl x) o a z 0 (by first | omega | assumption)) (rcv_ob F 0 (ci := 3) rfl rfl) q3973 q3975 qs68 q120 q3976 nd_X4_fails rfl (by decide) [0, 1, 2] rfl [aI (xg x) 0 (a 41) 200 Lf, aI (xg x) 0 (a 42) 200 Rg] rfl 0 0 ⟨by omega, by omega⟩ [] rfl (Nat.le_of_ble_eq_true rfl) dX4_nextAccount_93 rfl (fun _ _ h => h.elim) (fun v Ws h => ?_)
          obtain ⟨rfl, hps_1, rfl⟩ := h
          show SW x [tmO (xg x) o a (va_up z 8 0), aI (xg x) 0 (a 41) 200 Lf, aI (xg x) 0 (a 42) 200 Rg] _ _ _ _ [.int (jI 0)]
          refine sw_if_eq (n := 99) F (by decide) (tgt := 103) dX4_nextAccount_96 (by decide) rfl (fun c_96 => ?_) (fun c_96 => ?_)
          ·
            refine sw_iload_n (n := 104) F 2 rfl rfl dX4_nextAccount_103 rfl ?_
            have e0 : naP (naB Lf Rg a9 (z 44).toNat) = 0 := by have h9 := naP_c (naB Lf Rg a9 (z 44).toNat); omega
            exact sw_iret F _ rfl (by first | rfl | exact jI_nz (by omega) | exact jI_nc (by omega)) dX4_nextAccount_104 (by rw [hPo]; exact ⟨(by rw [e0]; rfl), (by rw [e0])⟩)
          · exfalso; exact absurd c_96 (by decide)
        ·
          refine sw_iconst (n := 89) F (1) (by decide) dX4_nextAccount_88 rfl ?_
          refine sw_goto F (n := 93) dX4_nextAccount_89 (by decide) ?_
          refine sw_callV (n := 96) F (ct_X4_fails (g := xg x) (l := xl x) o a z 1 (by first | omega | assumption)) (rcv_ob F 0 (ci := 3) rfl rfl) q3973 q3975 qs68 q120 q3976 nd_X4_fails rfl (by decide) [0, 1, 2] rfl [aI (xg x) 0 (a 41) 200 Lf, aI (xg x) 0 (a 42) 200 Rg] rfl 0 0 ⟨by omega, by omega⟩ [] rfl (Nat.le_of_ble_eq_true rfl) dX4_nextAccount_93 rfl (fun _ _ h => h.elim) (fun v Ws h => ?_)
          obtain ⟨rfl, hps_2, rfl⟩ := h
          show SW x [tmO (xg x) o a (va_up z 8 1), aI (xg x) 0 (a 41) 200 Lf, aI (xg x) 0 (a 42) 200 Rg] _ _ _ _ [.int (jI 1)]
          refine sw_if_eq (n := 99) F (by decide) (tgt := 103) dX4_nextAccount_96 (by decide) rfl (fun c_96 => ?_) (fun c_96 => ?_)
          · exfalso; exact absurd c_96 (by decide)
          ·
            refine sw_iconst (n := 100) F (0) (by decide) dX4_nextAccount_99 rfl ?_
            refine sw_goto F (n := 104) dX4_nextAccount_100 (by decide) ?_
            have e0 : naP (naB Lf Rg a9 (z 44).toNat) = 1 := by have h9 := naP_c (naB Lf Rg a9 (z 44).toNat); omega
            exact sw_iret F _ rfl (by first | rfl | exact jI_nz (by omega) | exact jI_nc (by omega)) dX4_nextAccount_104 (by rw [hPo]; exact ⟨(by rw [e0]; rfl), (by rw [e0])⟩)
      ·
        refine sw_aload_n (n := 14) F 0 (some o) rfl rfl rfl dX4_nextAccount_13 rfl ?_
        refine sw_get (n := 17) F 0 rfl (k := 41) ⟨(RX4, TX4, 50), rfl, by decide, q3840, in_X4, Or.inl rfl⟩ (v := .ref (a 41)) rfl dX4_nextAccount_14 rfl ?_
        refine sw_iload_n (n := 18) F 3 rfl rfl dX4_nextAccount_17 rfl ?_
        refine sw_ialoadI (n := 19) F 1 rfl (fun _ => rfl) k rfl (by omega) dX4_nextAccount_18 rfl ?_
        refine sw_iload_n (n := 20) F 1 rfl rfl dX4_nextAccount_19 rfl ?_
        refine sw_icmp_le (n := 23) F (by omega) (by omega) (tgt := 42) dX4_nextAccount_20 (by decide) rfl (fun c_20 => ?_) (fun c_20 => ?_)
        ·
          refine sw_iload_n (n := 43) F 2 rfl rfl dX4_nextAccount_42 rfl ?_
          refine sw_istore_n (n := 44) F (L2 := [(2, .int (jI (naB Lf Rg a9 k))), (0, .ref o), (1, .int (jI a9)), (3, .int (jI (↑k)))]) rfl (by decide) rfl dX4_nextAccount_43 rfl ?_
          refine sw_aload_n (n := 45) F 1 (some o) rfl rfl rfl dX4_nextAccount_44 rfl ?_
          refine sw_get (n := 48) F 0 rfl (k := 42) ⟨(RX4, TX4, 50), rfl, by decide, q3841, in_X4, Or.inl rfl⟩ (v := .ref (a 42)) rfl dX4_nextAccount_45 rfl ?_
          refine sw_iload_n (n := 49) F 3 rfl rfl dX4_nextAccount_48 rfl ?_
          refine sw_ialoadI (n := 50) F 2 rfl (fun _ => rfl) k rfl (by omega) dX4_nextAccount_49 rfl ?_
          refine sw_iload_n (n := 51) F 2 rfl rfl dX4_nextAccount_50 rfl ?_
          refine sw_icmp_le (n := 54) F (by omega) (by omega) (tgt := 73) dX4_nextAccount_51 (by decide) rfl (fun c_51 => ?_) (fun c_51 => ?_)
          ·
            refine sw_iload_n (n := 74) F 0 rfl rfl dX4_nextAccount_73 rfl ?_
            refine sw_istore_n (n := 75) F (L2 := [(2, .int (jI (naB Lf Rg a9 k))), (0, .ref o), (1, .int (jI a9)), (3, .int (jI (↑k)))]) rfl (by decide) rfl dX4_nextAccount_74 rfl ?_
            have es : naB Lf Rg a9 (k + 1) = naB Lf Rg a9 k := by simp only [naB]; (repeat' split) <;> omega
            refine SW.cast (L' := [(2, .int (jI (naB Lf Rg a9 (k + 1)))), (0, .ref o), (1, .int (jI a9)), (3, .int (jI (↑k)))]) ?_ rfl (by rw [es]) rfl
            refine sw_iinc (n := 78) F 3 (L2 := [(3, .int (jI (↑k + 1))), (2, .int (jI (naB Lf Rg a9 (k + 1)))), (0, .ref o), (1, .int (jI a9))]) rfl rfl (by decide) dX4_nextAccount_75 rfl ?_
            refine sw_goto F (n := 5) dX4_nextAccount_78 (by decide) ?_
            refine sw_loc [2, 3, 1, 0] (L2 := [(0, .ref o), (1, .int (jI a9)), (2, .int (jI (naB Lf Rg a9 (k + 1)))), (3, .int (jI (↑k + 1)))]) rfl ?_
            rw [show (↑k + 1 : Int) = ↑(k + 1) by omega]
            exact ih5 (k + 1) (by omega) (by omega)
          ·
            refine sw_aload_n (n := 55) F 1 (some o) rfl rfl rfl dX4_nextAccount_54 rfl ?_
            refine sw_get (n := 58) F 0 rfl (k := 42) ⟨(RX4, TX4, 50), rfl, by decide, q3841, in_X4, Or.inl rfl⟩ (v := .ref (a 42)) rfl dX4_nextAccount_55 rfl ?_
            refine sw_iload_n (n := 59) F 3 rfl rfl dX4_nextAccount_58 rfl ?_
            refine sw_ialoadI (n := 60) F 2 rfl (fun _ => rfl) k rfl (by omega) dX4_nextAccount_59 rfl ?_
            refine sw_iload_n (n := 61) F 0 rfl rfl dX4_nextAccount_60 rfl ?_
            refine sw_icmp_ge (n := 64) F (by omega) (by omega) (tgt := 73) dX4_nextAccount_61 (by decide) rfl (fun c_61 => ?_) (fun c_61 => ?_)
            ·
              refine sw_iload_n (n := 74) F 0 rfl rfl dX4_nextAccount_73 rfl ?_
              refine sw_istore_n (n := 75) F (L2 := [(2, .int (jI (naB Lf Rg a9 k))), (0, .ref o), (1, .int (jI a9)), (3, .int (jI (↑k)))]) rfl (by decide) rfl dX4_nextAccount_74 rfl ?_
              have es : naB Lf Rg a9 (k + 1) = naB Lf Rg a9 k := by simp only [naB]; (repeat' split) <;> omega
              refine SW.cast (L' := [(2, .int (jI (naB Lf Rg a9 (k + 1)))), (0, .ref o), (1, .int (jI a9)), (3, .int (jI (↑k)))]) ?_ rfl (by rw [es]) rfl
              refine sw_iinc (n := 78) F 3 (L2 := [(3, .int (jI (↑k + 1))), (2, .int (jI (naB Lf Rg a9 (k + 1)))), (0, .ref o), (1, .int (jI a9))]) rfl rfl (by decide) dX4_nextAccount_75 rfl ?_
              refine sw_goto F (n := 5) dX4_nextAccount_78 (by decide) ?_
              refine sw_loc [2, 3, 1, 0] (L2 := [(0, .ref o), (1, .int (jI a9)), (2, .int (jI (naB Lf Rg a9 (k + 1)))), (3, .int (jI (↑k + 1)))]) rfl ?_
              rw [show (↑k + 1 : Int) = ↑(k + 1) by omega]
              exact ih5 (k + 1) (by omega) (by omega)
            ·
              refine sw_aload_n (n := 65) F 1 (some o) rfl rfl rfl dX4_nextAccount_64 rfl ?_
              refine sw_get (n := 68) F 0 rfl (k := 42) ⟨(RX4, TX4, 50), rfl, by decide, q3841, in_X4, Or.inl rfl⟩ (v := .ref (a 42)) rfl dX4_nextAccount_65 rfl ?_
              refine sw_iload_n (n := 69) F 3 rfl rfl dX4_nextAccount_68 rfl ?_
              refine sw_ialoadI (n := 70) F 2 rfl (fun _ => rfl) k rfl (by omega) dX4_nextAccount_69 rfl ?_
              refine sw_goto F (n := 74) dX4_nextAccount_70 (by decide) ?_
              refine sw_istore_n (n := 75) F (L2 := [(2, .int (jI (Rg k))), (0, .ref o), (1, .int (jI a9)), (3, .int (jI (↑k)))]) rfl (by decide) rfl dX4_nextAccount_74 rfl ?_
              have es : naB Lf Rg a9 (k + 1) = Rg k := by simp only [naB]; (repeat' split) <;> omega
              refine SW.cast (L' := [(2, .int (jI (naB Lf Rg a9 (k + 1)))), (0, .ref o), (1, .int (jI a9)), (3, .int (jI (↑k)))]) ?_ rfl (by rw [es]) rfl
              refine sw_iinc (n := 78) F 3 (L2 := [(3, .int (jI (↑k + 1))), (2, .int (jI (naB Lf Rg a9 (k + 1)))), (0, .ref o), (1, .int (jI a9))]) rfl rfl (by decide) dX4_nextAccount_75 rfl ?_
              refine sw_goto F (n := 5) dX4_nextAccount_78 (by decide) ?_
              refine sw_loc [2, 3, 1, 0] (L2 := [(0, .ref o), (1, .int (jI a9)), (2, .int (jI (naB Lf Rg a9 (k + 1)))), (3, .int (jI (↑k + 1)))]) rfl ?_
              rw [show (↑k + 1 : Int) = ↑(k + 1) by omega]
              exact ih5 (k + 1) (by omega) (by omega)
        ·
          refine sw_aload_n (n := 24) F 0 (some o) rfl rfl rfl dX4_nextAccount_23 rfl ?_
          refine sw_get (n := 27) F 0 rfl (k := 41) ⟨(RX4, TX4, 50), rfl, by decide, q3840, in_X4, Or.inl rfl⟩ (v := .ref (a 41)) rfl dX4_nextAccount_24 rfl ?_
          refine sw_iload_n (n := 28) F 3 rfl rfl dX4_nextAccount_27 rfl ?_
          refine sw_ialoadI (n := 29) F 1 rfl (fun _ => rfl) k rfl (by omega) dX4_nextAccount_28 rfl ?_
          refine sw_iload_n (n := 30) F 2 rfl rfl dX4_nextAccount_29 rfl ?_
          refine sw_icmp_ge (n := 33) F (by omega) (by omega) (tgt := 42) dX4_nextAccount_30 (by decide) rfl (fun c_30 => ?_) (fun c_30 => ?_)
          ·
            refine sw_iload_n (n := 43) F 2 rfl rfl dX4_nextAccount_42 rfl ?_
            refine sw_istore_n (n := 44) F (L2 := [(2, .int (jI (naB Lf Rg a9 k))), (0, .ref o), (1, .int (jI a9)), (3, .int (jI (↑k)))]) rfl (by decide) rfl dX4_nextAccount_43 rfl ?_
            refine sw_aload_n (n := 45) F 1 (some o) rfl rfl rfl dX4_nextAccount_44 rfl ?_
            refine sw_get (n := 48) F 0 rfl (k := 42) ⟨(RX4, TX4, 50), rfl, by decide, q3841, in_X4, Or.inl rfl⟩ (v := .ref (a 42)) rfl dX4_nextAccount_45 rfl ?_
            refine sw_iload_n (n := 49) F 3 rfl rfl dX4_nextAccount_48 rfl ?_
            refine sw_ialoadI (n := 50) F 2 rfl (fun _ => rfl) k rfl (by omega) dX4_nextAccount_49 rfl ?_
            refine sw_iload_n (n := 51) F 2 rfl rfl dX4_nextAccount_50 rfl ?_
            refine sw_icmp_le (n := 54) F (by omega) (by omega) (tgt := 73) dX4_nextAccount_51 (by decide) rfl (fun c_51 => ?_) (fun c_51 => ?_)
            ·
              refine sw_iload_n (n := 74) F 0 rfl rfl dX4_nextAccount_73 rfl ?_
              refine sw_istore_n (n := 75) F (L2 := [(2, .int (jI (naB Lf Rg a9 k))), (0, .ref o), (1, .int (jI a9)), (3, .int (jI (↑k)))]) rfl (by decide) rfl dX4_nextAccount_74 rfl ?_
              have es : naB Lf Rg a9 (k + 1) = naB Lf Rg a9 k := by simp only [naB]; (repeat' split) <;> omega
              refine SW.cast (L' := [(2, .int (jI (naB Lf Rg a9 (k + 1)))), (0, .ref o), (1, .int (jI a9)), (3, .int (jI (↑k)))]) ?_ rfl (by rw [es]) rfl
              refine sw_iinc (n := 78) F 3 (L2 := [(3, .int (jI (↑k + 1))), (2, .int (jI (naB Lf Rg a9 (k + 1)))), (0, .ref o), (1, .int (jI a9))]) rfl rfl (by decide) dX4_nextAccount_75 rfl ?_
              refine sw_goto F (n := 5) dX4_nextAccount_78 (by decide) ?_
              refine sw_loc [2, 3, 1, 0] (L2 := [(0, .ref o), (1, .int (jI a9)), (2, .int (jI (naB Lf Rg a9 (k + 1)))), (3, .int (jI (↑k + 1)))]) rfl ?_
              rw [show (↑k + 1 : Int) = ↑(k + 1) by omega]
              exact ih5 (k + 1) (by omega) (by omega)
            ·
              refine sw_aload_n (n := 55) F 1 (some o) rfl rfl rfl dX4_nextAccount_54 rfl ?_
              refine sw_get (n := 58) F 0 rfl (k := 42) ⟨(RX4, TX4, 50), rfl, by decide, q3841, in_X4, Or.inl rfl⟩ (v := .ref (a 42)) rfl dX4_nextAccount_55 rfl ?_
              refine sw_iload_n (n := 59) F 3 rfl rfl dX4_nextAccount_58 rfl ?_
              refine sw_ialoadI (n := 60) F 2 rfl (fun _ => rfl) k rfl (by omega) dX4_nextAccount_59 rfl ?_
              refine sw_iload_n (n := 61) F 0 rfl rfl dX4_nextAccount_60 rfl ?_
              refine sw_icmp_ge (n := 64) F (by omega) (by omega) (tgt := 73) dX4_nextAccount_61 (by decide) rfl (fun c_61 => ?_) (fun c_61 => ?_)
              ·
                refine sw_iload_n (n := 74) F 0 rfl rfl dX4_nextAccount_73 rfl ?_
                refine sw_istore_n (n := 75) F (L2 := [(2, .int (jI (naB Lf Rg a9 k))), (0, .ref o), (1, .int (jI a9)), (3, .int (jI (↑k)))]) rfl (by decide) rfl dX4_nextAccount_74 rfl ?_
                have es : naB Lf Rg a9 (k + 1) = naB Lf Rg a9 k := by simp only [naB]; (repeat' split) <;> omega
                refine SW.cast (L' := [(2, .int (jI (naB Lf Rg a9 (k + 1)))), (0, .ref o), (1, .int (jI a9)), (3, .int (jI (↑k)))]) ?_ rfl (by rw [es]) rfl
                refine sw_iinc (n := 78) F 3 (L2 := [(3, .int (jI (↑k + 1))), (2, .int (jI (naB Lf Rg a9 (k + 1)))), (0, .ref o), (1, .int (jI a9))]) rfl rfl (by decide) dX4_nextAccount_75 rfl ?_
                refine sw_goto F (n := 5) dX4_nextAccount_78 (by decide) ?_
                refine sw_loc [2, 3, 1, 0] (L2 := [(0, .ref o), (1, .int (jI a9)), (2, .int (jI (naB Lf Rg a9 (k + 1)))), (3, .int (jI (↑k + 1)))]) rfl ?_
                rw [show (↑k + 1 : Int) = ↑(k + 1) by omega]
                exact ih5 (k + 1) (by omega) (by omega)
              ·
                refine sw_aload_n (n := 65) F 1 (some o) rfl rfl rfl dX4_nextAccount_64 rfl ?_
                refine sw_get (n := 68) F 0 rfl (k := 42) ⟨(RX4, TX4, 50), rfl, by decide, q3841, in_X4, Or.inl rfl⟩ (v := .ref (a 42)) rfl dX4_nextAccount_65 rfl ?_
                refine sw_iload_n (n := 69) F 3 rfl rfl dX4_nextAccount_68 rfl ?_
                refine sw_ialoadI (n := 70) F 2 rfl (fun _ => rfl) k rfl (by omega) dX4_nextAccount_69 rfl ?_
                refine sw_goto F (n := 74) dX4_nextAccount_70 (by decide) ?_
                refine sw_istore_n (n := 75) F (L2 := [(2, .int (jI (Rg k))), (0, .ref o), (1, .int (jI a9)), (3, .int (jI (↑k)))]) rfl (by decide) rfl dX4_nextAccount_74 rfl ?_
                have es : naB Lf Rg a9 (k + 1) = Rg k := by simp only [naB]; (repeat' split) <;> omega
                refine SW.cast (L' := [(2, .int (jI (naB Lf Rg a9 (k + 1)))), (0, .ref o), (1, .int (jI a9)), (3, .int (jI (↑k)))]) ?_ rfl (by rw [es]) rfl
                refine sw_iinc (n := 78) F 3 (L2 := [(3, .int (jI (↑k + 1))), (2, .int (jI (naB Lf Rg a9 (k + 1)))), (0, .ref o), (1, .int (jI a9))]) rfl rfl (by decide) dX4_nextAccount_75 rfl ?_
                refine sw_goto F (n := 5) dX4_nextAccount_78 (by decide) ?_
                refine sw_loc [2, 3, 1, 0] (L2 := [(0, .ref o), (1, .int (jI a9)), (2, .int (jI (naB Lf Rg a9 (k + 1)))), (3, .int (jI (↑k + 1)))]) rfl ?_
                rw [show (↑k + 1 : Int) = ↑(k + 1) by omega]
                exact ih5 (k + 1) (by omega) (by omega)
          ·
            refine sw_aload_n (n := 34) F 0 (some o) rfl rfl rfl dX4_nextAccount_33 rfl ?_
            refine sw_get (n := 37) F 0 rfl (k := 41) ⟨(RX4, TX4, 50), rfl, by decide, q3840, in_X4, Or.inl rfl⟩ (v := .ref (a 41)) rfl dX4_nextAccount_34 rfl ?_
            refine sw_iload_n (n := 38) F 3 rfl rfl dX4_nextAccount_37 rfl ?_
            refine sw_ialoadI (n := 39) F 1 rfl (fun _ => rfl) k rfl (by omega) dX4_nextAccount_38 rfl ?_
            refine sw_goto F (n := 43) dX4_nextAccount_39 (by decide) ?_
            refine sw_istore_n (n := 44) F (L2 := [(2, .int (jI (Lf k))), (0, .ref o), (1, .int (jI a9)), (3, .int (jI (↑k)))]) rfl (by decide) rfl dX4_nextAccount_43 rfl ?_
            refine sw_aload_n (n := 45) F 1 (some o) rfl rfl rfl dX4_nextAccount_44 rfl ?_
            refine sw_get (n := 48) F 0 rfl (k := 42) ⟨(RX4, TX4, 50), rfl, by decide, q3841, in_X4, Or.inl rfl⟩ (v := .ref (a 42)) rfl dX4_nextAccount_45 rfl ?_
            refine sw_iload_n (n := 49) F 3 rfl rfl dX4_nextAccount_48 rfl ?_
            refine sw_ialoadI (n := 50) F 2 rfl (fun _ => rfl) k rfl (by omega) dX4_nextAccount_49 rfl ?_
            refine sw_iload_n (n := 51) F 2 rfl rfl dX4_nextAccount_50 rfl ?_
            refine sw_icmp_le (n := 54) F (by omega) (by omega) (tgt := 73) dX4_nextAccount_51 (by decide) rfl (fun c_51 => ?_) (fun c_51 => ?_)
            ·
              refine sw_iload_n (n := 74) F 0 rfl rfl dX4_nextAccount_73 rfl ?_
              refine sw_istore_n (n := 75) F (L2 := [(2, .int (jI (Lf k))), (0, .ref o), (1, .int (jI a9)), (3, .int (jI (↑k)))]) rfl (by decide) rfl dX4_nextAccount_74 rfl ?_
              have es : naB Lf Rg a9 (k + 1) = Lf k := by simp only [naB]; (repeat' split) <;> omega
              refine SW.cast (L' := [(2, .int (jI (naB Lf Rg a9 (k + 1)))), (0, .ref o), (1, .int (jI a9)), (3, .int (jI (↑k)))]) ?_ rfl (by rw [es]) rfl
              refine sw_iinc (n := 78) F 3 (L2 := [(3, .int (jI (↑k + 1))), (2, .int (jI (naB Lf Rg a9 (k + 1)))), (0, .ref o), (1, .int (jI a9))]) rfl rfl (by decide) dX4_nextAccount_75 rfl ?_
              refine sw_goto F (n := 5) dX4_nextAccount_78 (by decide) ?_
              refine sw_loc [2, 3, 1, 0] (L2 := [(0, .ref o), (1, .int (jI a9)), (2, .int (jI (naB Lf Rg a9 (k + 1)))), (3, .int (jI (↑k + 1)))]) rfl ?_
              rw [show (↑k + 1 : Int) = ↑(k + 1) by omega]
              exact ih5 (k + 1) (by omega) (by omega)
            ·
              refine sw_aload_n (n := 55) F 1 (some o) rfl rfl rfl dX4_nextAccount_54 rfl ?_
              refine sw_get (n := 58) F 0 rfl (k := 42) ⟨(RX4, TX4, 50), rfl, by decide, q3841, in_X4, Or.inl rfl⟩ (v := .ref (a 42)) rfl dX4_nextAccount_55 rfl ?_
              refine sw_iload_n (n := 59) F 3 rfl rfl dX4_nextAccount_58 rfl ?_
              refine sw_ialoadI (n := 60) F 2 rfl (fun _ => rfl) k rfl (by omega) dX4_nextAccount_59 rfl ?_
              refine sw_iload_n (n := 61) F 0 rfl rfl dX4_nextAccount_60 rfl ?_
              refine sw_icmp_ge (n := 64) F (by omega) (by omega) (tgt := 73) dX4_nextAccount_61 (by decide) rfl (fun c_61 => ?_) (fun c_61 => ?_)
              ·
                refine sw_iload_n (n := 74) F 0 rfl rfl dX4_nextAccount_73 rfl ?_
                refine sw_istore_n (n := 75) F (L2 := [(2, .int (jI (Lf k))), (0, .ref o), (1, .int (jI a9)), (3, .int (jI (↑k)))]) rfl (by decide) rfl dX4_nextAccount_74 rfl ?_
                have es : naB Lf Rg a9 (k + 1) = Lf k := by simp only [naB]; (repeat' split) <;> omega
                refine SW.cast (L' := [(2, .int (jI (naB Lf Rg a9 (k + 1)))), (0, .ref o), (1, .int (jI a9)), (3, .int (jI (↑k)))]) ?_ rfl (by rw [es]) rfl
                refine sw_iinc (n := 78) F 3 (L2 := [(3, .int (jI (↑k + 1))), (2, .int (jI (naB Lf Rg a9 (k + 1)))), (0, .ref o), (1, .int (jI a9))]) rfl rfl (by decide) dX4_nextAccount_75 rfl ?_
                refine sw_goto F (n := 5) dX4_nextAccount_78 (by decide) ?_
                refine sw_loc [2, 3, 1, 0] (L2 := [(0, .ref o), (1, .int (jI a9)), (2, .int (jI (naB Lf Rg a9 (k + 1)))), (3, .int (jI (↑k + 1)))]) rfl ?_
                rw [show (↑k + 1 : Int) = ↑(k + 1) by omega]
                exact ih5 (k + 1) (by omega) (by omega)
              ·
                refine sw_aload_n (n := 65) F 1 (some o) rfl rfl rfl dX4_nextAccount_64 rfl ?_
                refine sw_get (n := 68) F 0 rfl (k := 42) ⟨(RX4, TX4, 50), rfl, by decide, q3841, in_X4, Or.inl rfl⟩ (v := .ref (a 42)) rfl dX4_nextAccount_65 rfl ?_
                refine sw_iload_n (n := 69) F 3 rfl rfl dX4_nextAccount_68 rfl ?_
                refine sw_ialoadI (n := 70) F 2 rfl (fun _ => rfl) k rfl (by omega) dX4_nextAccount_69 rfl ?_
                refine sw_goto F (n := 74) dX4_nextAccount_70 (by decide) ?_
                refine sw_istore_n (n := 75) F (L2 := [(2, .int (jI (Rg k))), (0, .ref o), (1, .int (jI a9)), (3, .int (jI (↑k)))]) rfl (by decide) rfl dX4_nextAccount_74 rfl ?_
                have es : naB Lf Rg a9 (k + 1) = Rg k := by simp only [naB]; (repeat' split) <;> omega
                refine SW.cast (L' := [(2, .int (jI (naB Lf Rg a9 (k + 1)))), (0, .ref o), (1, .int (jI a9)), (3, .int (jI (↑k)))]) ?_ rfl (by rw [es]) rfl
                refine sw_iinc (n := 78) F 3 (L2 := [(3, .int (jI (↑k + 1))), (2, .int (jI (naB Lf Rg a9 (k + 1)))), (0, .ref o), (1, .int (jI a9))]) rfl rfl (by decide) dX4_nextAccount_75 rfl ?_
                refine sw_goto F (n := 5) dX4_nextAccount_78 (by decide) ?_
                refine sw_loc [2, 3, 1, 0] (L2 := [(0, .ref o), (1, .int (jI a9)), (2, .int (jI (naB Lf Rg a9 (k + 1)))), (3, .int (jI (↑k + 1)))]) rfl ?_
                rw [show (↑k + 1 : Int) = ↑(k + 1) by omega]
                exact ih5 (k + 1) (by omega) (by omega)
  refine sw_loc [2, 3, 1, 0] (L2 := [(0, .ref o), (1, .int (jI a9)), (2, .int (jI 100)), (3, .int (jI 0))]) rfl ?_
  show SW x _ _ _ _ [(0, .ref o), (1, .int (jI a9)), (2, .int (jI (naB Lf Rg a9 0))), (3, .int (jI 0))] _
  exact K5 _ 0 (by omega) (Nat.lt_succ_self _)
theorem nd_X4_shut : yX4_shut.cls ≠ "java/lang/invoke/MethodHandle" ∧ yX4_shut.cls ≠ "java/lang/invoke/VarHandle" ∧ (parseMethodDescriptor yX4_shut.desc).map (fun d => d.parameters.length) = some 1 := by decide +kernel
set_option maxRecDepth 100000 in
set_option maxHeartbeats 16000000 in
theorem ct_X4_shut {g : GG} {l : Launch} (o : Nat) (a : Nat → Nat) (z : Nat → Int) (Ed : Nat → Int) (d : Int) (hEd : BD 0 9999 Ed) (hd : -2147483648 ≤ d ∧ d ≤ 2147483647) (hz44 : 0 ≤ z 44 ∧ z 44 ≤ 200) (hz45 : -1 ≤ z 45 ∧ z 45 ≤ 9999) : Ct g l yX4_shut (ws_ yX4_shut cX4_shut 4 (Option.some Jvm.ClassFile.FieldType.int)) 2 37 0 0 [.ref o, .int (jI d)] [tmO g o a z, aI g 0 (a 40) 200 Ed] (fun v9 Ws9 => v9 = some (.int (jI (if0 (suP d (z 45)) (shN Ed d (z 44).toNat)))) ∧ Ws9 = [tmO g o a (up0 (suP d (z 45)) (va_up z 8 (suP d (z 45))) 45 d), aI g 0 (a 40) 200 Ed]) (nox) := by
  refine Ct.of (cc := cX4_shut) (nL := 4) (ret := (Option.some Jvm.ClassFile.FieldType.int)) (by decide) rfl (Nat.le_of_ble_eq_true rfl) ?_
  intro x hg hl hPo hPx hmc hms F
  subst hg; subst hl
  refine SW.cast (L' := [(0, .ref o), (1, .int (jI d))]) ?_ rfl rfl rfl
  refine sw_aload_n (n := 1) F 0 (some o) rfl rfl rfl dX4_shut_0 rfl ?_
  have K30 : ∀ (p9 : Int), (p9 = suP d (z 45)) → SW x [tmO (xg x) o a z, aI (xg x) 0 (a 40) 200 Ed] 0 0 30 [(0, .ref o), (1, .int (jI d))] [.int (jI p9), .ref o] := by
    intro p9 hpc
    subst hpc
    have hcs := suP_nn d (z 45)
    refine sw_callV (n := 33) F (ct_X4_fails (g := xg x) (l := xl x) o a z (suP d (z 45)) (by first | omega | assumption)) (rcv_ob F 0 (ci := 3) rfl rfl) q3973 q3975 qs68 q120 q3976 nd_X4_fails rfl (by decide) [0, 1] rfl [aI (xg x) 0 (a 40) 200 Ed] rfl 0 0 ⟨by omega, by omega⟩ [] rfl (Nat.le_of_ble_eq_true rfl) dX4_shut_30 rfl (fun _ _ h => h.elim) (fun v Ws h => ?_)
    obtain ⟨rfl, hps_1, rfl⟩ := h
    show SW x [tmO (xg x) o a (va_up z 8 (suP d (z 45))), aI (xg x) 0 (a 40) 200 Ed] _ _ _ _ [.int (jI (psI (suP d (z 45))))]
    refine sw_if_eq (n := 36) F (by omega) (tgt := 38) dX4_shut_33 (by decide) rfl (fun c_33 => ?_) (fun c_33 => ?_)
    ·
      have e0 : suP d (z 45) = 0 := by omega
      obtain ⟨hz0, hz1⟩ := suP_0 d (z 45) e0
      have rg0 : 0 ≤ d ∧ d ≤ 9999 := by omega
      clear hz0 hz1 hcs c_33 hps_1
      refine sw_aload_n (n := 39) F 0 (some o) rfl rfl rfl dX4_shut_38 rfl ?_
      refine sw_iload_n (n := 40) F 1 rfl rfl dX4_shut_39 rfl ?_
      refine sw_put (n := 43) F 0 rfl (k := 45) ⟨(RX4, TX4, 50), rfl, by decide, q3844, in_X4, Or.inl rfl⟩ .int ⟨(RX4, TX4, 50), rfl, rfl, tyX4_ok 45 (by decide), nmX4, tyX4, tyX4_ok⟩ rfl rfl (Nat.le_of_ble_eq_true rfl) (fs' := tmF a (va_up (va_up z 8 (suP d (z 45))) 45 d)) rfl [tmO (xg x) o a (va_up (va_up z 8 (suP d (z 45))) 45 d), aI (xg x) 0 (a 40) 200 Ed] rfl dX4_shut_40 rfl ?_
      refine sw_iconst (n := 44) F (0) (by decide) dX4_shut_43 rfl ?_
      refine sw_istore_n (n := 45) F (L2 := [(2, .int (jI 0)), (0, .ref o), (1, .int (jI d))]) rfl (by decide) rfl dX4_shut_44 rfl ?_
      refine sw_iconst (n := 46) F (0) (by decide) dX4_shut_45 rfl ?_
      refine sw_istore_n (n := 47) F (L2 := [(3, .int (jI 0)), (2, .int (jI 0)), (0, .ref o), (1, .int (jI d))]) rfl (by decide) rfl dX4_shut_46 rfl ?_
      have K47 : ∀ N47 : Nat, ∀ (k : Nat), ((k : Int) ≤ z 44) → ((201 - k) < N47) → SW x [tmO (xg x) o a (va_up (va_up z 8 (suP d (z 45))) 45 d), aI (xg x) 0 (a 40) 200 Ed] 0 0 47 [(0, .ref o), (1, .int (jI d)), (2, .int (jI (shN Ed d k))), (3, .int (jI (↑k)))] [] := by
        intro N47; induction N47 with
        | zero => intro k hk hmu47; omega
        | succ N47 ih47 =>
          intro k hk hmu47
          have hed := hEd k
          refine sw_iload_n (n := 48) F 3 rfl rfl dX4_shut_47 rfl ?_
          refine sw_aload_n (n := 49) F 0 (some o) rfl rfl rfl dX4_shut_48 rfl ?_
          refine sw_get (n := 52) F 0 rfl (k := 44) ⟨(RX4, TX4, 50), rfl, by decide, q3843, in_X4, Or.inl rfl⟩ (v := .int (jI (z 44))) rfl dX4_shut_49 rfl ?_
          refine sw_icmp_ge (n := 55) F (by omega) (by omega) (tgt := 82) dX4_shut_52 (by decide) rfl (fun c_52 => ?_) (fun c_52 => ?_)
          ·
            obtain rfl : k = (z 44).toNat := by omega
            refine sw_iload_n (n := 83) F 2 rfl rfl dX4_shut_82 rfl ?_
            have e0 : suP d (z 45) = 0 := by omega
            exact sw_iret F _ rfl (by first | rfl | exact jI_nz (by omega) | exact jI_nc (by omega)) dX4_shut_83 (by rw [hPo]; exact ⟨(by rw [if0_p e0]), (by simp only [up0_p e0, up_88])⟩)
          ·
            refine sw_iload_n (n := 56) F 2 rfl rfl dX4_shut_55 rfl ?_
            refine sw_aload_n (n := 57) F 0 (some o) rfl rfl rfl dX4_shut_56 rfl ?_
            refine sw_get (n := 60) F 0 rfl (k := 40) ⟨(RX4, TX4, 50), rfl, by decide, q3839, in_X4, Or.inl rfl⟩ (v := .ref (a 40)) rfl dX4_shut_57 rfl ?_
            refine sw_iload_n (n := 61) F 3 rfl rfl dX4_shut_60 rfl ?_
            refine sw_ialoadI (n := 62) F 1 rfl (fun _ => rfl) k rfl (by omega) dX4_shut_61 rfl ?_
            refine sw_aload_n (n := 63) F 0 (some o) rfl rfl rfl dX4_shut_62 rfl ?_
            refine sw_get (n := 66) F 0 rfl (k := 45) ⟨(RX4, TX4, 50), rfl, by decide, q3844, in_X4, Or.inl rfl⟩ (v := .int (jI d)) rfl dX4_shut_63 rfl ?_
            refine sw_icmp_gt (n := 69) F (by omega) (by omega) (tgt := 73) dX4_shut_66 (by decide) rfl (fun c_66 => ?_) (fun c_66 => ?_)
            ·
              refine sw_iconst (n := 74) F (0) (by decide) dX4_shut_73 rfl ?_
              refine sw_iadd (n := 75) F dX4_shut_74 rfl ?_
              refine sw_istore_n (n := 76) F (L2 := [(2, .int (jI ((shN Ed d k) + 0))), (0, .ref o), (1, .int (jI d)), (3, .int (jI (↑k)))]) rfl (by decide) rfl dX4_shut_75 rfl ?_
              have es : shN Ed d (k + 1) = (shN Ed d k) + 0 := by simp only [shN]; rw [if_neg (by omega)]
              refine SW.cast (L' := [(2, .int (jI (shN Ed d (k + 1)))), (0, .ref o), (1, .int (jI d)), (3, .int (jI (↑k)))]) ?_ rfl (by rw [es]) rfl
              refine sw_iinc (n := 79) F 3 (L2 := [(3, .int (jI (↑k + 1))), (2, .int (jI (shN Ed d (k + 1)))), (0, .ref o), (1, .int (jI d))]) rfl rfl (by decide) dX4_shut_76 rfl ?_
              refine sw_goto F (n := 47) dX4_shut_79 (by decide) ?_
              refine sw_loc [2, 3, 1, 0] (L2 := [(0, .ref o), (1, .int (jI d)), (2, .int (jI (shN Ed d (k + 1)))), (3, .int (jI (↑k + 1)))]) rfl ?_
              rw [show (↑k + 1 : Int) = ↑(k + 1) by omega]
              exact ih47 (k + 1) (by omega) (by omega)
            ·
              refine sw_iconst (n := 70) F (1) (by decide) dX4_shut_69 rfl ?_
              refine sw_goto F (n := 74) dX4_shut_70 (by decide) ?_
              refine sw_iadd (n := 75) F dX4_shut_74 rfl ?_
              refine sw_istore_n (n := 76) F (L2 := [(2, .int (jI ((shN Ed d k) + 1))), (0, .ref o), (1, .int (jI d)), (3, .int (jI (↑k)))]) rfl (by decide) rfl dX4_shut_75 rfl ?_
              have es : shN Ed d (k + 1) = (shN Ed d k) + 1 := by simp only [shN]; rw [if_pos (by omega)]
              refine SW.cast (L' := [(2, .int (jI (shN Ed d (k + 1)))), (0, .ref o), (1, .int (jI d)), (3, .int (jI (↑k)))]) ?_ rfl (by rw [es]) rfl
              refine sw_iinc (n := 79) F 3 (L2 := [(3, .int (jI (↑k + 1))), (2, .int (jI (shN Ed d (k + 1)))), (0, .ref o), (1, .int (jI d))]) rfl rfl (by decide) dX4_shut_76 rfl ?_
              refine sw_goto F (n := 47) dX4_shut_79 (by decide) ?_
              refine sw_loc [2, 3, 1, 0] (L2 := [(0, .ref o), (1, .int (jI d)), (2, .int (jI (shN Ed d (k + 1)))), (3, .int (jI (↑k + 1)))]) rfl ?_
              rw [show (↑k + 1 : Int) = ↑(k + 1) by omega]
              exact ih47 (k + 1) (by omega) (by omega)
      refine sw_loc [2, 3, 1, 0] (L2 := [(0, .ref o), (1, .int (jI d)), (2, .int (jI 0)), (3, .int (jI 0))]) rfl ?_
      show SW x _ _ _ _ [(0, .ref o), (1, .int (jI d)), (2, .int (jI (shN Ed d 0))), (3, .int (jI 0))] _
      exact K47 _ 0 (by omega) (Nat.lt_succ_self _)
    ·
      refine sw_iconst (n := 37) F (0) (by decide) dX4_shut_36 rfl ?_
      have e0 : suP d (z 45) ≠ 0 := by omega
      exact sw_iret F _ rfl (by first | rfl | exact jI_nz (by omega) | exact jI_nc (by omega)) dX4_shut_37 (by rw [hPo]; exact ⟨(by rw [if0_n e0]), (by simp only [up0_n e0, up_88])⟩)
  refine sw_iload_n (n := 2) F 1 rfl rfl dX4_shut_1 rfl ?_
  refine sw_i2l (n := 3) F (by omega) dX4_shut_2 rfl ?_
  refine sw_lconst (n := 4) F 0 (by decide) dX4_shut_3 rfl ?_
  refine sw_ldc2 (n := 7) F (9999) q4195 (by decide) dX4_shut_4 rfl ?_
  refine sw_callS (n := 10) F (ct_X4_in (g := xg x) (l := xl x) d 0 9999 (by first | omega | assumption) (by first | omega | assumption) (by first | omega | assumption)) q3963 q3964 q120 q3965 nd_X4_in rfl (by decide) [0, 1] rfl [tmO (xg x) o a z, aI (xg x) 0 (a 40) 200 Ed] rfl 0 0 ⟨by omega, by omega⟩ [.ref o] rfl (Nat.le_of_ble_eq_true rfl) dX4_shut_7 rfl (fun _ _ h => h.elim) (fun v Ws h => ?_)
  obtain ⟨rfl, hs_2, rfl⟩ := h
  show SW x [tmO (xg x) o a z, aI (xg x) 0 (a 40) 200 Ed] _ _ _ _ [.int (jI (inI d 0 9999)), .ref o]
  refine sw_if_ne (n := 13) F (by omega) (tgt := 17) dX4_shut_10 (by decide) rfl (fun c_10 => ?_) (fun c_10 => ?_)
  ·
    refine sw_iload_n (n := 18) F 1 rfl rfl dX4_shut_17 rfl ?_
    refine sw_aload_n (n := 19) F 0 (some o) rfl rfl rfl dX4_shut_18 rfl ?_
    refine sw_get (n := 22) F 0 rfl (k := 45) ⟨(RX4, TX4, 50), rfl, by decide, q3844, in_X4, Or.inl rfl⟩ (v := .int (jI (z 45))) rfl dX4_shut_19 rfl ?_
    refine sw_icmp_gt (n := 25) F (by omega) (by omega) (tgt := 29) dX4_shut_22 (by decide) rfl (fun c_22 => ?_) (fun c_22 => ?_)
    ·
      refine sw_iconst (n := 30) F (0) (by decide) dX4_shut_29 rfl ?_
      exact K30 0 (by unfold suP; (repeat' split) <;> omega)
    ·
      refine sw_iconst (n := 26) F (2) (by decide) dX4_shut_25 rfl ?_
      refine sw_goto F (n := 30) dX4_shut_26 (by decide) ?_
      exact K30 2 (by unfold suP; (repeat' split) <;> omega)
  ·
    refine sw_iconst (n := 14) F (1) (by decide) dX4_shut_13 rfl ?_
    refine sw_goto F (n := 30) dX4_shut_14 (by decide) ?_
    exact K30 1 (by unfold suP; (repeat' split) <;> omega)
def unH (Hb : Nat → Int) (b : Int) : Nat → Int := if b < 0 then Hb else va_up Hb b.toNat 0
theorem nd_X4_undo : yX4_undo.cls ≠ "java/lang/invoke/MethodHandle" ∧ yX4_undo.cls ≠ "java/lang/invoke/VarHandle" ∧ (parseMethodDescriptor yX4_undo.desc).map (fun d => d.parameters.length) = some 0 := by decide +kernel
set_option maxRecDepth 100000 in
set_option maxHeartbeats 16000000 in
theorem ct_X4_undo {g : GG} {l : Launch} (o : Nat) (a : Nat → Nat) (z : Nat → Int) (Ah : Nat → Int) (Ad : Nat → Int) (Bb : Nat → Int) (Hb : Nat → Int) (hAh : BD 0 200 Ah) (hAd : BD 0 9999 Ad) (hBb : BD (-1) 19 Bb) (hz45 : -1 ≤ z 45 ∧ z 45 ≤ 9999) (hz49 : 0 ≤ z 49 ∧ z 49 ≤ 500) : Ct g l yX4_undo (ws_ yX4_undo cX4_undo 1 (Option.some Jvm.ClassFile.FieldType.int)) 2 33 0 0 [.ref o] [tmO g o a z, aI g 0 (a 46) 600 Ah, aI g 0 (a 47) 600 Ad, aI g 0 (a 48) 600 Bb, aI g 4 (a 24) 20 Hb] (fun v9 Ws9 => v9 = some (.int (jI (if0 (unP (z 49) (Ad (z 49 - 1).toNat) (z 45)) (Ah (z 49 - 1).toNat)))) ∧ Ws9 = [tmO g o a (up0 (unP (z 49) (Ad (z 49 - 1).toNat) (z 45)) (up0 (unP (z 49) (Ad (z 49 - 1).toNat) (z 45)) (va_up z 8 (unP (z 49) (Ad (z 49 - 1).toNat) (z 45))) 44 (Ah (z 49 - 1).toNat)) 49 (z 49 - 1)), aI g 0 (a 46) 600 Ah, aI g 0 (a 47) 600 Ad, aI g 0 (a 48) 600 Bb, aI g 4 (a 24) 20 (wh0 (unP (z 49) (Ad (z 49 - 1).toNat) (z 45)) (unH Hb (Bb (z 49 - 1).toNat)) Hb)]) (nox) := by
  refine Ct.of (cc := cX4_undo) (nL := 1) (ret := (Option.some Jvm.ClassFile.FieldType.int)) (by decide) rfl (Nat.le_of_ble_eq_true rfl) ?_
  intro x hg hl hPo hPx hmc hms F
  subst hg; subst hl
  refine SW.cast (L' := [(0, .ref o)]) ?_ rfl rfl rfl
  have had := hAd (z 49 - 1).toNat
  have hah := hAh (z 49 - 1).toNat
  have hbb := hBb (z 49 - 1).toNat
  refine sw_aload_n (n := 1) F 0 (some o) rfl rfl rfl dX4_undo_0 rfl ?_
  have K35 : ∀ (p9 : Int), (p9 = unP (z 49) (Ad (z 49 - 1).toNat) (z 45)) → SW x [tmO (xg x) o a z, aI (xg x) 0 (a 46) 600 Ah, aI (xg x) 0 (a 47) 600 Ad, aI (xg x) 0 (a 48) 600 Bb, aI (xg x) 4 (a 24) 20 Hb] 0 0 35 [(0, .ref o)] [.int (jI p9), .ref o] := by
    intro p9 hpc
    subst hpc
    have hcs := unP_nn (z 49) (Ad (z 49 - 1).toNat) (z 45)
    refine sw_callV (n := 38) F (ct_X4_fails (g := xg x) (l := xl x) o a z (unP (z 49) (Ad (z 49 - 1).toNat) (z 45)) (by first | omega | assumption)) (rcv_ob F 0 (ci := 3) rfl rfl) q3973 q3975 qs68 q120 q3976 nd_X4_fails rfl (by decide) [0, 1, 2, 3, 4] (perm_ok _ 5 (by decide +kernel) rfl) [aI (xg x) 0 (a 46) 600 Ah, aI (xg x) 0 (a 47) 600 Ad, aI (xg x) 0 (a 48) 600 Bb, aI (xg x) 4 (a 24) 20 Hb] rfl 0 0 ⟨by omega, by omega⟩ [] rfl (Nat.le_of_ble_eq_true rfl) dX4_undo_35 rfl (fun _ _ h => h.elim) (fun v Ws h => ?_)
    obtain ⟨rfl, hps_1, rfl⟩ := h
    show SW x [tmO (xg x) o a (va_up z 8 (unP (z 49) (Ad (z 49 - 1).toNat) (z 45))), aI (xg x) 0 (a 46) 600 Ah, aI (xg x) 0 (a 47) 600 Ad, aI (xg x) 0 (a 48) 600 Bb, aI (xg x) 4 (a 24) 20 Hb] _ _ _ _ [.int (jI (psI (unP (z 49) (Ad (z 49 - 1).toNat) (z 45))))]
    refine sw_if_eq (n := 41) F (by omega) (tgt := 43) dX4_undo_38 (by decide) rfl (fun c_38 => ?_) (fun c_38 => ?_)
    ·
      have e0 : unP (z 49) (Ad (z 49 - 1).toNat) (z 45) = 0 := by omega
      obtain ⟨hz0, hz1⟩ := unP_0 (z 49) (Ad (z 49 - 1).toNat) (z 45) e0
      have rg0 : 1 ≤ z 49 := by omega
      clear hz0 hz1 hcs c_38 hps_1
      refine sw_aload_n (n := 44) F 0 (some o) rfl rfl rfl dX4_undo_43 rfl ?_
      refine sw_dup (n := 45) F rfl dX4_undo_44 rfl ?_
      refine sw_get (n := 48) F 0 rfl (k := 49) ⟨(RX4, TX4, 50), rfl, by decide, q3848, in_X4, Or.inl rfl⟩ (v := .int (jI (z 49))) rfl dX4_undo_45 rfl ?_
      refine sw_iconst (n := 49) F (1) (by decide) dX4_undo_48 rfl ?_
      refine sw_isub (n := 50) F dX4_undo_49 rfl ?_
      refine sw_put (n := 53) F 0 rfl (k := 49) ⟨(RX4, TX4, 50), rfl, by decide, q3848, in_X4, Or.inl rfl⟩ .int ⟨(RX4, TX4, 50), rfl, rfl, tyX4_ok 49 (by decide), nmX4, tyX4, tyX4_ok⟩ rfl rfl (Nat.le_of_ble_eq_true rfl) (fs' := tmF a (va_up (va_up z 8 (unP (z 49) (Ad (z 49 - 1).toNat) (z 45))) 49 ((z 49) - 1))) rfl [tmO (xg x) o a (va_up (va_up z 8 (unP (z 49) (Ad (z 49 - 1).toNat) (z 45))) 49 ((z 49) - 1)), aI (xg x) 0 (a 46) 600 Ah, aI (xg x) 0 (a 47) 600 Ad, aI (xg x) 0 (a 48) 600 Bb, aI (xg x) 4 (a 24) 20 Hb] rfl dX4_undo_50 rfl ?_
      refine sw_aload_n (n := 54) F 0 (some o) rfl rfl rfl dX4_undo_53 rfl ?_
      refine sw_aload_n (n := 55) F 0 (some o) rfl rfl rfl dX4_undo_54 rfl ?_
      refine sw_get (n := 58) F 0 rfl (k := 46) ⟨(RX4, TX4, 50), rfl, by decide, q3845, in_X4, Or.inl rfl⟩ (v := .ref (a 46)) rfl dX4_undo_55 rfl ?_
      refine sw_aload_n (n := 59) F 0 (some o) rfl rfl rfl dX4_undo_58 rfl ?_
      refine sw_get (n := 62) F 0 rfl (k := 49) ⟨(RX4, TX4, 50), rfl, by decide, q3848, in_X4, Or.inl rfl⟩ (v := .int (jI ((z 49) - 1))) rfl dX4_undo_59 rfl ?_
      refine sw_ialoadI (n := 63) F 1 rfl (fun _ => rfl) (((z 49) - 1 : Int).toNat) (by omega) (by omega) dX4_undo_62 rfl ?_
      refine sw_put (n := 66) F 0 rfl (k := 44) ⟨(RX4, TX4, 50), rfl, by decide, q3843, in_X4, Or.inl rfl⟩ .int ⟨(RX4, TX4, 50), rfl, rfl, tyX4_ok 44 (by decide), nmX4, tyX4, tyX4_ok⟩ rfl rfl (Nat.le_of_ble_eq_true rfl) (fs' := tmF a (va_up (va_up (va_up z 8 (unP (z 49) (Ad (z 49 - 1).toNat) (z 45))) 44 (Ah (((z 49) - 1 : Int).toNat))) 49 ((z 49) - 1))) rfl [tmO (xg x) o a (va_up (va_up (va_up z 8 (unP (z 49) (Ad (z 49 - 1).toNat) (z 45))) 44 (Ah (((z 49) - 1 : Int).toNat))) 49 ((z 49) - 1)), aI (xg x) 0 (a 46) 600 Ah, aI (xg x) 0 (a 47) 600 Ad, aI (xg x) 0 (a 48) 600 Bb, aI (xg x) 4 (a 24) 20 Hb] rfl dX4_undo_63 rfl ?_
      refine sw_aload_n (n := 67) F 0 (some o) rfl rfl rfl dX4_undo_66 rfl ?_
      refine sw_get (n := 70) F 0 rfl (k := 48) ⟨(RX4, TX4, 50), rfl, by decide, q3847, in_X4, Or.inl rfl⟩ (v := .ref (a 48)) rfl dX4_undo_67 rfl ?_
      refine sw_aload_n (n := 71) F 0 (some o) rfl rfl rfl dX4_undo_70 rfl ?_
      refine sw_get (n := 74) F 0 rfl (k := 49) ⟨(RX4, TX4, 50), rfl, by decide, q3848, in_X4, Or.inl rfl⟩ (v := .int (jI ((z 49) - 1))) rfl dX4_undo_71 rfl ?_
      refine sw_ialoadI (n := 75) F 3 rfl (fun _ => rfl) (((z 49) - 1 : Int).toNat) (by omega) (by omega) dX4_undo_74 rfl ?_
      refine sw_if_lt (n := 78) F (by omega) (tgt := 93) dX4_undo_75 (by decide) rfl (fun c_75 => ?_) (fun c_75 => ?_)
      ·
        refine sw_aload_n (n := 94) F 0 (some o) rfl rfl rfl dX4_undo_93 rfl ?_
        refine sw_get (n := 97) F 0 rfl (k := 44) ⟨(RX4, TX4, 50), rfl, by decide, q3843, in_X4, Or.inl rfl⟩ (v := .int (jI (Ah (((z 49) - 1 : Int).toNat)))) rfl dX4_undo_94 rfl ?_
        have eh : unH Hb (Bb (z 49 - 1).toNat) = Hb := if_pos (by omega)
        have e0 : unP (z 49) (Ad (z 49 - 1).toNat) (z 45) = 0 := by omega
        exact sw_iret F _ rfl (by first | rfl | exact jI_nz (by omega) | exact jI_nc (by omega)) dX4_undo_97 (by rw [hPo]; exact ⟨(by rw [if0_p e0]), (by simp only [up0_p e0, up_88, wh0_p e0, eh])⟩)
      ·
        refine sw_aload_n (n := 79) F 0 (some o) rfl rfl rfl dX4_undo_78 rfl ?_
        refine sw_get (n := 82) F 0 rfl (k := 24) ⟨(RX4, TX4, 50), rfl, by decide, q3823, in_X4, Or.inl rfl⟩ (v := .ref (a 24)) rfl dX4_undo_79 rfl ?_
        refine sw_aload_n (n := 83) F 0 (some o) rfl rfl rfl dX4_undo_82 rfl ?_
        refine sw_get (n := 86) F 0 rfl (k := 48) ⟨(RX4, TX4, 50), rfl, by decide, q3847, in_X4, Or.inl rfl⟩ (v := .ref (a 48)) rfl dX4_undo_83 rfl ?_
        refine sw_aload_n (n := 87) F 0 (some o) rfl rfl rfl dX4_undo_86 rfl ?_
        refine sw_get (n := 90) F 0 rfl (k := 49) ⟨(RX4, TX4, 50), rfl, by decide, q3848, in_X4, Or.inl rfl⟩ (v := .int (jI ((z 49) - 1))) rfl dX4_undo_87 rfl ?_
        refine sw_ialoadI (n := 91) F 3 rfl (fun _ => rfl) (((z 49) - 1 : Int).toNat) (by omega) (by omega) dX4_undo_90 rfl ?_
        refine sw_iconst (n := 92) F (0) (by decide) dX4_undo_91 rfl ?_
        refine sw_zastoreI (n := 93) F 4 rfl (fun _ => rfl) ((Bb (((z 49) - 1 : Int).toNat) : Int).toNat) (by omega) (by omega) (by omega) [tmO (xg x) o a (va_up (va_up (va_up z 8 (unP (z 49) (Ad (z 49 - 1).toNat) (z 45))) 44 (Ah (((z 49) - 1 : Int).toNat))) 49 ((z 49) - 1)), aI (xg x) 0 (a 46) 600 Ah, aI (xg x) 0 (a 47) 600 Ad, aI (xg x) 0 (a 48) 600 Bb, aI (xg x) 4 (a 24) 20 (va_up Hb ((Bb (((z 49) - 1 : Int).toNat) : Int).toNat) 0)] (by simp [List.set]) dX4_undo_92 rfl ?_
        refine sw_aload_n (n := 94) F 0 (some o) rfl rfl rfl dX4_undo_93 rfl ?_
        refine sw_get (n := 97) F 0 rfl (k := 44) ⟨(RX4, TX4, 50), rfl, by decide, q3843, in_X4, Or.inl rfl⟩ (v := .int (jI (Ah (((z 49) - 1 : Int).toNat)))) rfl dX4_undo_94 rfl ?_
        have eh : unH Hb (Bb (z 49 - 1).toNat) = va_up Hb ((Bb (((z 49) - 1 : Int).toNat) : Int).toNat) 0 := if_neg (by omega)
        have e0 : unP (z 49) (Ad (z 49 - 1).toNat) (z 45) = 0 := by omega
        exact sw_iret F _ rfl (by first | rfl | exact jI_nz (by omega) | exact jI_nc (by omega)) dX4_undo_97 (by rw [hPo]; exact ⟨(by rw [if0_p e0]), (by simp only [up0_p e0, up_88, wh0_p e0, eh])⟩)
    ·
      refine sw_iconst (n := 42) F (0) (by decide) dX4_undo_41 rfl ?_
      have e0 : unP (z 49) (Ad (z 49 - 1).toNat) (z 45) ≠ 0 := by omega
      exact sw_iret F _ rfl (by first | rfl | exact jI_nz (by omega) | exact jI_nc (by omega)) dX4_undo_42 (by rw [hPo]; exact ⟨(by rw [if0_n e0]), (by simp only [up0_n e0, up_88, wh0_n e0])⟩)
  refine sw_aload_n (n := 2) F 0 (some o) rfl rfl rfl dX4_undo_1 rfl ?_
  refine sw_get (n := 5) F 0 rfl (k := 49) ⟨(RX4, TX4, 50), rfl, by decide, q3848, in_X4, Or.inl rfl⟩ (v := .int (jI (z 49))) rfl dX4_undo_2 rfl ?_
  refine sw_if_ne (n := 8) F (by omega) (tgt := 12) dX4_undo_5 (by decide) rfl (fun c_5 => ?_) (fun c_5 => ?_)
  ·
    refine sw_aload_n (n := 13) F 0 (some o) rfl rfl rfl dX4_undo_12 rfl ?_
    refine sw_get (n := 16) F 0 rfl (k := 47) ⟨(RX4, TX4, 50), rfl, by decide, q3846, in_X4, Or.inl rfl⟩ (v := .ref (a 47)) rfl dX4_undo_13 rfl ?_
    refine sw_aload_n (n := 17) F 0 (some o) rfl rfl rfl dX4_undo_16 rfl ?_
    refine sw_get (n := 20) F 0 rfl (k := 49) ⟨(RX4, TX4, 50), rfl, by decide, q3848, in_X4, Or.inl rfl⟩ (v := .int (jI (z 49))) rfl dX4_undo_17 rfl ?_
    refine sw_iconst (n := 21) F (1) (by decide) dX4_undo_20 rfl ?_
    refine sw_isub (n := 22) F dX4_undo_21 rfl ?_
    refine sw_ialoadI (n := 23) F 2 rfl (fun _ => rfl) (((z 49) - 1 : Int).toNat) (by omega) (by omega) dX4_undo_22 rfl ?_
    refine sw_aload_n (n := 24) F 0 (some o) rfl rfl rfl dX4_undo_23 rfl ?_
    refine sw_get (n := 27) F 0 rfl (k := 45) ⟨(RX4, TX4, 50), rfl, by decide, q3844, in_X4, Or.inl rfl⟩ (v := .int (jI (z 45))) rfl dX4_undo_24 rfl ?_
    refine sw_icmp_gt (n := 30) F (by omega) (by omega) (tgt := 34) dX4_undo_27 (by decide) rfl (fun c_27 => ?_) (fun c_27 => ?_)
    ·
      refine sw_iconst (n := 35) F (0) (by decide) dX4_undo_34 rfl ?_
      exact K35 0 (by unfold unP; (repeat' split) <;> omega)
    ·
      refine sw_iconst (n := 31) F (2) (by decide) dX4_undo_30 rfl ?_
      refine sw_goto F (n := 35) dX4_undo_31 (by decide) ?_
      exact K35 2 (by unfold unP; (repeat' split) <;> omega)
  ·
    refine sw_iconst (n := 9) F (1) (by decide) dX4_undo_8 rfl ?_
    refine sw_goto F (n := 35) dX4_undo_9 (by decide) ?_
    exact K35 1 (by unfold unP; (repeat' split) <;> omega)
theorem nd_X4_isSound : yX4_isSound.cls ≠ "java/lang/invoke/MethodHandle" ∧ yX4_isSound.cls ≠ "java/lang/invoke/VarHandle" ∧ (parseMethodDescriptor yX4_isSound.desc).map (fun d => d.parameters.length) = some 0 := by decide +kernel
set_option maxRecDepth 100000 in
set_option maxHeartbeats 16000000 in
theorem ct_X4_isSound {g : GG} {l : Launch} (o : Nat) (a : Nat → Nat) (z : Nat → Int)  : Ct g l yX4_isSound (ws_ yX4_isSound cX4_isSound 1 (Option.some Jvm.ClassFile.FieldType.boolean)) 1 12 0 0 [.ref o] [tmO g o a z] (fun v9 Ws9 => v9 = some (.int (jI 1)) ∧ Ws9 = [tmO g o a (va_up z 8 0)]) (nox) := by
  refine Ct.of (cc := cX4_isSound) (nL := 1) (ret := (Option.some Jvm.ClassFile.FieldType.boolean)) (by decide) rfl (Nat.le_of_ble_eq_true rfl) ?_
  intro x hg hl hPo hPx hmc hms F
  subst hg; subst hl
  refine SW.cast (L' := [(0, .ref o)]) ?_ rfl rfl rfl
  refine sw_aload_n (n := 1) F 0 (some o) rfl rfl rfl dX4_isSound_0 rfl ?_
  refine sw_iconst (n := 2) F (0) (by decide) dX4_isSound_1 rfl ?_
  refine sw_put (n := 5) F 0 rfl (k := 8) ⟨(RX4, TX4, 50), rfl, by decide, q3807, in_X4, Or.inl rfl⟩ .int ⟨(RX4, TX4, 50), rfl, rfl, tyX4_ok 8 (by decide), nmX4, tyX4, tyX4_ok⟩ rfl rfl (Nat.le_of_ble_eq_true rfl) (fs' := tmF a (va_up z 8 0)) rfl [tmO (xg x) o a (va_up z 8 0)] rfl dX4_isSound_2 rfl ?_
  refine sw_iconst (n := 6) F (1) (by decide) dX4_isSound_5 rfl ?_
  exact sw_iret F _ rfl (by first | rfl | exact jI_nz (by omega) | exact jI_nc (by omega)) dX4_isSound_6 (by rw [hPo]; exact ⟨rfl, rfl⟩)
