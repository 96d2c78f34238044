abbrev sONE : Term := (Jvm.Term.static "java/math/MutableBigInteger" "ONE" "Ljava/math/MutableBigInteger;")
abbrev sONEv : Term := (Jvm.Term.field (Jvm.Term.static "java/math/MutableBigInteger" "ONE" "Ljava/math/MutableBigInteger;") "java/math/MutableBigInteger" "value" "[I")
set_option maxRecDepth 100000 in
theorem kONE {g : GG} {l : Launch} (h : ST g l) : zS g "java/math/MutableBigInteger" "ONE" "Ljava/math/MutableBigInteger;" (.ref (tR g sONE)) ∧ cO g (tR g sONE) 19 [.ref (tR g sONEv), .int (jI 1), .int (jI 0)] ∧ cA g .int (tR g sONEv) 1 (fun _ => .int (jI 1)) := by
  obtain ⟨a1, a2⟩ := cA_of (g := g) (tm := sONEv) (ty := .int) (N := 1) (f := fun _ => .int (jI 1)) (by decide) (nw h [true, false, true, true, false, false, false, false, true, false, false, true, true, true] rfl) (va_eqt (nw h [true, false, true, true, false, false, false, false, true, false, true, false, false] rfl)) (fun j hj => by
    match j, hj with
    | 0, _ => exact (va_eqt (nw h [true, false, true, true, false, false, false, false, true, false, true, false, true, false] rfl)).trans (by rfl)
    | j + 1, hj => omega)
  obtain ⟨b1, -, b3⟩ := cO_of h (t := sONE) (ci := 19) (N := 3) (C := RJ35) (T := TJ35) (fs := [.ref (tR g sONEv), .int (jI 1), .int (jI 0)]) rfl (by decide) (nw h [true, false, true, true, false, false, false, false, true, false, false, true, false] rfl) (fun k hk => by
    match k, hk with
    | 0, _ => exact a1
    | 1, _ => exact (va_eqt (nw h [true, false, true, true, false, false, false, false, true, false, true, false, true, true] rfl)).trans (by rfl)
    | 2, _ => exact (va_eqt (nw h [true, false, true, true, false, false, false, false, true, false, true, true, false] rfl)).trans (by rfl)
    | k + 3, hk => omega)
  exact ⟨zS_of (h.2.1 _ q1935) (h.2.1 _ (lw_all_tbl q144)) b1, b3, a2⟩
/-- a is a rounding mode of number m -/
def rM (g : GG) (a : Nat) (m : Int) : Prop := va_OF "java/math/RoundingMode" "oldMode" "I" (.int (jI m)) a (fun q => gB g ≤ q) (gS g) (gS g).heap
theorem rM_of {g : GG} {t : Term} {m : Int} {i : Int32} (hex : (Cond.exactly t "java/math/RoundingMode").before #[Value.ref g.2.2.2] (gS g) = true) (hf : (Cond.eq (.field t "java/math/RoundingMode" "oldMode" "I") (.int i)).before #[Value.ref g.2.2.2] (gS g) = true) (hi : i = jI m) : tE g t = some (.ref (tR g t)) ∧ rM g (tR g t) m := by
  obtain ⟨h1, -⟩ := ex_of hex
  refine ⟨h1, ?_⟩
  have hv := va_eqt hf
  cases hfo : (gS g).fieldFound? "java/math/RoundingMode" "oldMode" "I" with
  | none =>
    rw [va_fe h1] at hv
    simp [State.fieldOf?, State.fieldNamed?, hfo] at hv
  | some x =>
    obtain ⟨cf, k, fi, f⟩ := x
    obtain ⟨g1, cell, g2, g3, -, -, g6⟩ := Term.field_spec hfo h1 hv
    exact ⟨cf, k, fi, f, cell, hfo, g1, g2, g3, by rw [← hi]; exact g6, gA g _ (Array.getElem?_eq_some_iff.mp g2).1⟩
section RMS
variable {x : EX} {y : MethodName} {cc : ByteArray} {ret : Option FieldType} {nL fr lo : Nat} {tab : List ExceptionTableEntry} {Ps : List HP} {bc bs pc n : Nat} {L : List (Nat × Value)} {st : List Value}
theorem sw_getRM (F : Fx x y cc ret nL fr lo tab) {a : Nat} {m : Int} (hr : rM (xg x) a m) {idx : Nat} (hl : Cond.fieldLink y.cls idx "java/math/RoundingMode" "oldMode" "I" ∈ lw_all) (hd : decode cc pc = .ok (.getfield idx, 3)) (hn : pc + 3 = n) (k : SW x Ps bc bs n L (.int (jI m) :: st)) : SW x Ps bc bs pc L (.ref a :: st) := by
  subst hn
  intro H locs h uc us ls I hL
  have h1 := ((va_OF.moved F.gx.2.1.alike hr).narrow F.A0).kept (H1 := (xs x).heap) (fun a h1 h2 => by
    rcases Nat.lt_or_ge a (gB (xg x)) with q | q
    · exact F.gx.2.2.2 a q
    · exact absurd h1 (Nat.not_lt.mpr q))
  obtain ⟨cf, k2, fi, f, cell, g1, g2, g3, g4, g5, g6⟩ := h1.kept I.2.2.2.1.2.1
  exact W.getf F.exec F.code F.own (F.wd _ hl) g1 g2 g3 g4 (v := .int (jI m)) g5 rfl rfl hd (k H locs h uc us ls I hL)
end RMS
set_option maxRecDepth 100000 in
theorem kRM0 {g : GG} {l : Launch} (h : ST g l) : zS g "java/math/RoundingMode" "UP" "Ljava/math/RoundingMode;" (.ref (tR g (Jvm.Term.static "java/math/RoundingMode" "UP" "Ljava/math/RoundingMode;"))) ∧ rM g (tR g (Jvm.Term.static "java/math/RoundingMode" "UP" "Ljava/math/RoundingMode;")) 0 := by
  obtain ⟨a1, a2⟩ := rM_of (t := (Jvm.Term.static "java/math/RoundingMode" "UP" "Ljava/math/RoundingMode;")) (m := 0) (nw h [true, true, false, false, false, false, false, true, true, true, true, true, false] rfl) (nw h [true, true, false, false, false, false, true, false, false, false, false, false] rfl) (by decide)
  exact ⟨zS_of (h.2.1 _ q2701) (h.2.1 _ (lw_all_tbl q118)) a1, a2⟩
set_option maxRecDepth 100000 in
theorem kRM1 {g : GG} {l : Launch} (h : ST g l) : zS g "java/math/RoundingMode" "DOWN" "Ljava/math/RoundingMode;" (.ref (tR g (Jvm.Term.static "java/math/RoundingMode" "DOWN" "Ljava/math/RoundingMode;"))) ∧ rM g (tR g (Jvm.Term.static "java/math/RoundingMode" "DOWN" "Ljava/math/RoundingMode;")) 1 := by
  obtain ⟨a1, a2⟩ := rM_of (t := (Jvm.Term.static "java/math/RoundingMode" "DOWN" "Ljava/math/RoundingMode;")) (m := 1) (nw h [true, true, false, false, false, false, false, true, true, false, true, true, true] rfl) (nw h [true, true, false, false, false, false, false, true, true, true, false, true, false] rfl) (by decide)
  exact ⟨zS_of (h.2.1 _ q2685) (h.2.1 _ (lw_all_tbl q118)) a1, a2⟩
set_option maxRecDepth 100000 in
theorem kRM2 {g : GG} {l : Launch} (h : ST g l) : zS g "java/math/RoundingMode" "CEILING" "Ljava/math/RoundingMode;" (.ref (tR g (Jvm.Term.static "java/math/RoundingMode" "CEILING" "Ljava/math/RoundingMode;"))) ∧ rM g (tR g (Jvm.Term.static "java/math/RoundingMode" "CEILING" "Ljava/math/RoundingMode;")) 2 := by
  obtain ⟨a1, a2⟩ := rM_of (t := (Jvm.Term.static "java/math/RoundingMode" "CEILING" "Ljava/math/RoundingMode;")) (m := 2) (nw h [true, true, false, false, false, false, true, false, false, false, true, true, true] rfl) (nw h [true, true, false, false, false, false, true, false, false, true, false, true, false] rfl) (by decide)
  exact ⟨zS_of (h.2.1 _ q2703) (h.2.1 _ (lw_all_tbl q118)) a1, a2⟩
set_option maxRecDepth 100000 in
theorem kRM3 {g : GG} {l : Launch} (h : ST g l) : zS g "java/math/RoundingMode" "FLOOR" "Ljava/math/RoundingMode;" (.ref (tR g (Jvm.Term.static "java/math/RoundingMode" "FLOOR" "Ljava/math/RoundingMode;"))) ∧ rM g (tR g (Jvm.Term.static "java/math/RoundingMode" "FLOOR" "Ljava/math/RoundingMode;")) 3 := by
  obtain ⟨a1, a2⟩ := rM_of (t := (Jvm.Term.static "java/math/RoundingMode" "FLOOR" "Ljava/math/RoundingMode;")) (m := 3) (nw h [true, true, false, false, false, false, true, false, true, false, false, true, false] rfl) (nw h [true, true, false, false, false, false, true, false, true, false, true, false] rfl) (by decide)
  exact ⟨zS_of (h.2.1 _ q2705) (h.2.1 _ (lw_all_tbl q118)) a1, a2⟩
set_option maxRecDepth 100000 in
theorem kRM4 {g : GG} {l : Launch} (h : ST g l) : zS g "java/math/RoundingMode" "HALF_UP" "Ljava/math/RoundingMode;" (.ref (tR g (Jvm.Term.static "java/math/RoundingMode" "HALF_UP" "Ljava/math/RoundingMode;"))) ∧ rM g (tR g (Jvm.Term.static "java/math/RoundingMode" "HALF_UP" "Ljava/math/RoundingMode;")) 4 := by
  obtain ⟨a1, a2⟩ := rM_of (t := (Jvm.Term.static "java/math/RoundingMode" "HALF_UP" "Ljava/math/RoundingMode;")) (m := 4) (nw h [true, false, false, false, false, true, true, true, false, true, true, true, false] rfl) (nw h [true, false, false, false, false, true, true, true, true, false, false, false] rfl) (by decide)
  exact ⟨zS_of (h.2.1 _ q342) (h.2.1 _ (lw_all_tbl q118)) a1, a2⟩
set_option maxRecDepth 100000 in
theorem kRM5 {g : GG} {l : Launch} (h : ST g l) : zS g "java/math/RoundingMode" "HALF_DOWN" "Ljava/math/RoundingMode;" (.ref (tR g (Jvm.Term.static "java/math/RoundingMode" "HALF_DOWN" "Ljava/math/RoundingMode;"))) ∧ rM g (tR g (Jvm.Term.static "java/math/RoundingMode" "HALF_DOWN" "Ljava/math/RoundingMode;")) 5 := by
  obtain ⟨a1, a2⟩ := rM_of (t := (Jvm.Term.static "java/math/RoundingMode" "HALF_DOWN" "Ljava/math/RoundingMode;")) (m := 5) (nw h [true, true, false, false, false, false, true, false, true, true, true, false, true] rfl) (nw h [true, true, false, false, false, false, true, false, true, true, true, true, true] rfl) (by decide)
  exact ⟨zS_of (h.2.1 _ q2708) (h.2.1 _ (lw_all_tbl q118)) a1, a2⟩
set_option maxRecDepth 100000 in
theorem kRM6 {g : GG} {l : Launch} (h : ST g l) : zS g "java/math/RoundingMode" "HALF_EVEN" "Ljava/math/RoundingMode;" (.ref (tR g (Jvm.Term.static "java/math/RoundingMode" "HALF_EVEN" "Ljava/math/RoundingMode;"))) ∧ rM g (tR g (Jvm.Term.static "java/math/RoundingMode" "HALF_EVEN" "Ljava/math/RoundingMode;")) 6 := by
  obtain ⟨a1, a2⟩ := rM_of (t := (Jvm.Term.static "java/math/RoundingMode" "HALF_EVEN" "Ljava/math/RoundingMode;")) (m := 6) (nw h [true, true, false, false, false, false, true, true, false, true, false, true, false] rfl) (nw h [true, true, false, false, false, false, true, true, false, true, true, false] rfl) (by decide)
  exact ⟨zS_of (h.2.1 _ q2710) (h.2.1 _ (lw_all_tbl q118)) a1, a2⟩
set_option maxRecDepth 100000 in
theorem kRM7 {g : GG} {l : Launch} (h : ST g l) : zS g "java/math/RoundingMode" "UNNECESSARY" "Ljava/math/RoundingMode;" (.ref (tR g (Jvm.Term.static "java/math/RoundingMode" "UNNECESSARY" "Ljava/math/RoundingMode;"))) ∧ rM g (tR g (Jvm.Term.static "java/math/RoundingMode" "UNNECESSARY" "Ljava/math/RoundingMode;")) 7 := by
  obtain ⟨a1, a2⟩ := rM_of (t := (Jvm.Term.static "java/math/RoundingMode" "UNNECESSARY" "Ljava/math/RoundingMode;")) (m := 7) (nw h [true, true, false, false, false, false, false, true, true, false, false, false] rfl) (nw h [true, true, false, false, false, false, false, true, true, false, false, true, true] rfl) (by decide)
  exact ⟨zS_of (h.2.1 _ q2647) (h.2.1 _ (lw_all_tbl q118)) a1, a2⟩
