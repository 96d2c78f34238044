/-! what the start's premises say of constants -/
def nAt : Cond → List Bool → Option Cond
  | c, [] => some c
  | .and a _, false :: t => nAt a t
  | .and _ b, true :: t => nAt b t
  | _, _ :: _ => none
theorem nAt_ok {args : Array Value} {s : State} : ∀ (t : List Bool) (c d : Cond), c.before args s = true → nAt c t = some d → d.before args s = true := by
  intro t
  induction t with
  | nil => intro c d h e; simp only [nAt] at e; cases e; exact h
  | cons b t ih =>
    intro c d h e
    cases c with
    | and a a2 =>
      rw [Cond.before_and, Bool.and_eq_true] at h
      cases b with
      | false => exact ih a d h.1 e
      | true => exact ih a2 d h.2 e
    | _ => cases b <;> simp [nAt] at e
def tE (g : GG) (t : Term) : Option Value := t.eval #[Value.ref g.2.2.2] (gS g) none [] (gS g)
def tR (g : GG) (t : Term) : Nat := match tE g t with
  | some (.ref a) => a
  | _ => 0
theorem tR_of {g : GG} {t : Term} {a : Nat} (h : tE g t = some (.ref a)) : tR g t = a := by unfold tR; rw [h]
theorem nw {g : GG} {l : Launch} (h : ST g l) {d : Cond} (t : List Bool) (e : nAt (Jvm.Cond.and given_1 narrow_1) t = some d) : d.before #[Value.ref g.2.2.2] (gS g) = true := nAt_ok t _ _ h.2.2.1 e
theorem gA (g : GG) : ∀ a : Nat, a < (gS g).heap.size → ¬ gB g ≤ a := fun a h => by unfold gB; omega
theorem zS_of {g : GG} {C n d : String} {v : Value} (hl : (Cond.laysStatic C n d).before #[Value.ref g.2.2.2] (gS g) = true) (hi : (Cond.initialized C).before #[Value.ref g.2.2.2] (gS g) = true) (hv : tE g (.static C n d) = some v) : zS g C n d v := va_Zof hl hi hv (gA g)
theorem cA_of {g : GG} {tm : Term} {ty : FieldType} {N : Nat} {f : Nat → Value} (hN : N < 2 ^ 31) (harr : (Cond.arrayOf tm ty).before #[Value.ref g.2.2.2] (gS g) = true) (hlen : tE g (.length tm) = some (.int (Int32.ofNat N))) (hel : ∀ j : Nat, j < N → tE g (.elem tm (.int (Int32.ofNat j))) = some (f j)) : tE g tm = some (.ref (tR g tm)) ∧ cA g ty (tR g tm) N f := by
  obtain ⟨t, cell, ht, hat, hv⟩ := Term.length_spec hlen
  obtain ⟨hcell, hkn, hst, -⟩ := State.arrayAt?_spec hat
  obtain ⟨hof, -⟩ := Cond.arrayOf_spec harr ht hcell
  have hlt : cell.slots.size < 2 ^ 31 := by
    rcases Nat.lt_or_ge cell.slots.size (2 ^ 31) with c | c
    · exact c
    · have e := hlen
      unfold tE at e
      simp [Term.eval, ht, hat, Nat.not_lt.mpr c] at e
  have hsz : cell.slots.size = N := by
    have e2 := congrArg Int32.toNatClampNeg (Value.int.inj hv)
    rw [Int32.toNatClampNeg_ofNat_of_lt hN] at e2
    have e3 : cell.slots.size.toInt32.toNatClampNeg = cell.slots.size := Int32.toNatClampNeg_ofNat_of_lt hlt
    rw [e3] at e2
    exact e2.symm
  rw [tR_of ht]
  refine ⟨ht, (Array.getElem?_eq_some_iff.mp hcell).1, cell, hcell, hof, hkn, hst, hsz, fun j hj => ?_⟩
  obtain ⟨a, i, cell2, h1, h2, h3, h4, h5⟩ := Term.elem_spec (hel j hj)
  cases ht.symm.trans h1
  cases hat.symm.trans h3
  have hi : i = Int32.ofNat j := by
    have e : (Term.int (Int32.ofNat j)).eval #[Value.ref g.2.2.2] (gS g) none [] (gS g) = some (.int (Int32.ofNat j)) := rfl
    cases h2.symm.trans e
    rfl
  have hc : i.toNatClampNeg = j := by rw [hi]; exact Int32.toNatClampNeg_ofNat_of_lt (Nat.lt_trans hj hN)
  rw [hc] at h5
  exact h5
theorem ex_of {g : GG} {t : Term} {C : String} (hex : (Cond.exactly t C).before #[Value.ref g.2.2.2] (gS g) = true) : tE g t = some (.ref (tR g t)) ∧ ∃ cell : Cell, (gS g).heap[tR g t]? = some cell ∧ (gS g).vm.findClass C = some cell.cls ∧ cell.vm.isStatics = false := by
  obtain ⟨a, c, cell, k, h1, h2, h3, h4, h5, h6, h7⟩ := Cond.exactly_spec hex
  have e := tR_of (g := g) h1
  rw [e]
  exact ⟨h1, cell, h3, by rw [h6]; exact h2, h5⟩
theorem cO_of {g : GG} {l : Launch} (h : ST g l) {t : Term} {ci N : Nat} {C : String} {T : u_T} {fs : List Value} (hc : vwCl[ci]? = some (C, T, N)) (hN : 0 < N) (hex : (Cond.exactly t C).before #[Value.ref g.2.2.2] (gS g) = true) (hf : ∀ k, k < N → tE g (.field t (T k).1 (T k).2.1 (T k).2.2.1) = some (vp_V fs k)) : tE g t = some (.ref (tR g t)) ∧ tR g t < gB g ∧ cO g (tR g t) ci fs := by
  obtain ⟨h1, cell, h2, h3, h4⟩ := ex_of hex
  obtain ⟨hS, hfc, kC, hkC, hkind⟩ := h.1.1 ci _ hc
  have hlt : tR g t < gB g := (Array.getElem?_eq_some_iff.mp h2).1
  have key : ∀ k, k < N → cell.vm ≠ .unknown ∧ cell.slots[g.1.2 ci k]? = some (vp_V fs k) := fun k hk => by
    obtain ⟨cf, kf, fi, f, hi, hsl⟩ := hS k hk
    obtain ⟨-, cell2, k1, k2, k3, k4, k5⟩ := Term.field_spec hi h1 (hf k hk)
    have e : cell2 = cell := Option.some.inj (k1.symm.trans h2)
    subst e
    exact ⟨k2, by rw [← hsl]; exact k5⟩
  refine ⟨h1, hlt, hlt, cell, h2, (C, T, N), hc, ?_, (key 0 hN).1, h4, fun k hk => (key k hk).2⟩
  have hfc2 : (gS g).vm.findClass C = some (g.1.1 ci) := hfc
  exact (Option.some.inj (h3.symm.trans hfc2))
theorem cI_of {g : GG} {l : Launch} (h : ST g l) {t : Term} {v : Int} {n : Nat} {f : Nat → Nat} {z0 z2 z3 z4 z5 : Int32}
    (hex : (Cond.exactly t "java/math/BigInteger").before #[Value.ref g.2.2.2] (gS g) = true)
    (h0 : (Cond.eq (.field t "java/math/BigInteger" "signum" "I") (.int z0)).before #[Value.ref g.2.2.2] (gS g) = true)
    (h2 : (Cond.eq (.field t "java/math/BigInteger" "bitCountPlusOne" "I") (.int z2)).before #[Value.ref g.2.2.2] (gS g) = true)
    (h3 : (Cond.eq (.field t "java/math/BigInteger" "bitLengthPlusOne" "I") (.int z3)).before #[Value.ref g.2.2.2] (gS g) = true)
    (h4 : (Cond.eq (.field t "java/math/BigInteger" "lowestSetBitPlusTwo" "I") (.int z4)).before #[Value.ref g.2.2.2] (gS g) = true)
    (h5 : (Cond.eq (.field t "java/math/BigInteger" "firstNonzeroIntNumPlusTwo" "I") (.int z5)).before #[Value.ref g.2.2.2] (gS g) = true)
    (e0 : z0 = jI (sgI v)) (e5 : z5 = jI ((fac 4294967296 v.natAbs : Int) + 2)) (hN : n < 2 ^ 31)
    (hexm : (Cond.exactly (.field t "java/math/BigInteger" "mag" "[I") "[I").before #[Value.ref g.2.2.2] (gS g) = true)
    (harr : (Cond.arrayOf (.field t "java/math/BigInteger" "mag" "[I") .int).before #[Value.ref g.2.2.2] (gS g) = true)
    (hlen : (Cond.eq (.length (.field t "java/math/BigInteger" "mag" "[I")) (.int (Int32.ofNat n))).before #[Value.ref g.2.2.2] (gS g) = true)
    (hel : ∀ j : Nat, j < n → tE g (.elem (.field t "java/math/BigInteger" "mag" "[I") (.int (Int32.ofNat j))) = some (.int (jI (f j : Nat)))) (hw : wOK n f) (hv : wv f n = v.natAbs) :
    tE g t = some (.ref (tR g t)) ∧ cAtI g (tR g t) v (tR g (.field t "java/math/BigInteger" "mag" "[I")) := by
  obtain ⟨a1, a2⟩ := cA_of (f := fun j => .int (jI (f j : Nat))) hN harr (va_eqt hlen) hel
  have b0 := va_eqt h0; have b2 := va_eqt h2; have b3 := va_eqt h3; have b4 := va_eqt h4; have b5 := va_eqt h5
  have key := cO_of h (ci := 16) (N := 6) (C := RJ19) (T := TJ19) (fs := flI v (tR g (.field t "java/math/BigInteger" "mag" "[I")) z2.toInt z3.toInt z4.toInt ((fac 4294967296 v.natAbs : Int) + 2)) rfl (by decide) hex (fun k hk => by
    match k, hk with
    | 0, _ => exact b0.trans (by rw [e0]; rfl)
    | 1, _ => exact a1
    | 2, _ => exact b2.trans (by show _ = some (Value.int (jI z2.toInt)); rw [jI_of])
    | 3, _ => exact b3.trans (by show _ = some (Value.int (jI z3.toInt)); rw [jI_of])
    | 4, _ => exact b4.trans (by show _ = some (Value.int (jI z4.toInt)); rw [jI_of])
    | 5, _ => exact b5.trans (by rw [e5]; rfl)
    | k + 6, hk => omega)
  obtain ⟨-, cell, m1, m2, -⟩ := ex_of hexm
  exact ⟨key.1, key.2.1, ⟨_, _, _, key.2.2⟩, n, f, ⟨a2, cell, m1, m2⟩, hw, hv⟩
theorem cD_of {g : GG} {l : Launch} (h : ST g l) {t : Term} {u s : Int} {b : Nat} {z1 z2 : Int32} {z4 : Int64}
    (hex : (Cond.exactly t "java/math/BigDecimal").before #[Value.ref g.2.2.2] (gS g) = true)
    (hb : tE g (.field t "java/math/BigDecimal" "intVal" "Ljava/math/BigInteger;") = some (.ref b))
    (h1 : (Cond.eq (.field t "java/math/BigDecimal" "scale" "I") (.int z1)).before #[Value.ref g.2.2.2] (gS g) = true)
    (h2 : (Cond.eq (.field t "java/math/BigDecimal" "precision" "I") (.int z2)).before #[Value.ref g.2.2.2] (gS g) = true)
    (h3 : (Cond.eq (.field t "java/math/BigDecimal" "stringCache" "Ljava/lang/String;") .null).before #[Value.ref g.2.2.2] (gS g) = true)
    (h4 : (Cond.eq (.field t "java/math/BigDecimal" "intCompact" "J") (.long z4)).before #[Value.ref g.2.2.2] (gS g) = true)
    (e1 : z1 = jI s) (e2 : z2 = jI (dgc u.natAbs)) (e4 : z4 = jL (cpt u)) (hI : ∃ a, cAtI g b u a) :
    tE g t = some (.ref (tR g t)) ∧ cAt g (tR g t) (vD u s (some b)) := by
  have b1 := va_eqt h1; have b2 := va_eqt h2; have b3 := va_eqv h3 (v := .null) rfl; have b4 := va_eqtl h4
  have key := cO_of h (ci := 13) (N := 5) (C := RJ8) (T := TJ8) (fs := flD u s (some b) (dgc u.natAbs)) rfl (by decide) hex (fun k hk => by
    match k, hk with
    | 0, _ => exact hb
    | 1, _ => exact b1.trans (by rw [e1]; rfl)
    | 2, _ => exact b2.trans (by rw [e2]; rfl)
    | 3, _ => exact b3
    | 4, _ => exact b4.trans (by rw [e4]; rfl)
    | k + 5, hk => omega)
  exact ⟨key.1, key.2.1, key.2.2, (fun e => by (cases e)), (fun b2 e => by (cases e; exact hI))⟩
