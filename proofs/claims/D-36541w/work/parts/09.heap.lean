/-! rows that read and write the world -/
section HEAP
variable {x : EX} {y : MethodName} {cc : ByteArray} {ret : Option FieldType} {nL fr lo : Nat} {tab : List ExceptionTableEntry} {Ps : List HP} {bc bs pc n : Nat} {L : List (Nat × Value)} {st : List Value}
theorem ph_1_self {q : Nat} {c : Cell} : ph_1 q c q = some c := by simp [ph_1]
theorem ph_1_ne {a q : Nat} {c : Cell} (h : q ≠ a) : ph_1 a c q = none := by simp [ph_1, h]
theorem ph_1_D {a : Nat} {c : Cell} {b : PH} (h : b a = none) : ph_D (ph_1 a c) b := fun q => by
  by_cases e : q = a
  · subst e; exact Or.inr h
  · exact Or.inl (ph_1_ne e)
theorem ph_D_1 {a : Nat} {c : Cell} {b : PH} (h : ph_D (ph_1 a c) b) : b a = none := (h a).resolve_left (by rw [ph_1_self]; simp)
/-- the world behind a write to one cell -/
theorem xI_write {P P' : HP} {i a : Nat} {c' : Cell} {H H' : Heap} {locs : List Loc} {h : PH} {uc us k : Nat} (I : xI x Ps bc bs H locs h uc us) (hat : Ps[i]? = some P) (hP : ∀ h, P h → ∃ c, h = ph_1 a c) (hP' : P' (ph_1 a c'))
    (e1 : H'[a]? = some c') (e2 : H'.size = H.size) (e3 : ∀ q, q ≠ a → H'[q]? = H[q]?) : ∃ h', xI x (Ps.set i P') bc bs H' (locs ++ [⟨a, k⟩]) h' uc us := by
  obtain ⟨hs, hS, hA, hV, i1, i2⟩ := I
  obtain ⟨h1, h2, hd, rfl, hp, hset⟩ := sl_at hat hs
  obtain ⟨c0, rfl⟩ := hP _ hp
  have hn := ph_D_1 hd
  have hAa : xA x a := hA a (by intro e; have := (ph_U_none.mp e).1; rw [ph_1_self] at this; cases this)
  refine ⟨ph_U (ph_1 a c') h2, hset P' _ hP' (ph_1_D hn), ?_, ?_, hV.put e2 e3 hAa, i1, i2⟩
  · refine ph_S_U ?_ (ph_S_keep (ph_S_r hd hS) fun q hq => e3 q (fun e => hq (by rw [e]; exact hn)))
    intro q c e
    by_cases hqa : q = a
    · subst hqa; rw [ph_1_self] at e; cases e; exact e1
    · rw [ph_1_ne hqa] at e; cases e
  · intro q hq
    by_cases hqa : q = a
    · subst hqa; exact hAa
    · exact hA q (by intro e; obtain ⟨-, k2⟩ := ph_U_none.mp e; exact hq (ph_U_none.mpr ⟨ph_1_ne hqa, k2⟩))
/-- the world behind a new cell -/
theorem xI_new {P' : HP} {c' : Cell} {H H' : Heap} {locs : List Loc} {h : PH} {uc us N : Nat} {bc2 bs2 : Nat} (F : Fx x y cc ret nL fr lo tab) (I : xI x Ps bc bs H locs h uc us) (hb : 1 + bc2 ≤ bc ∧ N + bs2 ≤ bs) (hP' : P' (ph_1 H.size c'))
    (e1 : H'[H.size]? = some c') (e2 : H'.size = H.size + 1) (e3 : ∀ q, q < H.size → H'[q]? = H[q]?) : ∃ h', xI x (P' :: Ps) bc2 bs2 H' locs h' (uc + 1) (us + N) := by
  obtain ⟨hs, hS, hA, hV, i1, i2⟩ := I
  have hn : h H.size = none := by
    cases e : h H.size with
    | none => rfl
    | some c => exact absurd (ph_S_lt hS (q := H.size) (by rw [e]; simp)) (by omega)
  refine ⟨ph_U (ph_1 H.size c') h, ⟨_, _, ph_1_D hn, rfl, hP', hs⟩, ?_, ?_, ?_, by omega, by omega⟩
  · refine ph_S_U ?_ (ph_S_keep hS fun q hq => e3 q (ph_S_lt hS hq))
    intro q c e
    by_cases hqa : q = H.size
    · subst hqa; rw [ph_1_self] at e; cases e; exact e1
    · rw [ph_1_ne hqa] at e; cases e
  · intro q hq
    by_cases hqa : q = H.size
    · subst hqa; exact F.A1 _ hV.1
    · exact hA q (by intro e; exact hq (ph_U_none.mpr ⟨ph_1_ne hqa, e⟩))
  · exact ⟨by have := hV.1; omega, fun q h1 h2 => (e3 q (Nat.lt_of_lt_of_le h1 hV.1)).trans (hV.2.1 q h1 h2), hV.2.2⟩
/-- a field's link -/
def FL (own : String) (idx ci k : Nat) (ref : String) : Prop := ∃ r : vw_C, vwCl[ci]? = some r ∧ k < r.2.2 ∧ Cond.fieldLink own idx ref (r.2.1 k).2.1 (r.2.1 k).2.2.1 ∈ lw_all ∧ (∀ w ∈ u_ws r.1 r.2.1 r.2.2, w ∈ lw_all) ∧ (ref = (r.2.1 k).1 ∨ Cond.sameField ref (r.2.1 k).1 (r.2.1 k).2.1 (r.2.1 k).2.2.1 ∈ lw_all)
theorem FL.same {own : String} {idx : Nat} {k : Nat} {ref : String} {T : u_T} {s : State} {args : Array Value} (h : ref = (T k).1 ∨ Cond.sameField ref (T k).1 (T k).2.1 (T k).2.2.1 ∈ lw_all) (hts : ∀ w ∈ lw_all, w.before args s = true) : ∀ z, s.fieldFound? (T k).1 (T k).2.1 (T k).2.2.1 = some z → s.fieldFound? ref (T k).2.1 (T k).2.2.1 = some z := by
  intro z hz
  rcases h with e | e
  · rw [e]; exact hz
  · exact u_same (hts _ e) z hz
theorem ob_P {g : GG} {i a ci : Nat} {fs : List Value} {h : PH} {H : Heap} (hat : Ps[i]? = some (ob g a ci fs)) (hs : sl Ps h) (hS : ph_S h H) : va_P g.1 vwCl [(a, .inr (ci, fs))] H := by
  obtain ⟨h1, h2, hd, rfl, ⟨c, rfl, r, hc, q1, q2, q3⟩, -⟩ := sl_at hat hs
  intro k q hq
  have hz : k < 1 := (List.getElem?_eq_some_iff.mp hq).1
  rw [show k = 0 by omega] at hq
  cases hq
  exact ⟨r, hc, c, ph_S_l hS a c ph_1_self, q1, q2, q3⟩
theorem ar_at {g : GG} {i a k N : Nat} {f : Nat → Value} {h : PH} {H : Heap} (hat : Ps[i]? = some (ar g k a N f)) (hs : sl Ps h) (hS : ph_S h H) : H[a]? = some (arrV (g.2.1 k) N f) := by
  obtain ⟨h1, h2, hd, rfl, e, -⟩ := sl_at hat hs
  have e : h1 = ph_1 a (arrV (g.2.1 k) N f) := e
  subst e
  exact ph_S_l hS a _ ph_1_self
theorem sw_get (F : Fx x y cc ret nL fr lo tab) (i : Nat) {a ci : Nat} {fs : List Value} (hat : Ps[i]? = some (ob (xg x) a ci fs)) {idx k : Nat} {ref : String} (hl : FL y.cls idx ci k ref) {v : Value} (hv : fs[k]? = some v) (hd : decode cc pc = .ok (.getfield idx, 3)) (hn : pc + 3 = n) (kk : SW x Ps bc bs n L (v :: st)) : SW x Ps bc bs pc L (.ref a :: st) := by
  subst hn
  intro H locs h uc us ls I hL
  obtain ⟨⟨C, T, N⟩, hc, hk, hlink, hin, hsame⟩ := hl
  exact va_get F.exec F.code F.wd hin F.own F.K (ob_P hat I.1 I.2.1) 0 rfl hc k hk (F.wd _ hlink) (FL.same (own := "") (idx := 0) hsame F.wd) hv hd (kk H locs h uc us ls I hL)
/-- writing a field that isn't final -/
theorem sw_put (F : Fx x y cc ret nL fr lo tab) (i : Nat) {a ci : Nat} {fs fs' : List Value} (hat : Ps[i]? = some (ob (xg x) a ci fs)) {idx k : Nat} {ref : String} (hl : FL y.cls idx ci k ref) {v : Value} (ty : FieldType)
    (hk : ∃ r : vw_C, vwCl[ci]? = some r ∧ (r.2.1 k).2.2.2 = false ∧ parseFieldDescriptor (r.2.1 k).2.2.1 = some ty ∧ (∀ a, a < r.2.2 → ∀ b, b < r.2.2 → a ≠ b → (r.2.1 a).2.1 ≠ (r.2.1 b).2.1) ∧ ∃ ty0 : Nat → FieldType, ∀ k, k < r.2.2 → parseFieldDescriptor (r.2.1 k).2.2.1 = some (ty0 k))
    (hn1 : narrow ty v = v) (hfit : fits ty v = true) (hlen : k < fs.length) (hfs : fs.set k v = fs') (Ps' : List HP) (hPs : Ps.set i (ob (xg x) a ci fs') = Ps') (hd : decode cc pc = .ok (.putfield idx, 3)) (hn : pc + 3 = n) (kk : SW x Ps' bc bs n L st) : SW x Ps bc bs pc L (v :: .ref a :: st) := by
  subst hn; subst hPs; subst hfs
  intro H locs h uc us ls I hL
  obtain ⟨⟨C, T, N⟩, hc, hk1, hlink, hin, hsame⟩ := hl
  obtain ⟨r', hc', hfin, hdp, hnm, ty0, hty⟩ := hk
  cases hc.symm.trans hc'
  have hap := va_apart (own := y.cls) F.wd hin ty0 hty hnm F.K hc
  obtain ⟨r, h1, cell, q1, q2, q3, q4⟩ := ob_P hat I.1 I.2.1 0 _ rfl
  cases h1.symm.trans hc
  obtain ⟨hS, hfc, kC, hkC, hkind⟩ := F.K.1 ci _ hc
  obtain ⟨cf, kf, fi, f, hi, hsl⟩ := hS k hk1
  have hlay := F.wd _ (hin _ (u_in_lay hk1))
  unfold u_lay at hlay
  rw [if_neg (by rw [hfin]; decide)] at hlay
  have hst := (u_facts hfc hkC (u_lays F.wd hin hk1) hi).1
  have h6 := u_store hfc hkC hkind hlay hi hdp hn1 hfit
  refine W.putK F.exec F.code (f := f) ⟨F.own, F.wd _ hlink, ⟨_, _, _, FL.same (own := "") (idx := 0) hsame F.wd _ hi⟩, hst⟩ (by rw [q2]; exact h6) q1 q3 (by rw [hsl]; exact k2_hasslot (q4 k hk1)) rfl rfl hd fun H' e1 e2 e3 => ?_
  rw [hsl] at e1 ⊢
  obtain ⟨h', I'⟩ := xI_write (P' := ob (xg x) a ci (fs.set k v)) (k := (xg x).1.2 ci k) I hat (fun h ⟨c, e, _⟩ => ⟨c, e⟩)
    ⟨cell.setSlot ((xg x).1.2 ci k) v, rfl, (C, T, N), hc, q2, q3, fun j hj => by have z := t_set q4 hap hk1 v j hj; rw [vp_updV_set hlen] at z; exact z⟩ e1 e2 e3
  exact kk H' _ h' uc us ls I' hL
/-- writing a final field, in its class's constructor -/
theorem sw_putF (F : Fx x y cc ret nL fr lo tab) (hin2 : y.name = "<init>") (i : Nat) {a ci : Nat} {fs fs' : List Value} (hat : Ps[i]? = some (ob (xg x) a ci fs)) {idx k : Nat} {ref : String} (hl : FL y.cls idx ci k ref) {v : Value} (ty : FieldType)
    (hk : ∃ r : vw_C, vwCl[ci]? = some r ∧ (r.2.1 k).2.2.2 = true ∧ (r.2.1 k).1 = y.cls ∧ parseFieldDescriptor (r.2.1 k).2.2.1 = some ty ∧ (∀ a, a < r.2.2 → ∀ b, b < r.2.2 → a ≠ b → (r.2.1 a).2.1 ≠ (r.2.1 b).2.1) ∧ ∃ ty0 : Nat → FieldType, ∀ k, k < r.2.2 → parseFieldDescriptor (r.2.1 k).2.2.1 = some (ty0 k))
    (hn1 : narrow ty v = v) (hfit : fits ty v = true) (hlen : k < fs.length) (hfs : fs.set k v = fs') (Ps' : List HP) (hPs : Ps.set i (ob (xg x) a ci fs') = Ps') (hd : decode cc pc = .ok (.putfield idx, 3)) (hn : pc + 3 = n) (kk : SW x Ps' bc bs n L st) : SW x Ps bc bs pc L (v :: .ref a :: st) := by
  subst hn; subst hPs; subst hfs
  intro H locs h uc us ls I hL
  obtain ⟨⟨C, T, N⟩, hc, hk1, hlink, hin, hsame⟩ := hl
  obtain ⟨r', hc', hfin, hdecl, hdp, hnm, ty0, hty⟩ := hk
  cases hc.symm.trans hc'
  have hap := va_apart (own := y.cls) F.wd hin ty0 hty hnm F.K hc
  obtain ⟨r, h1, cell, q1, q2, q3, q4⟩ := ob_P hat I.1 I.2.1 0 _ rfl
  cases h1.symm.trans hc
  obtain ⟨hS, hfc, kC, hkC, hkind⟩ := F.K.1 ci _ hc
  obtain ⟨cf, kf, fi, f, hi, hsl⟩ := hS k hk1
  have hlay := F.wd _ (hin _ (u_in_lay hk1))
  unfold u_lay at hlay
  rw [if_pos hfin] at hlay
  have hst := (u_facts hfc hkC (u_lays F.wd hin hk1) hi).1
  have hcf : (xm x).cls = cf := by
    obtain ⟨_, _, c', _, _, _, -, -, hf', -, -, -, hown2, -⟩ := Cond.laysFinal_spec hlay
    have e1 : c' = cf := by have := hi.symm.trans hf'; simp at this; exact this.1.symm
    have hdecl : (T k).1 = y.cls := hdecl
    rw [hdecl] at hown2
    rw [← e1]; exact Option.some.inj (F.own.symm.trans hown2)
  have h6 := u_fits hfc hkC hkind (Or.inr hlay) hi hdp hn1 hfit
  refine W.putFinK F.exec F.code F.own (F.wd _ hlink) (FL.same (own := "") (idx := 0) hsame F.wd _ hi) hst hcf (F.nm.trans hin2) (by rw [q2]; exact h6) q1 q3 (by rw [hsl]; exact k2_hasslot (q4 k hk1)) rfl rfl hd fun H' e1 e2 e3 => ?_
  rw [hsl] at e1 ⊢
  obtain ⟨h', I'⟩ := xI_write (P' := ob (xg x) a ci (fs.set k v)) (k := (xg x).1.2 ci k) I hat (fun h ⟨c, e, _⟩ => ⟨c, e⟩)
    ⟨cell.setSlot ((xg x).1.2 ci k) v, rfl, (C, T, N), hc, q2, q3, fun j hj => by have z := t_set q4 hap hk1 v j hj; rw [vp_updV_set hlen] at z; exact z⟩ e1 e2 e3
  exact kk H' _ h' uc us ls I' hL
/-- a new object -/
theorem sw_new (F : Fx x y cc ret nL fr lo tab) {idx ci N : Nat} (C : String) (T : u_T) (ty : Nat → FieldType) (hc : vwCl[ci]? = some (C, T, N)) (hcl : Cond.classLink y.cls idx C ∈ lw_all) (hinst : Cond.instantiable C N ∈ lw_all) (hini : Cond.initialized C ∈ lw_all) (hin : ∀ w ∈ u_ws C T N, w ∈ lw_all) (hty : ∀ k, k < N → parseFieldDescriptor (T k).2.2.1 = some (ty k))
    {fs : List Value} (hfs : (List.range N).map (fun j => defaultValue (ty j)) = fs) (bc2 bs2 : Nat) (hb : 1 + bc2 ≤ bc ∧ N + bs2 ≤ bs) (hd : decode cc pc = .ok (.new idx, 3)) (hn : pc + 3 = n) (kk : ∀ q : Nat, SW x (ob (xg x) q ci fs :: Ps) bc2 bs2 n L (.ref q :: st)) : SW x Ps bc bs pc L st := by
  subst hn
  intro H locs h uc us ls I hL
  have hKn := F.K.1 ci _ hc
  refine W.newcK F.exec F.code F.own (F.wd _ hcl) (F.wd _ hinst) (F.wd _ hini) rfl hd (by show uc + 1 ≤ (xn x).2.2.1; have := I.2.2.2.2.1; omega) (by show us + N ≤ (xn x).2.2.2.1; have := I.2.2.2.2.2; omega) hKn.2.1 rfl fun H1 kC hkC e1 z1 o1 => ?_
  have hb1 := u_born ty F.wd hin hKn hkC e1 hty
  obtain ⟨cell, g1, g2, g3, g4⟩ := hb1
  cases e1.symm.trans g1
  obtain ⟨h', I'⟩ := xI_new (P' := ob (xg x) H.size ci fs) (N := N) (bc2 := bc2) (bs2 := bs2) F I hb ⟨_, rfl, (C, T, N), hc, g2, g3, fun k hk => by
    rw [g4 k hk, ← hfs]
    simp [vp_V, List.getD, hk]⟩ e1 z1 o1
  exact kk H.size H1 locs h' _ _ ls I' hL
/-- a new array of numbers -/
theorem sw_newa (F : Fx x y cc ret nL fr lo tab) {atype : ArrayType} (ty : FieldType) (t0 : Nat) (hty : newarray.typeOf atype = ty) (harr : Cond.arrayClass ty ∈ lw_all) (ht : ∀ dA, (tysG dA)[t0]? = some (dA t0, ty)) {z : Int} (N : Nat) (hz : z = (N : Int)) (hbytes : N ≤ 67108864) (bc2 bs2 : Nat) (hb : 1 + bc2 ≤ bc ∧ N + bs2 ≤ bs) (hd : decode cc pc = .ok (.newarray atype, 2)) (hn : pc + 2 = n) (kk : ∀ q : Nat, SW x (ar (xg x) t0 q N (fun _ => defaultValue ty) :: Ps) bc2 bs2 n L (.ref q :: st)) : SW x Ps bc bs pc L (.int (jI z) :: st) := by
  subst hn; subst hty; subst hz
  intro H locs h uc us ls I hL
  have hcl : (jI (N : Int)).toNatClampNeg = N := jI_cl rfl (by omega)
  refine va_newaK F.exec F.code (F.wd _ harr) rfl hd rfl (by rw [jI_0, jI_lt (by omega) (by omega)]; omega) hcl (Nat.le_trans (Nat.mul_le_mul hbytes (show componentBytes (newarray.typeOf atype) ≤ 8 by cases atype <;> decide)) (by decide)) (by show uc + 1 ≤ (xn x).2.2.1; have := I.2.2.2.2.1; omega) (by show us + N ≤ (xn x).2.2.2.1; have := I.2.2.2.2.2; omega) rfl fun H1 cA e1 z1 o1 hAr hNm => ?_
  have e := (F.K.2 t0 _ (ht _)).2
  have hcA : cA = (xg x).2.1 t0 := by
    have e2 : (xs x).vm.findClass ("[" ++ (newarray.typeOf atype).toString) = some ((xg x).2.1 t0) := by cases atype <;> exact e
    exact Option.some.inj (hNm.symm.trans e2)
  subst hcA
  obtain ⟨h', I'⟩ := xI_new (P' := ar (xg x) t0 H.size N (fun _ => defaultValue (newarray.typeOf atype))) (N := N) (bc2 := bc2) (bs2 := bs2) F I hb rfl e1 z1 o1
  exact kk H.size H1 locs h' _ _ ls I' hL
theorem sw_alen (F : Fx x y cc ret nL fr lo tab) (i : Nat) {a t0 N : Nat} {f : Nat → Value} {ty : FieldType} (hat : Ps[i]? = some (ar (xg x) t0 a N f)) (ht : ∀ dA, (tysG dA)[t0]? = some (dA t0, ty)) (hd : decode cc pc = .ok (.arraylength, 1)) (hn : pc + 1 = n) (k : SW x Ps bc bs n L (.int (jI (N : Int)) :: st)) : SW x Ps bc bs pc L (.ref a :: st) := by
  subst hn
  intro H locs h uc us ls I hL
  refine W.alen F.exec F.code (ar_at hat I.1 I.2.1) ((F.K.2 t0 _ (ht _)).1 N f) (n := jI (N : Int)) ?_ rfl rfl hd (k H locs h uc us ls I hL)
  rw [arrV_size]
  exact jI_nat N
theorem sw_iaload (F : Fx x y cc ret nL fr lo tab) (i : Nat) {a t0 N : Nat} {f : Nat → Value} (hat : Ps[i]? = some (ar (xg x) t0 a N f)) (ht : ∀ dA, (tysG dA)[t0]? = some (dA t0, .int)) {z : Int} (j : Nat) (hz : z = (j : Int)) (hj : j < N ∧ (j : Int) ≤ 2147483647) (hd : decode cc pc = .ok (.iaload, 1)) (hn : pc + 1 = n) (k : SW x Ps bc bs n L (f j :: st)) : SW x Ps bc bs pc L (.int (jI z) :: .ref a :: st) := by
  subst hn; subst hz
  intro H locs h uc us ls I hL
  have hcl : (jI (j : Int)).toNatClampNeg = j := jI_cl rfl hj.2
  have hin : vp_in (jI (j : Int)) N := by rw [vp_in_iff, jI_toInt (by omega)]; omega
  refine W.iald (v := f j) F.exec F.code (ar_at hat I.1 I.2.1) ((F.K.2 t0 _ (ht _)).1 N f) (fun q => by cases q) (by rw [arrV_size]; exact hin) (by rw [hcl, arrV_read _ _ hj.1]) rfl rfl hd (k H locs h uc us ls I hL)
theorem sw_baload (F : Fx x y cc ret nL fr lo tab) (i : Nat) {a t0 N : Nat} {f : Nat → Value} (hat : Ps[i]? = some (ar (xg x) t0 a N f)) (ht : ∀ dA, (tysG dA)[t0]? = some (dA t0, .byte)) {z : Int} (j : Nat) (hz : z = (j : Int)) (hj : j < N ∧ (j : Int) ≤ 2147483647) (hd : decode cc pc = .ok (.baload, 1)) (hn : pc + 1 = n) (k : SW x Ps bc bs n L (f j :: st)) : SW x Ps bc bs pc L (.int (jI z) :: .ref a :: st) := by
  subst hn; subst hz
  intro H locs h uc us ls I hL
  have hcl : (jI (j : Int)).toNatClampNeg = j := jI_cl rfl hj.2
  have hin : vp_in (jI (j : Int)) N := by rw [vp_in_iff, jI_toInt (by omega)]; omega
  refine W.bald (v := f j) F.exec F.code (ar_at hat I.1 I.2.1) ((F.K.2 t0 _ (ht _)).1 N f) (fun q => by cases q) (by rw [arrV_size]; exact hin) (by rw [hcl, arrV_read _ _ hj.1]) rfl rfl hd (k H locs h uc us ls I hL)
theorem sw_zaload (F : Fx x y cc ret nL fr lo tab) (i : Nat) {a t0 N : Nat} {f : Nat → Value} (hat : Ps[i]? = some (ar (xg x) t0 a N f)) (ht : ∀ dA, (tysG dA)[t0]? = some (dA t0, .boolean)) {z : Int} (j : Nat) (hz : z = (j : Int)) (hj : j < N ∧ (j : Int) ≤ 2147483647) (hd : decode cc pc = .ok (.baload, 1)) (hn : pc + 1 = n) (k : SW x Ps bc bs n L (f j :: st)) : SW x Ps bc bs pc L (.int (jI z) :: .ref a :: st) := by
  subst hn; subst hz
  intro H locs h uc us ls I hL
  have hcl : (jI (j : Int)).toNatClampNeg = j := jI_cl rfl hj.2
  have hin : vp_in (jI (j : Int)) N := by rw [vp_in_iff, jI_toInt (by omega)]; omega
  refine W.zald (v := f j) F.exec F.code (ar_at hat I.1 I.2.1) ((F.K.2 t0 _ (ht _)).1 N f) (fun q => by cases q) (by rw [arrV_size]; exact hin) (by rw [hcl, arrV_read _ _ hj.1]) rfl rfl hd (k H locs h uc us ls I hL)
theorem sw_caload (F : Fx x y cc ret nL fr lo tab) (i : Nat) {a t0 N : Nat} {f : Nat → Value} (hat : Ps[i]? = some (ar (xg x) t0 a N f)) (ht : ∀ dA, (tysG dA)[t0]? = some (dA t0, .char)) {z : Int} (j : Nat) (hz : z = (j : Int)) (hj : j < N ∧ (j : Int) ≤ 2147483647) (hd : decode cc pc = .ok (.caload, 1)) (hn : pc + 1 = n) (k : SW x Ps bc bs n L (f j :: st)) : SW x Ps bc bs pc L (.int (jI z) :: .ref a :: st) := by
  subst hn; subst hz
  intro H locs h uc us ls I hL
  have hcl : (jI (j : Int)).toNatClampNeg = j := jI_cl rfl hj.2
  have hin : vp_in (jI (j : Int)) N := by rw [vp_in_iff, jI_toInt (by omega)]; omega
  refine W.cald (v := f j) F.exec F.code (ar_at hat I.1 I.2.1) ((F.K.2 t0 _ (ht _)).1 N f) (fun q => by cases q) (by rw [arrV_size]; exact hin) (by rw [hcl, arrV_read _ _ hj.1]) rfl rfl hd (k H locs h uc us ls I hL)
theorem sw_laload (F : Fx x y cc ret nL fr lo tab) (i : Nat) {a t0 N : Nat} {f : Nat → Value} (hat : Ps[i]? = some (ar (xg x) t0 a N f)) (ht : ∀ dA, (tysG dA)[t0]? = some (dA t0, .long)) {z : Int} (j : Nat) (hz : z = (j : Int)) (hj : j < N ∧ (j : Int) ≤ 2147483647) (hd : decode cc pc = .ok (.laload, 1)) (hn : pc + 1 = n) (k : SW x Ps bc bs n L (f j :: st)) : SW x Ps bc bs pc L (.int (jI z) :: .ref a :: st) := by
  subst hn; subst hz
  intro H locs h uc us ls I hL
  have hcl : (jI (j : Int)).toNatClampNeg = j := jI_cl rfl hj.2
  have hin : vp_in (jI (j : Int)) N := by rw [vp_in_iff, jI_toInt (by omega)]; omega
  refine W.lald (v := f j) F.exec F.code (ar_at hat I.1 I.2.1) ((F.K.2 t0 _ (ht _)).1 N f) (fun q => by cases q) (by rw [arrV_size]; exact hin) (by rw [hcl, arrV_read _ _ hj.1]) rfl rfl hd (k H locs h uc us ls I hL)
theorem sw_aaload (F : Fx x y cc ret nL fr lo tab) (i : Nat) {a t0 N : Nat} {f : Nat → Value} {C : String} (hat : Ps[i]? = some (ar (xg x) t0 a N f)) (ht : ∀ dA, (tysG dA)[t0]? = some (dA t0, .object C)) {z : Int} (j : Nat) (hz : z = (j : Int)) (hj : j < N ∧ (j : Int) ≤ 2147483647) (hd : decode cc pc = .ok (.aaload, 1)) (hn : pc + 1 = n) (k : SW x Ps bc bs n L (f j :: st)) : SW x Ps bc bs pc L (.int (jI z) :: .ref a :: st) := by
  subst hn; subst hz
  intro H locs h uc us ls I hL
  have hcl : (jI (j : Int)).toNatClampNeg = j := jI_cl rfl hj.2
  have hin : vp_in (jI (j : Int)) N := by rw [vp_in_iff, jI_toInt (by omega)]; omega
  refine W.aald (v := f j) (ty := .object C) F.exec F.code (ar_at hat I.1 I.2.1) ((F.K.2 t0 _ (ht _)).1 N f) rfl (fun q => by cases q) (by rw [arrV_size]; exact hin) (by rw [hcl, arrV_read _ _ hj.1]) rfl rfl hd (k H locs h uc us ls I hL)
theorem sw_iastore (F : Fx x y cc ret nL fr lo tab) (i : Nat) {a t0 N : Nat} {f : Nat → Value} (hat : Ps[i]? = some (ar (xg x) t0 a N f)) (ht : ∀ dA, (tysG dA)[t0]? = some (dA t0, .int)) {z : Int} (j : Nat) (hz : z = (j : Int)) (hj : j < N ∧ (j : Int) ≤ 2147483647) {v : Int}  (Ps' : List HP) (hPs : Ps.set i (ar (xg x) t0 a N (updV f j (.int (jI v)))) = Ps') (hd : decode cc pc = .ok (.iastore, 1)) (hn : pc + 1 = n) (k : SW x Ps' bc bs n L st) : SW x Ps bc bs pc L (.int (jI v) :: .int (jI z) :: .ref a :: st) := by
  subst hn; subst hz; subst hPs
  intro H locs h uc us ls I hL
  have hcl : (jI (j : Int)).toNatClampNeg = j := jI_cl rfl hj.2
  have hin : vp_in (jI (j : Int)) N := by rw [vp_in_iff, jI_toInt (by omega)]; omega
  refine W.iast F.exec F.code (ar_at hat I.1 I.2.1) ((F.K.2 t0 _ (ht _)).1 N f) (fun q => by cases q) (by rw [arrV_size]; exact hin) rfl rfl hd fun H1 e1 e2 e3 => ?_
  rw [hcl] at e1 ⊢
  skip
  rw [arrV_store] at e1
  obtain ⟨h', I'⟩ := xI_write (P' := ar (xg x) t0 a N (updV f j (.int (jI v)))) (k := j) I hat (fun h e => ⟨_, e⟩) rfl e1 e2 e3
  exact k H1 _ h' uc us ls I' hL
theorem sw_lastore (F : Fx x y cc ret nL fr lo tab) (i : Nat) {a t0 N : Nat} {f : Nat → Value} (hat : Ps[i]? = some (ar (xg x) t0 a N f)) (ht : ∀ dA, (tysG dA)[t0]? = some (dA t0, .long)) {z : Int} (j : Nat) (hz : z = (j : Int)) (hj : j < N ∧ (j : Int) ≤ 2147483647) {v : Int}  (Ps' : List HP) (hPs : Ps.set i (ar (xg x) t0 a N (updV f j (.long (jL v)))) = Ps') (hd : decode cc pc = .ok (.lastore, 1)) (hn : pc + 1 = n) (k : SW x Ps' bc bs n L st) : SW x Ps bc bs pc L (.long (jL v) :: .int (jI z) :: .ref a :: st) := by
  subst hn; subst hz; subst hPs
  intro H locs h uc us ls I hL
  have hcl : (jI (j : Int)).toNatClampNeg = j := jI_cl rfl hj.2
  have hin : vp_in (jI (j : Int)) N := by rw [vp_in_iff, jI_toInt (by omega)]; omega
  refine W.last F.exec F.code (ar_at hat I.1 I.2.1) ((F.K.2 t0 _ (ht _)).1 N f) (fun q => by cases q) (by rw [arrV_size]; exact hin) rfl rfl hd fun H1 e1 e2 e3 => ?_
  rw [hcl] at e1 ⊢
  skip
  rw [arrV_store] at e1
  obtain ⟨h', I'⟩ := xI_write (P' := ar (xg x) t0 a N (updV f j (.long (jL v)))) (k := j) I hat (fun h e => ⟨_, e⟩) rfl e1 e2 e3
  exact k H1 _ h' uc us ls I' hL
theorem sw_bastore (F : Fx x y cc ret nL fr lo tab) (i : Nat) {a t0 N : Nat} {f : Nat → Value} (hat : Ps[i]? = some (ar (xg x) t0 a N f)) (ht : ∀ dA, (tysG dA)[t0]? = some (dA t0, .byte)) {z : Int} (j : Nat) (hz : z = (j : Int)) (hj : j < N ∧ (j : Int) ≤ 2147483647) {v : Int} (hv : -128 ≤ v ∧ v ≤ 127) (Ps' : List HP) (hPs : Ps.set i (ar (xg x) t0 a N (updV f j (.int (jI v)))) = Ps') (hd : decode cc pc = .ok (.bastore, 1)) (hn : pc + 1 = n) (k : SW x Ps' bc bs n L st) : SW x Ps bc bs pc L (.int (jI v) :: .int (jI z) :: .ref a :: st) := by
  subst hn; subst hz; subst hPs
  intro H locs h uc us ls I hL
  have hcl : (jI (j : Int)).toNatClampNeg = j := jI_cl rfl hj.2
  have hin : vp_in (jI (j : Int)) N := by rw [vp_in_iff, jI_toInt (by omega)]; omega
  refine W.bast F.exec F.code (ar_at hat I.1 I.2.1) ((F.K.2 t0 _ (ht _)).1 N f) (fun q => by cases q) (by rw [arrV_size]; exact hin) rfl rfl hd fun H1 e1 e2 e3 => ?_
  rw [hcl] at e1 ⊢
  rw [jI_nb hv] at e1
  rw [arrV_store] at e1
  obtain ⟨h', I'⟩ := xI_write (P' := ar (xg x) t0 a N (updV f j (.int (jI v)))) (k := j) I hat (fun h e => ⟨_, e⟩) rfl e1 e2 e3
  exact k H1 _ h' uc us ls I' hL
theorem sw_castore (F : Fx x y cc ret nL fr lo tab) (i : Nat) {a t0 N : Nat} {f : Nat → Value} (hat : Ps[i]? = some (ar (xg x) t0 a N f)) (ht : ∀ dA, (tysG dA)[t0]? = some (dA t0, .char)) {z : Int} (j : Nat) (hz : z = (j : Int)) (hj : j < N ∧ (j : Int) ≤ 2147483647) {v : Int} (hv : 0 ≤ v ∧ v ≤ 65535) (Ps' : List HP) (hPs : Ps.set i (ar (xg x) t0 a N (updV f j (.int (jI v)))) = Ps') (hd : decode cc pc = .ok (.castore, 1)) (hn : pc + 1 = n) (k : SW x Ps' bc bs n L st) : SW x Ps bc bs pc L (.int (jI v) :: .int (jI z) :: .ref a :: st) := by
  subst hn; subst hz; subst hPs
  intro H locs h uc us ls I hL
  have hcl : (jI (j : Int)).toNatClampNeg = j := jI_cl rfl hj.2
  have hin : vp_in (jI (j : Int)) N := by rw [vp_in_iff, jI_toInt (by omega)]; omega
  refine W.cast F.exec F.code (ar_at hat I.1 I.2.1) ((F.K.2 t0 _ (ht _)).1 N f) (fun q => by cases q) (by rw [arrV_size]; exact hin) rfl rfl hd fun H1 e1 e2 e3 => ?_
  rw [hcl] at e1 ⊢
  rw [jI_nc hv] at e1
  rw [arrV_store] at e1
  obtain ⟨h', I'⟩ := xI_write (P' := ar (xg x) t0 a N (updV f j (.int (jI v)))) (k := j) I hat (fun h e => ⟨_, e⟩) rfl e1 e2 e3
  exact k H1 _ h' uc us ls I' hL
theorem sw_zastore (F : Fx x y cc ret nL fr lo tab) (i : Nat) {a t0 N : Nat} {f : Nat → Value} (hat : Ps[i]? = some (ar (xg x) t0 a N f)) (ht : ∀ dA, (tysG dA)[t0]? = some (dA t0, .boolean)) {z : Int} (j : Nat) (hz : z = (j : Int)) (hj : j < N ∧ (j : Int) ≤ 2147483647) {v : Int} (hv : v = 0 ∨ v = 1) (Ps' : List HP) (hPs : Ps.set i (ar (xg x) t0 a N (updV f j (.int (jI v)))) = Ps') (hd : decode cc pc = .ok (.bastore, 1)) (hn : pc + 1 = n) (k : SW x Ps' bc bs n L st) : SW x Ps bc bs pc L (.int (jI v) :: .int (jI z) :: .ref a :: st) := by
  subst hn; subst hz; subst hPs
  intro H locs h uc us ls I hL
  have hcl : (jI (j : Int)).toNatClampNeg = j := jI_cl rfl hj.2
  have hin : vp_in (jI (j : Int)) N := by rw [vp_in_iff, jI_toInt (by omega)]; omega
  refine W.zast F.exec F.code (ar_at hat I.1 I.2.1) ((F.K.2 t0 _ (ht _)).1 N f) (fun q => by cases q) (by rw [arrV_size]; exact hin) rfl rfl hd fun H1 e1 e2 e3 => ?_
  rw [hcl] at e1 ⊢
  rw [jI_nz hv] at e1
  rw [arrV_store] at e1
  obtain ⟨h', I'⟩ := xI_write (P' := ar (xg x) t0 a N (updV f j (.int (jI v)))) (k := j) I hat (fun h e => ⟨_, e⟩) rfl e1 e2 e3
  exact k H1 _ h' uc us ls I' hL
/-- an object as a thing that stands in the heap: its class's name and number -/
def isAt (g : GG) (s : State) (H : Heap) (a ci : Nat) : Prop := ∃ r : vw_C, vwCl[ci]? = some r ∧ ∃ cell : Cell, H[a]? = some cell ∧ cell.vm = .none ∧ cell.cls = g.1.1 ci
theorem sw_aastoreN (F : Fx x y cc ret nL fr lo tab) (i : Nat) {a t0 N : Nat} {f : Nat → Value} {C : String} (hat : Ps[i]? = some (ar (xg x) t0 a N f)) (ht : ∀ dA, (tysG dA)[t0]? = some (dA t0, .object C)) {z : Int} (j : Nat) (hz : z = (j : Int)) (hj : j < N ∧ (j : Int) ≤ 2147483647) (Ps' : List HP) (hPs : Ps.set i (ar (xg x) t0 a N (updV f j .null)) = Ps') (hd : decode cc pc = .ok (.aastore, 1)) (hn : pc + 1 = n) (k : SW x Ps' bc bs n L st) : SW x Ps bc bs pc L (.null :: .int (jI z) :: .ref a :: st) := by
  subst hn; subst hz; subst hPs
  intro H locs h uc us ls I hL
  have hcl : (jI (j : Int)).toNatClampNeg = j := jI_cl rfl hj.2
  have hin : vp_in (jI (j : Int)) N := by rw [vp_in_iff, jI_toInt (by omega)]; omega
  refine va_WaastN (C := C) F.exec F.code (ar_at hat I.1 I.2.1) ((F.K.2 t0 _ (ht _)).1 N f) (fun q => by cases q) (by rw [arrV_size]; exact hin) rfl rfl hd fun H1 e1 e2 e3 => ?_
  rw [hcl] at e1 ⊢
  rw [arrV_store] at e1
  obtain ⟨h', I'⟩ := xI_write (P' := ar (xg x) t0 a N (updV f j .null)) (k := j) I hat (fun h e => ⟨_, e⟩) rfl e1 e2 e3
  exact k H1 _ h' uc us ls I' hL
theorem updV_I (d : Nat → Int) (j : Nat) (v : Int) : updV (fun j => Value.int (jI (d j))) j (.int (jI v)) = fun q => .int (jI (va_up d j v q)) := by
  funext q; simp only [updV, va_up]; split <;> rfl
theorem updV_L (d : Nat → Int) (j : Nat) (v : Int) : updV (fun j => Value.long (jL (d j))) j (.long (jL v)) = fun q => .long (jL (va_up d j v q)) := by
  funext q; simp only [updV, va_up]; split <;> rfl
theorem updV_Q (o : Nat → Option Nat) (j : Nat) (v : Option Nat) : updV (fun j => va_rf (o j)) j (va_rf v) = fun q => va_rf (va_up o j v q) := by
  funext q; simp only [updV, va_up]; split <;> rfl
theorem sw_iastoreI (F : Fx x y cc ret nL fr lo tab) (i : Nat) {a t0 N : Nat} {f : Nat → Int} (hat : Ps[i]? = some (aI (xg x) t0 a N f)) (ht : ∀ dA, (tysG dA)[t0]? = some (dA t0, .int)) {z : Int} (j : Nat) (hz : z = (j : Int)) (hj : j < N ∧ (j : Int) ≤ 2147483647) {v : Int}  (Ps' : List HP) (hPs : Ps.set i (aI (xg x) t0 a N (va_up f j v)) = Ps') (hd : decode cc pc = .ok (.iastore, 1)) (hn : pc + 1 = n) (k : SW x Ps' bc bs n L st) : SW x Ps bc bs pc L (.int (jI v) :: .int (jI z) :: .ref a :: st) :=
  sw_iastore F i (f := fun j => .int (jI (f j))) hat ht j hz hj Ps' (by rw [updV_I]; exact hPs) hd hn k
theorem sw_bastoreI (F : Fx x y cc ret nL fr lo tab) (i : Nat) {a t0 N : Nat} {f : Nat → Int} (hat : Ps[i]? = some (aI (xg x) t0 a N f)) (ht : ∀ dA, (tysG dA)[t0]? = some (dA t0, .byte)) {z : Int} (j : Nat) (hz : z = (j : Int)) (hj : j < N ∧ (j : Int) ≤ 2147483647) {v : Int} (hv : -128 ≤ v ∧ v ≤ 127) (Ps' : List HP) (hPs : Ps.set i (aI (xg x) t0 a N (va_up f j v)) = Ps') (hd : decode cc pc = .ok (.bastore, 1)) (hn : pc + 1 = n) (k : SW x Ps' bc bs n L st) : SW x Ps bc bs pc L (.int (jI v) :: .int (jI z) :: .ref a :: st) :=
  sw_bastore F i (f := fun j => .int (jI (f j))) hat ht j hz hj hv Ps' (by rw [updV_I]; exact hPs) hd hn k
theorem sw_castoreI (F : Fx x y cc ret nL fr lo tab) (i : Nat) {a t0 N : Nat} {f : Nat → Int} (hat : Ps[i]? = some (aI (xg x) t0 a N f)) (ht : ∀ dA, (tysG dA)[t0]? = some (dA t0, .char)) {z : Int} (j : Nat) (hz : z = (j : Int)) (hj : j < N ∧ (j : Int) ≤ 2147483647) {v : Int} (hv : 0 ≤ v ∧ v ≤ 65535) (Ps' : List HP) (hPs : Ps.set i (aI (xg x) t0 a N (va_up f j v)) = Ps') (hd : decode cc pc = .ok (.castore, 1)) (hn : pc + 1 = n) (k : SW x Ps' bc bs n L st) : SW x Ps bc bs pc L (.int (jI v) :: .int (jI z) :: .ref a :: st) :=
  sw_castore F i (f := fun j => .int (jI (f j))) hat ht j hz hj hv Ps' (by rw [updV_I]; exact hPs) hd hn k
theorem sw_zastoreI (F : Fx x y cc ret nL fr lo tab) (i : Nat) {a t0 N : Nat} {f : Nat → Int} (hat : Ps[i]? = some (aI (xg x) t0 a N f)) (ht : ∀ dA, (tysG dA)[t0]? = some (dA t0, .boolean)) {z : Int} (j : Nat) (hz : z = (j : Int)) (hj : j < N ∧ (j : Int) ≤ 2147483647) {v : Int} (hv : v = 0 ∨ v = 1) (Ps' : List HP) (hPs : Ps.set i (aI (xg x) t0 a N (va_up f j v)) = Ps') (hd : decode cc pc = .ok (.bastore, 1)) (hn : pc + 1 = n) (k : SW x Ps' bc bs n L st) : SW x Ps bc bs pc L (.int (jI v) :: .int (jI z) :: .ref a :: st) :=
  sw_zastore F i (f := fun j => .int (jI (f j))) hat ht j hz hj hv Ps' (by rw [updV_I]; exact hPs) hd hn k
theorem sw_lastoreL (F : Fx x y cc ret nL fr lo tab) (i : Nat) {a N : Nat} {f : Nat → Int} (hat : Ps[i]? = some (aL (xg x) a N f)) (ht : ∀ dA, (tysG dA)[3]? = some (dA 3, .long)) {z : Int} (j : Nat) (hz : z = (j : Int)) (hj : j < N ∧ (j : Int) ≤ 2147483647) {v : Int} (Ps' : List HP) (hPs : Ps.set i (aL (xg x) a N (va_up f j v)) = Ps') (hd : decode cc pc = .ok (.lastore, 1)) (hn : pc + 1 = n) (k : SW x Ps' bc bs n L st) : SW x Ps bc bs pc L (.long (jL v) :: .int (jI z) :: .ref a :: st) :=
  sw_lastore F i (f := fun j => .long (jL (f j))) hat ht j hz hj Ps' (by rw [updV_L]; exact hPs) hd hn k
/-- arrays of numbers that aren't negative -/
theorem updV_N (d : Nat → Nat) (j : Nat) (v : Nat) : updV (fun j => Value.int (jI (d j : Nat))) j (.int (jI (v : Nat))) = fun q => .int (jI ((va_up d j v q : Nat))) := by
  funext q; simp only [updV, va_up]; split <;> rfl
def aN (g : GG) (k x n : Nat) (d : Nat → Nat) : HP := ar g k x n (fun j => .int (jI (d j : Nat)))
theorem sw_iastoreN (F : Fx x y cc ret nL fr lo tab) (i : Nat) {a t0 N : Nat} {f : Nat → Nat} (hat : Ps[i]? = some (aN (xg x) t0 a N f)) (ht : ∀ dA, (tysG dA)[t0]? = some (dA t0, .int)) {z : Int} (j : Nat) (hz : z = (j : Int)) (hj : j < N ∧ (j : Int) ≤ 2147483647) {v : Int} (vn : Nat) (hvn : v = (vn : Int))  (Ps' : List HP) (hPs : Ps.set i (aN (xg x) t0 a N (va_up f j vn)) = Ps') (hd : decode cc pc = .ok (.iastore, 1)) (hn : pc + 1 = n) (k : SW x Ps' bc bs n L st) : SW x Ps bc bs pc L (.int (jI v) :: .int (jI z) :: .ref a :: st) := by
  subst hvn
  exact sw_iastore F i (f := fun j => .int (jI (f j : Nat))) hat ht j hz hj Ps' (by rw [updV_N]; exact hPs) hd hn k
theorem sw_bastoreN (F : Fx x y cc ret nL fr lo tab) (i : Nat) {a t0 N : Nat} {f : Nat → Nat} (hat : Ps[i]? = some (aN (xg x) t0 a N f)) (ht : ∀ dA, (tysG dA)[t0]? = some (dA t0, .byte)) {z : Int} (j : Nat) (hz : z = (j : Int)) (hj : j < N ∧ (j : Int) ≤ 2147483647) {v : Int} (vn : Nat) (hvn : v = (vn : Int)) (hv : -128 ≤ v ∧ v ≤ 127) (Ps' : List HP) (hPs : Ps.set i (aN (xg x) t0 a N (va_up f j vn)) = Ps') (hd : decode cc pc = .ok (.bastore, 1)) (hn : pc + 1 = n) (k : SW x Ps' bc bs n L st) : SW x Ps bc bs pc L (.int (jI v) :: .int (jI z) :: .ref a :: st) := by
  subst hvn
  exact sw_bastore F i (f := fun j => .int (jI (f j : Nat))) hat ht j hz hj hv Ps' (by rw [updV_N]; exact hPs) hd hn k
theorem sw_castoreN (F : Fx x y cc ret nL fr lo tab) (i : Nat) {a t0 N : Nat} {f : Nat → Nat} (hat : Ps[i]? = some (aN (xg x) t0 a N f)) (ht : ∀ dA, (tysG dA)[t0]? = some (dA t0, .char)) {z : Int} (j : Nat) (hz : z = (j : Int)) (hj : j < N ∧ (j : Int) ≤ 2147483647) {v : Int} (vn : Nat) (hvn : v = (vn : Int)) (hv : 0 ≤ v ∧ v ≤ 65535) (Ps' : List HP) (hPs : Ps.set i (aN (xg x) t0 a N (va_up f j vn)) = Ps') (hd : decode cc pc = .ok (.castore, 1)) (hn : pc + 1 = n) (k : SW x Ps' bc bs n L st) : SW x Ps bc bs pc L (.int (jI v) :: .int (jI z) :: .ref a :: st) := by
  subst hvn
  exact sw_castore F i (f := fun j => .int (jI (f j : Nat))) hat ht j hz hj hv Ps' (by rw [updV_N]; exact hPs) hd hn k
theorem sw_zastoreN (F : Fx x y cc ret nL fr lo tab) (i : Nat) {a t0 N : Nat} {f : Nat → Nat} (hat : Ps[i]? = some (aN (xg x) t0 a N f)) (ht : ∀ dA, (tysG dA)[t0]? = some (dA t0, .boolean)) {z : Int} (j : Nat) (hz : z = (j : Int)) (hj : j < N ∧ (j : Int) ≤ 2147483647) {v : Int} (vn : Nat) (hvn : v = (vn : Int)) (hv : v = 0 ∨ v = 1) (Ps' : List HP) (hPs : Ps.set i (aN (xg x) t0 a N (va_up f j vn)) = Ps') (hd : decode cc pc = .ok (.bastore, 1)) (hn : pc + 1 = n) (k : SW x Ps' bc bs n L st) : SW x Ps bc bs pc L (.int (jI v) :: .int (jI z) :: .ref a :: st) := by
  subst hvn
  exact sw_zastore F i (f := fun j => .int (jI (f j : Nat))) hat ht j hz hj hv Ps' (by rw [updV_N]; exact hPs) hd hn k
theorem sw_ialoadI (F : Fx x y cc ret nL fr lo tab) (i : Nat) {a t0 N : Nat} {f : Nat → Int} (hat : Ps[i]? = some (aI (xg x) t0 a N f)) (ht : ∀ dA, (tysG dA)[t0]? = some (dA t0, .int)) {z : Int} (j : Nat) (hz : z = (j : Int)) (hj : j < N ∧ (j : Int) ≤ 2147483647) (hd : decode cc pc = .ok (.iaload, 1)) (hn : pc + 1 = n) (k : SW x Ps bc bs n L (.int (jI (f j)) :: st)) : SW x Ps bc bs pc L (.int (jI z) :: .ref a :: st) := sw_iaload F i (f := fun j => .int (jI (f j))) hat ht j hz hj hd hn k
theorem sw_baloadI (F : Fx x y cc ret nL fr lo tab) (i : Nat) {a t0 N : Nat} {f : Nat → Int} (hat : Ps[i]? = some (aI (xg x) t0 a N f)) (ht : ∀ dA, (tysG dA)[t0]? = some (dA t0, .byte)) {z : Int} (j : Nat) (hz : z = (j : Int)) (hj : j < N ∧ (j : Int) ≤ 2147483647) (hd : decode cc pc = .ok (.baload, 1)) (hn : pc + 1 = n) (k : SW x Ps bc bs n L (.int (jI (f j)) :: st)) : SW x Ps bc bs pc L (.int (jI z) :: .ref a :: st) := sw_baload F i (f := fun j => .int (jI (f j))) hat ht j hz hj hd hn k
theorem sw_zaloadI (F : Fx x y cc ret nL fr lo tab) (i : Nat) {a t0 N : Nat} {f : Nat → Int} (hat : Ps[i]? = some (aI (xg x) t0 a N f)) (ht : ∀ dA, (tysG dA)[t0]? = some (dA t0, .boolean)) {z : Int} (j : Nat) (hz : z = (j : Int)) (hj : j < N ∧ (j : Int) ≤ 2147483647) (hd : decode cc pc = .ok (.baload, 1)) (hn : pc + 1 = n) (k : SW x Ps bc bs n L (.int (jI (f j)) :: st)) : SW x Ps bc bs pc L (.int (jI z) :: .ref a :: st) := sw_zaload F i (f := fun j => .int (jI (f j))) hat ht j hz hj hd hn k
theorem sw_caloadI (F : Fx x y cc ret nL fr lo tab) (i : Nat) {a t0 N : Nat} {f : Nat → Int} (hat : Ps[i]? = some (aI (xg x) t0 a N f)) (ht : ∀ dA, (tysG dA)[t0]? = some (dA t0, .char)) {z : Int} (j : Nat) (hz : z = (j : Int)) (hj : j < N ∧ (j : Int) ≤ 2147483647) (hd : decode cc pc = .ok (.caload, 1)) (hn : pc + 1 = n) (k : SW x Ps bc bs n L (.int (jI (f j)) :: st)) : SW x Ps bc bs pc L (.int (jI z) :: .ref a :: st) := sw_caload F i (f := fun j => .int (jI (f j))) hat ht j hz hj hd hn k
theorem sw_ialoadN (F : Fx x y cc ret nL fr lo tab) (i : Nat) {a t0 N : Nat} {f : Nat → Nat} (hat : Ps[i]? = some (aN (xg x) t0 a N f)) (ht : ∀ dA, (tysG dA)[t0]? = some (dA t0, .int)) {z : Int} (j : Nat) (hz : z = (j : Int)) (hj : j < N ∧ (j : Int) ≤ 2147483647) (hd : decode cc pc = .ok (.iaload, 1)) (hn : pc + 1 = n) (k : SW x Ps bc bs n L (.int (jI (f j : Nat)) :: st)) : SW x Ps bc bs pc L (.int (jI z) :: .ref a :: st) := sw_iaload F i (f := fun j => .int (jI (f j : Nat))) hat ht j hz hj hd hn k
theorem sw_baloadN (F : Fx x y cc ret nL fr lo tab) (i : Nat) {a t0 N : Nat} {f : Nat → Nat} (hat : Ps[i]? = some (aN (xg x) t0 a N f)) (ht : ∀ dA, (tysG dA)[t0]? = some (dA t0, .byte)) {z : Int} (j : Nat) (hz : z = (j : Int)) (hj : j < N ∧ (j : Int) ≤ 2147483647) (hd : decode cc pc = .ok (.baload, 1)) (hn : pc + 1 = n) (k : SW x Ps bc bs n L (.int (jI (f j : Nat)) :: st)) : SW x Ps bc bs pc L (.int (jI z) :: .ref a :: st) := sw_baload F i (f := fun j => .int (jI (f j : Nat))) hat ht j hz hj hd hn k
theorem sw_zaloadN (F : Fx x y cc ret nL fr lo tab) (i : Nat) {a t0 N : Nat} {f : Nat → Nat} (hat : Ps[i]? = some (aN (xg x) t0 a N f)) (ht : ∀ dA, (tysG dA)[t0]? = some (dA t0, .boolean)) {z : Int} (j : Nat) (hz : z = (j : Int)) (hj : j < N ∧ (j : Int) ≤ 2147483647) (hd : decode cc pc = .ok (.baload, 1)) (hn : pc + 1 = n) (k : SW x Ps bc bs n L (.int (jI (f j : Nat)) :: st)) : SW x Ps bc bs pc L (.int (jI z) :: .ref a :: st) := sw_zaload F i (f := fun j => .int (jI (f j : Nat))) hat ht j hz hj hd hn k
theorem sw_caloadN (F : Fx x y cc ret nL fr lo tab) (i : Nat) {a t0 N : Nat} {f : Nat → Nat} (hat : Ps[i]? = some (aN (xg x) t0 a N f)) (ht : ∀ dA, (tysG dA)[t0]? = some (dA t0, .char)) {z : Int} (j : Nat) (hz : z = (j : Int)) (hj : j < N ∧ (j : Int) ≤ 2147483647) (hd : decode cc pc = .ok (.caload, 1)) (hn : pc + 1 = n) (k : SW x Ps bc bs n L (.int (jI (f j : Nat)) :: st)) : SW x Ps bc bs pc L (.int (jI z) :: .ref a :: st) := sw_caload F i (f := fun j => .int (jI (f j : Nat))) hat ht j hz hj hd hn k
theorem sw_laloadL (F : Fx x y cc ret nL fr lo tab) (i : Nat) {a N : Nat} {f : Nat → Int} (hat : Ps[i]? = some (aL (xg x) a N f)) (ht : ∀ dA, (tysG dA)[3]? = some (dA 3, .long)) {z : Int} (j : Nat) (hz : z = (j : Int)) (hj : j < N ∧ (j : Int) ≤ 2147483647) (hd : decode cc pc = .ok (.laload, 1)) (hn : pc + 1 = n) (k : SW x Ps bc bs n L (.long (jL (f j)) :: st)) : SW x Ps bc bs pc L (.int (jI z) :: .ref a :: st) := sw_laload F i (f := fun j => .long (jL (f j))) hat ht j hz hj hd hn k
theorem sw_aaloadQ (F : Fx x y cc ret nL fr lo tab) (i : Nat) {a t0 N : Nat} {f : Nat → Option Nat} {C : String} (hat : Ps[i]? = some (aQ (xg x) t0 a N f)) (ht : ∀ dA, (tysG dA)[t0]? = some (dA t0, .object C)) {z : Int} (j : Nat) (hz : z = (j : Int)) (hj : j < N ∧ (j : Int) ≤ 2147483647) (hd : decode cc pc = .ok (.aaload, 1)) (hn : pc + 1 = n) (k : SW x Ps bc bs n L (va_rf (f j) :: st)) : SW x Ps bc bs pc L (.int (jI z) :: .ref a :: st) := sw_aaload F i (f := fun j => va_rf (f j)) hat ht j hz hj hd hn k
end HEAP
