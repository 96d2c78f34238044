/-! statics and constant objects of the start; worlds with fewer cells; reads by what is known of a place -/
/-- an object that can be read -/
def obR (g : GG) (ci : Nat) (fs : List Value) (c : Cell) : Prop := ∃ r : vw_C, vwCl[ci]? = some r ∧ c.cls = g.1.1 ci ∧ c.vm ≠ .unknown ∧ c.vm.isStatics = false ∧ ∀ k, k < r.2.2 → c.slots[g.1.2 ci k]? = some (vp_V fs k)
theorem obC.R {g : GG} {ci : Nat} {fs : List Value} {c : Cell} (h : obC g ci fs c) : obR g ci fs c := by
  obtain ⟨r, h1, h2, h3, h4⟩ := h
  exact ⟨r, h1, h2, by rw [h3]; exact fun e => by (cases e), by rw [h3]; rfl, h4⟩
def zS (g : GG) (C n d : String) (v : Value) : Prop := va_Z C n d v (fun q => gB g ≤ q) (gS g) (gS g).heap
def aOK (U : State) (H : Heap) (ty : FieldType) (a N : Nat) (f : Nat → Value) : Prop := ∃ cell : Cell, H[a]? = some cell ∧ U.isArrayOf cell ty ∧ cell.vm ≠ .unknown ∧ cell.vm.isStatics = false ∧ cell.slots.size = N ∧ ∀ j : Nat, j < N → cell.slots[j]? = some (f j)
def hA (x : EX) (Ps : List HP) (ty : FieldType) (a N : Nat) (f : Nat → Value) : Prop := ∀ (bc bs : Nat) (H : Heap) (locs : List Loc) (h : PH) (uc us : Nat), xI x Ps bc bs H locs h uc us → aOK (xs x) H ty a N f
def hO (x : EX) (Ps : List HP) (a ci : Nat) (fs : List Value) : Prop := ∀ (bc bs : Nat) (H : Heap) (locs : List Loc) (h : PH) (uc us : Nat), xI x Ps bc bs H locs h uc us → ∃ c : Cell, H[a]? = some c ∧ obR (xg x) ci fs c
/-- a constant array of the start -/
def cA (g : GG) (ty : FieldType) (a N : Nat) (f : Nat → Value) : Prop := a < gB g ∧ aOK (gS g) (gS g).heap ty a N f
/-- a constant object of the start -/
def cO (g : GG) (a ci : Nat) (fs : List Value) : Prop := a < gB g ∧ ∃ c : Cell, (gS g).heap[a]? = some c ∧ obR g ci fs c
section STAT
variable {x : EX} {y : MethodName} {cc : ByteArray} {ret : Option FieldType} {nL fr lo : Nat} {tab : List ExceptionTableEntry} {Ps : List HP} {bc bs pc n : Nat} {L : List (Nat × Value)} {st : List Value}
theorem xI_old (F : Fx x y cc ret nL fr lo tab) {H : Heap} {locs : List Loc} {h : PH} {uc us : Nat} (I : xI x Ps bc bs H locs h uc us) : ∀ q : Nat, q < gB (xg x) → H[q]? = (gS (xg x)).heap[q]? := fun q hq =>
  (I.2.2.2.1.2.1 q (Nat.lt_of_lt_of_le hq F.gx.2.2.1) (fun hA => absurd (F.A0 q hA) (by omega))).trans (F.gx.2.2.2 q hq)
theorem sw_gets (F : Fx x y cc ret nL fr lo tab) {C nm d ref : String} {v : Value} {idx : Nat} (hZ : zS (xg x) C nm d v) (hl : Cond.fieldLink y.cls idx ref nm d ∈ lw_all) (hs : ref = C ∨ Cond.sameField ref C nm d ∈ lw_all) (hd : decode cc pc = .ok (.getstatic idx, 3)) (hn : pc + 3 = n) (k : SW x Ps bc bs n L (v :: st)) : SW x Ps bc bs pc L st := by
  subst hn
  intro H locs h uc us ls I hL
  have hZ2 := ((hZ.moved F.gx.2.1.alike).narrow F.A0).kept (H1 := (xs x).heap) (fun a h1 h2 => by
    rcases Nat.lt_or_ge a (gB (xg x)) with q | q
    · exact F.gx.2.2.2 a q
    · exact absurd h1 (Nat.not_lt.mpr q))
  exact va_gets F.exec F.code hZ2 I.2.2.2.1 F.own (F.wd _ hl) (by
    intro z hz
    rcases hs with e | e
    · rw [e]; exact hz
    · exact u_same (F.wd _ e) z hz) hd (k H locs h uc us ls I hL)
theorem cA.A (F : Fx x y cc ret nL fr lo tab) {ty : FieldType} {a N : Nat} {f : Nat → Value} (h : cA (xg x) ty a N f) : hA x Ps ty a N f := by
  intro bc bs H locs hh uc us I
  obtain ⟨h0, cell, h1, h2, h3, h4, h5, h6⟩ := h
  exact ⟨cell, by rw [xI_old F I a h0]; exact h1, State.isArrayOf_alike F.gx.2.1.alike h2, h3, h4, h5, h6⟩
theorem cO.O (F : Fx x y cc ret nL fr lo tab) {a ci : Nat} {fs : List Value} (h : cO (xg x) a ci fs) : hO x Ps a ci fs := by
  intro bc bs H locs hh uc us I
  obtain ⟨h1, c, h2, h3⟩ := h
  exact ⟨c, by rw [xI_old F I a h1]; exact h2, h3⟩
theorem hO_ob {i a ci : Nat} {fs : List Value} (hat : Ps[i]? = some (ob (xg x) a ci fs)) : hO x Ps a ci fs := by
  intro _ _ H locs h uc us I
  obtain ⟨h1, h2, hd, rfl, ⟨c, rfl, hc⟩, -⟩ := sl_at hat I.1
  exact ⟨c, ph_S_l I.2.1 a c ph_1_self, hc.R⟩
theorem hA_ar (F : Fx x y cc ret nL fr lo tab) {i a t0 N : Nat} {f : Nat → Value} {ty : FieldType} (hat : Ps[i]? = some (ar (xg x) t0 a N f)) (ht : ∀ dA, (tysG dA)[t0]? = some (dA t0, ty)) : hA x Ps ty a N f := fun _ _ H _ _ _ _ I =>
  ⟨arrV ((xg x).2.1 t0) N f, ar_at hat I.1 I.2.1, (F.K.2 t0 _ (ht _)).1 N f, fun q => by (cases q), rfl, arrV_size _ _ _, fun j hj => arrV_read _ _ hj⟩
theorem getR_W (F : Fx x y cc ret nL fr lo tab) {a ci : Nat} {fs : List Value} {c : Cell} {H : Heap} {locs : List Loc} {uc us : Nat} {ls : Array Slot} (h1 : H[a]? = some c) (h2 : obR (xg x) ci fs c) {idx k : Nat} {ref : String} (hl : FL y.cls idx ci k ref) {v : Value} (hv : fs[k]? = some v) (hd : decode cc pc = .ok (.getfield idx, 3)) (kk : xW x H locs uc us (pc + 3) ls (v :: st)) : xW x H locs uc us pc ls (.ref a :: st) := by
  obtain ⟨⟨C, T, N⟩, hc, hk, hlink, hin, hsame⟩ := hl
  obtain ⟨r, hr, q2, q3, -, q4⟩ := h2
  have hr : r = (C, T, N) := Option.some.inj (hr.symm.trans hc)
  subst hr
  obtain ⟨hS, hfc, kC, hkC, hkind⟩ := F.K.1 ci _ hc
  obtain ⟨cf, kf, fi, f, hi, hsl⟩ := hS k hk
  refine W.getf F.exec F.code F.own (F.wd _ hlink) (FL.same (own := "") (idx := 0) hsame F.wd _ hi) (u_facts hfc hkC (u_lays F.wd hin hk) hi).1 h1 q3 (v := v) ?_ rfl rfl hd kk
  rw [hsl]
  refine (q4 k hk).trans ?_
  simp [vp_V, List.getD, hv]
theorem sw_getK (F : Fx x y cc ret nL fr lo tab) {a ci : Nat} {fs : List Value} (hh : hO x Ps a ci fs) {idx k : Nat} {ref : String} (hl : FL y.cls idx ci k ref) {v : Value} (hv : fs[k]? = some v) (hd : decode cc pc = .ok (.getfield idx, 3)) (hn : pc + 3 = n) (kk : SW x Ps bc bs n L (v :: st)) : SW x Ps bc bs pc L (.ref a :: st) := by
  subst hn
  intro H locs h uc us ls I hL
  obtain ⟨c, h1, h2⟩ := hh _ _ H locs h uc us I
  exact getR_W F h1 h2 hl hv hd (kk H locs h uc us ls I hL)
theorem hO.rcv (F : Fx x y cc ret nL fr lo tab) {a ci N : Nat} {fs : List Value} {C : String} {T : u_T} (hh : hO x Ps a ci fs) (hc : vwCl[ci]? = some (C, T, N)) : Rcv x Ps bc bs a C := fun H locs h uc us I => by
  obtain ⟨c, h1, r, hr, q2, q3, q4, -⟩ := hh _ _ H locs h uc us I
  have hr := Option.some.inj (hr.symm.trans hc)
  subst hr
  exact ⟨c, h1, q4, by rw [q2]; exact (F.K.1 ci _ hc).2.1⟩
theorem aOK_in {U : State} {H : Heap} {ty : FieldType} {a N j : Nat} {f : Nat → Value} (h : aOK U H ty a N f) (hj : j < N ∧ (j : Int) ≤ 2147483647) : ∃ cell : Cell, H[a]? = some cell ∧ U.isArrayOf cell ty ∧ cell.vm ≠ .unknown ∧ ¬ (jI (j : Int) < 0 ∨ cell.slots.size ≤ (jI (j : Int)).toNatClampNeg) ∧ cell.slots[(jI (j : Int)).toNatClampNeg]? = some (f j) := by
  obtain ⟨cell, h1, h2, h3, h4, h5, h6⟩ := h
  have hcl : (jI (j : Int)).toNatClampNeg = j := jI_cl rfl hj.2
  refine ⟨cell, h1, h2, h3, ?_, by rw [hcl]; exact h6 j hj.1⟩
  rw [hcl, jI_0, jI_lt (by omega) (by omega)]
  omega
theorem sw_ialoadK (F : Fx x y cc ret nL fr lo tab) {a N : Nat} {f : Nat → Value} (hh : hA x Ps .int a N f) {z : Int} (j : Nat) (hz : z = (j : Int)) (hj : j < N ∧ (j : Int) ≤ 2147483647) (hd : decode cc pc = .ok (.iaload, 1)) (hn : pc + 1 = n) (k : SW x Ps bc bs n L (f j :: st)) : SW x Ps bc bs pc L (.int (jI z) :: .ref a :: st) := by
  subst hn; subst hz
  intro H locs h uc us ls I hL
  obtain ⟨cell, h1, h2, h3, h4, h5⟩ := aOK_in (hh _ _ H locs h uc us I) hj
  exact W.iald (v := f j) F.exec F.code h1 h2 h3 h4 h5 rfl rfl hd (k H locs h uc us ls I hL)
theorem sw_laloadK (F : Fx x y cc ret nL fr lo tab) {a N : Nat} {f : Nat → Value} (hh : hA x Ps .long a N f) {z : Int} (j : Nat) (hz : z = (j : Int)) (hj : j < N ∧ (j : Int) ≤ 2147483647) (hd : decode cc pc = .ok (.laload, 1)) (hn : pc + 1 = n) (k : SW x Ps bc bs n L (f j :: st)) : SW x Ps bc bs pc L (.int (jI z) :: .ref a :: st) := by
  subst hn; subst hz
  intro H locs h uc us ls I hL
  obtain ⟨cell, h1, h2, h3, h4, h5⟩ := aOK_in (hh _ _ H locs h uc us I) hj
  exact W.lald (v := f j) F.exec F.code h1 h2 h3 h4 h5 rfl rfl hd (k H locs h uc us ls I hL)
theorem sw_aaloadK (F : Fx x y cc ret nL fr lo tab) {a N : Nat} {f : Nat → Value} {ty : FieldType} (hty : ty.isReference = true) (hh : hA x Ps ty a N f) {z : Int} (j : Nat) (hz : z = (j : Int)) (hj : j < N ∧ (j : Int) ≤ 2147483647) (hd : decode cc pc = .ok (.aaload, 1)) (hn : pc + 1 = n) (k : SW x Ps bc bs n L (f j :: st)) : SW x Ps bc bs pc L (.int (jI z) :: .ref a :: st) := by
  subst hn; subst hz
  intro H locs h uc us ls I hL
  obtain ⟨cell, h1, h2, h3, h4, h5⟩ := aOK_in (hh _ _ H locs h uc us I) hj
  exact W.aald (v := f j) F.exec F.code h1 h2 hty h3 h4 h5 rfl rfl hd (k H locs h uc us ls I hL)
theorem sw_alenK (F : Fx x y cc ret nL fr lo tab) {a N : Nat} {f : Nat → Value} {ty : FieldType} (hh : hA x Ps ty a N f) (hd : decode cc pc = .ok (.arraylength, 1)) (hn : pc + 1 = n) (k : SW x Ps bc bs n L (.int (jI (N : Int)) :: st)) : SW x Ps bc bs pc L (.ref a :: st) := by
  subst hn
  intro H locs h uc us ls I hL
  obtain ⟨cell, h1, h2, h3, h4, h5, h6⟩ := hh _ _ H locs h uc us I
  refine W.alen F.exec F.code h1 h2 (n := jI (N : Int)) ?_ rfl rfl hd (k H locs h uc us ls I hL)
  rw [h5]; exact jI_nat N
theorem sl_drop {Ps : List HP} {is : List Nat} : ∀ {h : PH}, sl Ps h → is.isPerm (List.range Ps.length) = true → ∀ k, ∃ h2 : PH, sl ((sl_pick Ps is).take k) h2 ∧ ∀ q c, h2 q = some c → h q = some c := by
  intro h hs hp k
  have h1 := sl_perm (sl_pick_perm is hp) h hs
  rw [← List.take_append_drop k (sl_pick Ps is)] at h1
  obtain ⟨a, b, hd, rfl, ha, hb⟩ := (sl_app _).mp h1
  exact ⟨a, ha, fun q c e => by simp [ph_U, e]⟩
/-- some of a world's cells are forgotten: is puts those that stay ahead, k of them -/
theorem sw_drop (is : List Nat) (k : Nat) (hp : is.isPerm (List.range Ps.length) = true) (Qs : List HP) (hq : (sl_pick Ps is).take k = Qs) (kk : SW x Qs bc bs pc L st) : SW x Ps bc bs pc L st := by
  subst hq
  intro H locs h uc us ls I hL
  obtain ⟨hs, hS, hAA, hV, i1, i2⟩ := I
  obtain ⟨h2, g1, g2⟩ := sl_drop hs hp k
  exact kk H locs h2 uc us ls ⟨g1, fun q c e => hS q c (g2 q c e), fun q hq => hAA q (by
    obtain ⟨c, e⟩ := Option.ne_none_iff_exists'.mp hq
    rw [g2 q c e]; simp), hV, i1, i2⟩ hL
theorem sx_drop {E : String} (is : List Nat) (k : Nat) (hp : is.isPerm (List.range Ps.length) = true) (Qs : List HP) (hq : (sl_pick Ps is).take k = Qs) (kk : SX x Qs bc bs pc L E) : SX x Ps bc bs pc L E := by
  subst hq
  intro H locs h uc us ls rest q0 ce I hL
  obtain ⟨hs, hS, hAA, hV, i1, i2⟩ := I
  obtain ⟨h2, g1, g2⟩ := sl_drop hs hp k
  exact kk H locs h2 uc us ls rest q0 ce ⟨g1, fun q c e => hS q c (g2 q c e), fun q hq => hAA q (by
    obtain ⟨c, e⟩ := Option.ne_none_iff_exists'.mp hq
    rw [g2 q c e]; simp), hV, i1, i2⟩ hL
end STAT
