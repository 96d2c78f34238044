/-! collections: arrays of references, what is known of objects, the other kinds of calls -/
section COLL
variable {x : EX} {y : MethodName} {cc : ByteArray} {ret : Option FieldType} {nL fr lo : Nat} {tab : List ExceptionTableEntry} {Ps : List HP} {bc bs pc n : Nat} {L : List (Nat × Value)} {st : List Value} {M : Nat → Option PV} {q : Nat}
/-- an object of C may lie in a row of E -/
def cas (g : GG) (C E : String) : Prop := ∀ comp c0 : ClassId, (gS g).vm.findClass E = some comp → (gS g).vm.findClass C = some c0 → (gS g).vm.assignable c0 comp = true
theorem cas_of {g : GG} {l : Launch} (h : ST g l) {C E : String} (hw : Cond.castable C E ∈ lw_tbl) : cas g C E := fun comp c0 => vb_asgC (va_Nw.of rfl (h.2.1 _ hw)) comp c0
theorem cas_rf {g : GG} {C : String} : cas g C C := fun comp c0 => vb_asgS comp c0
/-- P tells that the object at e is of class number ci -/
def kn (g : GG) (P : HP) (e ci : Nat) : Prop := (∀ h, P h → ∃ c : Cell, h e = some c ∧ c.cls = g.1.1 ci ∧ c.vm.isStatics = false) ∨ ∃ c : Cell, e < gB g ∧ (gS g).heap[e]? = some c ∧ c.cls = g.1.1 ci ∧ c.vm.isStatics = false
/-- P tells that the object at e may lie in a row of E -/
def kno (g : GG) (P : HP) (e : Nat) (E : String) : Prop := ∃ (ci : Nat) (r : vw_C), vwCl[ci]? = some r ∧ kn g P e ci ∧ cas g r.1 E
theorem kn_ob {g : GG} {e ci : Nat} {fs : List Value} : kn g (ob g e ci fs) e ci := Or.inl fun h hp => by
  obtain ⟨c, rfl, r, -, h1, h2, -⟩ := hp
  exact ⟨c, ph_1_self, h1, by rw [h2]; rfl⟩
theorem kn_cO {g : GG} {P : HP} {e ci : Nat} {fs : List Value} (h : cO g e ci fs) : kn g P e ci := by
  obtain ⟨h1, c, h2, r, -, h3, -, h4, -⟩ := h
  exact Or.inr ⟨c, h1, h2, h3, h4⟩
theorem kn_plD {g : GG} {M : Nat → Option PV} {e : Nat} {u s : Int} {o : Option Nat} (h : at_ g M e (vD u s o)) : kn g (pl g M) e 13 := by
  rcases h with ⟨-, hM⟩ | hC
  · refine Or.inl fun h hp => ?_
    obtain ⟨c, h1, ⟨p, -, r, -, h2, h3, -⟩, -⟩ := pl_get hp hM
    exact ⟨c, h1, h2, by rw [h3]; rfl⟩
  · exact kn_cO hC.2.1
theorem kn_plN {g : GG} {M : Nat → Option PV} {e : Nat} {z : Int} (h : at_ g M e (vN z)) : kn g (pl g M) e 17 := by
  rcases h with ⟨-, hM⟩ | hC
  · refine Or.inl fun h hp => ?_
    obtain ⟨c, h1, r, -, h2, h3, -⟩ := pl_get hp hM
    exact ⟨c, h1, h2, by rw [h3]; rfl⟩
  · exact kn_cO hC.2
theorem kn_at {P : HP} {e ci i : Nat} (hat : Ps[i]? = some P) (hk : kn (xg x) P e ci) (F : Fx x y cc ret nL fr lo tab) {H : Heap} {locs : List Loc} {h : PH} {uc us : Nat} (I : xI x Ps bc bs H locs h uc us) : ∃ c : Cell, H[e]? = some c ∧ c.cls = (xg x).1.1 ci ∧ c.vm.isStatics = false := by
  rcases hk with hk | ⟨c, h1, h2, h3, h4⟩
  · obtain ⟨a, b, hd, rfl, hp, -⟩ := sl_at hat I.1
    obtain ⟨c, g1, g2, g3⟩ := hk a hp
    exact ⟨c, ph_S_l I.2.1 e c g1, g2, g3⟩
  · exact ⟨c, by rw [xI_old F I e h1]; exact h2, h3, h4⟩
theorem kn_rcv (F : Fx x y cc ret nL fr lo tab) (i : Nat) {P : HP} {e ci : Nat} {C : String} {T : u_T} {N : Nat} (hat : Ps[i]? = some P) (hk : kn (xg x) P e ci) (hr : vwCl[ci]? = some (C, T, N)) : Rcv x Ps bc bs e C := fun H locs h uc us I => by
  obtain ⟨c, h1, h2, h3⟩ := kn_at hat hk F I
  exact ⟨c, h1, h3, by rw [h2]; exact (F.K.1 ci _ hr).2.1⟩
/-- the object may lie in a row of E -/
def Any_ (x : EX) (Ps : List HP) (E : String) (v : Nat) : Prop := ∀ (bc bs : Nat) (H : Heap) (locs : List Loc) (h : PH) (uc us : Nat), xI x Ps bc bs H locs h uc us → va_Any E (xs x) H v
theorem any_of (F : Fx x y cc ret nL fr lo tab) (i : Nat) {P : HP} {e : Nat} {E : String} (hat : Ps[i]? = some P) (hk : kno (xg x) P e E) : Any_ x Ps E e := by
  intro bc bs H locs h uc us I
  obtain ⟨ci, r, hr, hk, hc⟩ := hk
  obtain ⟨cell, g1, g2, g3⟩ := kn_at hat hk F I
  obtain ⟨hfc, kB, hkB, -⟩ := (F.K.1 ci r hr).2
  have hal := F.gx.2.1.alike
  refine ⟨cell, g1, g3, ⟨kB, by rw [g2]; exact hkB⟩, fun comp hcomp => ?_⟩
  rw [g2, hal.assignable]
  exact hc comp _ (by rw [← hal.findClass]; exact hcomp) (by rw [← hal.findClass]; exact hfc)
/-- a new array of references -/
theorem sw_anewa (F : Fx x y cc ret nL fr lo tab) {idx t0 : Nat} {C : String} (hao : Cond.arrayOver (.object C) ∈ lw_tbl) (ht : ∀ dA, (tysG dA)[t0]? = some (dA t0, .object C)) (q1 : Cond.classLink y.cls idx C ∈ lw_all) {z : Int} (N : Nat) (hz : z = (N : Int)) (hbytes : N ≤ 67108864) (bc2 bs2 : Nat) (hb : 1 + bc2 ≤ bc ∧ N + bs2 ≤ bs) (hd : decode cc pc = .ok (.anewarray idx, 3)) (hn : pc + 3 = n) (kk : ∀ q : Nat, SW x (aQ (xg x) t0 q N (fun _ => none) :: Ps) bc2 bs2 n L (.ref q :: st)) : SW x Ps bc bs pc L (.int (jI z) :: st) := by
  subst hn; subst hz
  intro H locs h uc us ls I hL
  have hcl : (jI (N : Int)).toNatClampNeg = N := jI_cl rfl (by omega)
  refine W.anew F.exec F.code F.own (F.wd _ q1) (va_AO.use (va_AO.moved F.gx.2.1.alike (va_AO.of (F.gx.1.2.1 _ hao)))) rfl hd rfl (by rw [jI_0, jI_lt (by omega) (by omega)]; omega) (by rw [hcl]; omega) (by show uc + 1 ≤ (xn x).2.2.1; have := I.2.2.2.2.1; omega) (by rw [hcl]; show us + N ≤ (xn x).2.2.2.1; have := I.2.2.2.2.2; omega) fun cA kA comp f1 f2 f3 f4 => ?_
  rw [hcl]
  have hcA : cA = (xg x).2.1 t0 := by
    obtain ⟨kA', comp', -, -, -, e4⟩ := (F.K.2 t0 _ (ht _)).2
    exact Option.some.inj (f1.symm.trans e4)
  subst hcA
  generalize hH1 : H.push ({ cls := (xg x).2.1 t0, slots := Array.replicate N .null, vm := .none } : Cell) = H1
  have z1 : H1.size = H.size + 1 := by rw [← hH1, Array.size_push]
  have e1 : H1[H.size]? = some (arrV ((xg x).2.1 t0) N (fun _ => .null)) := by rw [← hH1, Array.getElem?_push_size, ← arrV_new]
  have o1 : ∀ q : Nat, q < H.size → H1[q]? = H[q]? := fun q hq => by rw [← hH1, Array.getElem?_push, if_neg (Nat.ne_of_lt hq)]
  obtain ⟨h', I'⟩ := xI_new (P' := aQ (xg x) t0 H.size N (fun _ => none)) (N := N) (bc2 := bc2) (bs2 := bs2) F I hb rfl e1 z1 o1
  exact kk H.size H1 locs h' _ _ ls I' hL
/-- a reference laid into an array -/
theorem sw_aastoreQ (F : Fx x y cc ret nL fr lo tab) (i : Nat) {a t0 N v : Nat} {f : Nat → Option Nat} {C : String} (hat : Ps[i]? = some (aQ (xg x) t0 a N f)) (ht : ∀ dA, (tysG dA)[t0]? = some (dA t0, .object C)) (hv : Any_ x Ps C v) {z : Int} (j : Nat) (hz : z = (j : Int)) (hj : j < N ∧ (j : Int) ≤ 2147483647) (Ps' : List HP) (hPs : Ps.set i (aQ (xg x) t0 a N (va_up f j (some v))) = Ps') (hd : decode cc pc = .ok (.aastore, 1)) (hn : pc + 1 = n) (k : SW x Ps' bc bs n L st) : SW x Ps bc bs pc L (.ref v :: .int (jI z) :: .ref a :: st) := by
  subst hn; subst hz; subst hPs
  intro H locs h uc us ls I hL
  have hcl : (jI (j : Int)).toNatClampNeg = j := jI_cl rfl hj.2
  obtain ⟨cellV, g1, g3, ⟨kC, hkC⟩, hasg⟩ := hv _ _ H locs h uc us I
  obtain ⟨kA, comp, k1, k2, k3, -⟩ := (F.K.2 t0 _ (ht _)).2
  obtain ⟨kE, hkE, -⟩ := Vm.findClass_spec k3
  refine W.aast F.exec F.code (ar_at hat I.1 I.2.1) (fun q h => by cases h) (fun h => by cases h) k1 k2 rfl hkE ⟨by rw [jI_0, jI_lt (by omega) (by omega)]; omega, by rw [arrV_size, hcl]; exact hj.1⟩ g1 (fun q h => by rw [h] at g3; cases g3) hkC (hasg _ k3) rfl rfl hd fun H1 e1 e2 e3 => ?_
  rw [hcl] at e1 ⊢
  rw [arrV_store] at e1
  have e1 : H1[a]? = some (arrV ((xg x).2.1 t0) N (fun q => va_rf (va_up f j (some v) q))) := by rw [e1]; congr 2; exact updV_Q f j (some v)
  obtain ⟨h', I'⟩ := xI_write (P' := aQ (xg x) t0 a N (va_up f j (some v))) (k := j) I hat (fun h e => ⟨_, e⟩) rfl e1 e2 e3
  exact k H1 _ h' uc us ls I' hL
theorem sw_aastoreQN (F : Fx x y cc ret nL fr lo tab) (i : Nat) {a t0 N : Nat} {f : Nat → Option Nat} {C : String} (hat : Ps[i]? = some (aQ (xg x) t0 a N f)) (ht : ∀ dA, (tysG dA)[t0]? = some (dA t0, .object C)) {z : Int} (j : Nat) (hz : z = (j : Int)) (hj : j < N ∧ (j : Int) ≤ 2147483647) (Ps' : List HP) (hPs : Ps.set i (aQ (xg x) t0 a N (va_up f j none)) = Ps') (hd : decode cc pc = .ok (.aastore, 1)) (hn : pc + 1 = n) (k : SW x Ps' bc bs n L st) : SW x Ps bc bs pc L (.null :: .int (jI z) :: .ref a :: st) :=
  sw_aastoreN F i (f := fun j => va_rf (f j)) hat ht j hz hj Ps' (by rw [show (updV (fun j => va_rf (f j)) j .null) = _ from updV_Q f j none]; exact hPs) hd hn k
/-- references copied from an array to another (or the same) -/
theorem sw_copyQ (F : Fx x y cc ret nL fr lo tab) (i0 i : Nat) {C : String} {a0 a t0 n0 n1 : Nat} {f g : Nat → Option Nat} (hat0 : Ps[i0]? = some (aQ (xg x) t0 a0 n0 f)) (hat : Ps[i]? = some (aQ (xg x) t0 a n1 g)) (ht : ∀ dA, (tysG dA)[t0]? = some (dA t0, .object C)) {sp dp z : Int} (sn dn nn : Nat) (e1 : sp = (sn : Int)) (e2 : dp = (dn : Int)) (e3 : z = (nn : Int)) (h4 : sn + nn ≤ n0) (h5 : dn + nn ≤ n1) (hb : n0 ≤ 2147483647 ∧ n1 ≤ 2147483647)
    (hel : ∀ j, j < nn → ∀ v, f (sn + j) = some v → Any_ x Ps C v) {idx : Nat} (q1 : Cond.methodLink y.cls idx arraycopyName ∈ lw_all) (q2 : Cond.native arraycopyName ∈ lw_all) (q3 : Cond.static arraycopyName ∈ lw_all) (q4 : Cond.initialized "java/lang/System" ∈ lw_all) (hR : 1 ≤ fr ∧ (st.map fun v => v.category).sum + (nativeFrameWords "java/lang/System" "arraycopy" 5 + 11) ≤ lo)
    (Ps' : List HP) (hPs : Ps.set i (aQ (xg x) t0 a n1 (va_cpy f g sn dn nn)) = Ps') (hd : decode cc pc = .ok (.invokestatic idx, 3)) (hn : pc + 3 = n) (k : SW x Ps' bc bs n L st) : SW x Ps bc bs pc L (.int (jI z) :: .int (jI dp) :: .ref a :: .int (jI sp) :: .ref a0 :: st) := by
  subst hn; subst hPs; subst e1; subst e2; subst e3
  intro H locs h uc us ls I hL T hT X
  have hd0 := ar_at hat0 I.1 I.2.1
  have hd1 := ar_at hat I.1 I.2.1
  obtain ⟨-, k0, hk0, cm0, hkk0⟩ := (F.K.2 t0 _ (ht _)).1 n0 (fun j => va_rf (f j))
  obtain ⟨-, kd, hkd, cmd, hkkd⟩ := (F.K.2 t0 _ (ht _)).1 n1 (fun j => va_rf (g j))
  have c1 : (jI (sn : Int)).toNatClampNeg = sn := jI_cl rfl (by omega)
  have c2 : (jI (dn : Int)).toNatClampNeg = dn := jI_cl rfl (by omega)
  have c3 : (jI (nn : Int)).toNatClampNeg = nn := jI_cl rfl (by omega)
  have n1' : (jI (sn : Int)).toInt = sn := jI_toInt (by omega)
  have n2' : (jI (dn : Int)).toInt = dn := jI_toInt (by omega)
  have n3' : (jI (nn : Int)).toInt = nn := jI_toInt (by omega)
  obtain ⟨vm', X', step⟩ := X.arraycopy F.exec F.own (F.wd _ q1) (F.wd _ q2) (F.wd _ q3) (F.wd _ q4) (src := a0) (dst := a) (cs := arrV ((xg x).2.1 t0) n0 (fun j => va_rf (f j))) (cd := arrV ((xg x).2.1 t0) n1 (fun j => va_rf (g j))) (srcPos := jI (sn : Int)) (destPos := jI (dn : Int)) (n := jI (nn : Int)) (by rw [hT]; exact hd0) (by rw [hT]; exact hd1)
    (fun k e => by cases e) (fun k e => by cases e) (fun e => by cases e) (fun e => by cases e) hk0 hkd hkk0 hkkd rfl
    (by rw [jI_0, jI_lt (by omega) (by omega)]; omega) (by rw [jI_0, jI_lt (by omega) (by omega)]; omega) (by rw [jI_0, jI_lt (by omega) (by omega)]; omega)
    (by rw [n1', n3', arrV_size]; omega) (by rw [n2', n3', arrV_size]; omega)
    (fun vm₁ hal j hj => by
      rw [c3] at hj
      have e : (arrV ((xg x).2.1 t0) n0 (fun j => va_rf (f j))).slots.getD (sn + j) .null = va_rf (f (sn + j)) := by
        rw [Array.getD_eq_getD_getElem?, arrV_read _ _ (by omega)]
        rfl
      rw [c1, e]
      cases hy : f (sn + j) with
      | none => exact ⟨rfl, trivial⟩
      | some v =>
        obtain ⟨cellV, g1, g2, ⟨kC, hkC⟩, hasg⟩ := hel j hj v hy _ _ H locs h uc us I
        obtain ⟨kA, comp, r1, r2, r3, -⟩ := (F.K.2 t0 _ (ht _)).2
        cases hkd.symm.trans r1
        cases hkkd.symm.trans r2
        obtain ⟨kE, hkE, -⟩ := Vm.findClass_spec r3
        obtain ⟨kC', hkC', -⟩ := hal.2.2 _ _ hkC
        obtain ⟨kE', hkE', -⟩ := hal.2.2 _ _ hkE
        refine ⟨rfl, cellV, (show T.heap[v]? = some cellV by rw [hT]; exact g1), (fun q h => by rw [h] at g2; cases g2), ⟨kC', hkC'⟩, ⟨kE', hkE'⟩, ?_⟩
        show vm₁.assignable _ _ = true
        rw [hal.assignable]
        exact hasg _ r3)
    (g := F0 (xm x) pc ls (.int (jI (nn : Int)) :: .int (jI (dn : Int)) :: .ref a :: .int (jI (sn : Int)) :: .ref a0 :: st)) rfl ((hL.1.trans F.nl).trans F.mL.symm) (rest := st) rfl (by rw [F.code]; exact hd) (by show 1 ≤ (xn x).1; rw [F.fR]; exact hR.1) (by show 2 * 0 + _ + _ ≤ (xn x).2.1; rw [F.lO]; have := hR.2; omega)
  have e1 : copied (arrV ((xg x).2.1 t0) n0 (fun j => va_rf (f j))) (arrV ((xg x).2.1 t0) n1 (fun j => va_rf (g j))) (jI (sn : Int)) (jI (dn : Int)) (jI (nn : Int)) = arrV ((xg x).2.1 t0) n1 (fun j => va_rf (va_cpy f g sn dn nn j)) := by
    show (arrV ((xg x).2.1 t0) n1 _).storeRun (jI (dn : Int)).toNatClampNeg (Cell.stretch _ (jI (sn : Int)).toNatClampNeg (jI (nn : Int)).toNatClampNeg) = _
    rw [c1, c2, c3]
    exact va_copied (fun v => va_rf v) ((xg x).2.1 t0) ((xg x).2.1 t0) f g h4
  rw [e1] at X' step
  have hl : a < H.size := (Array.getElem?_eq_some_iff.mp hd1).1
  have hheap : ((T.setVm vm').setCell a (arrV ((xg x).2.1 t0) n1 (fun j => va_rf (va_cpy f g sn dn nn j)))).heap = H.setIfInBounds a (arrV ((xg x).2.1 t0) n1 (fun j => va_rf (va_cpy f g sn dn nn j))) := by rw [← hT]; rfl
  obtain ⟨h', I'⟩ := xI_writeL (H' := H.setIfInBounds a (arrV ((xg x).2.1 t0) n1 (fun j => va_rf (va_cpy f g sn dn nn j)))) (P' := aQ (xg x) t0 a n1 (va_cpy f g sn dn nn)) (LL := ((arrV ((xg x).2.1 t0) n0 (fun j => va_rf (f j))).stretch (jI (sn : Int)).toNatClampNeg (jI (nn : Int)).toNatClampNeg).zipIdx.map fun q => ⟨a, (jI (dn : Int)).toNatClampNeg + q.2⟩) I hat (fun h e => ⟨_, e⟩) rfl (by simp [Array.getElem?_setIfInBounds, hl]) (by simp) (fun q hq => by simp [Array.getElem?_setIfInBounds, Ne.symm hq]) (fun z hz => by
    obtain ⟨w, -, e⟩ := List.mem_map.mp hz
    rw [← e])
  obtain ⟨t, a1, b1⟩ := k _ _ h' uc us ls I' hL _ hheap X'
  exact ⟨t, step t a1, b1⟩
/-- two equal numbers compared -/
theorem sw_icmp_neS (F : Fx x y cc ret nL fr lo tab) {a : Int} {off : Int} {tgt : Nat} (hd : decode cc pc = .ok (.if_icmp .ne off, 3)) (ht : (pc : Int) + off = (tgt : Int)) (hn : pc + 3 = n) (k : SW x Ps bc bs n L st) : SW x Ps bc bs pc L (.int (jI a) :: .int (jI a) :: st) := by
  subst hn; intro H locs h uc us ls I hl; exact lv_icmp_ne F.exec F.code hd ht (fun q => absurd rfl q) (fun _ => k H locs h uc us ls I hl)
theorem lw_4 {a b c d : Cond} (h1 : a ∈ lw_all) (h2 : b ∈ lw_all) (h3 : c ∈ lw_all) (h4 : d ∈ lw_all) : ∀ w ∈ ([a, b, c, d] : List Cond), w ∈ lw_all := by
  intro w h
  simp only [List.mem_cons, List.not_mem_nil, or_false] at h
  rcases h with rfl | rfl | rfl | rfl <;> assumption
theorem sw_icmp_eqS (F : Fx x y cc ret nL fr lo tab) {a : Int} {off : Int} {tgt : Nat} (hd : decode cc pc = .ok (.if_icmp .eq off, 3)) (ht : (pc : Int) + off = (tgt : Int)) (hn : pc + 3 = n) (k : SW x Ps bc bs tgt L st) : SW x Ps bc bs pc L (.int (jI a) :: .int (jI a) :: st) := by
  subst hn; intro H locs h uc us ls I hl; exact lv_icmp_eq F.exec F.code hd ht (fun _ => k H locs h uc us ls I hl) (fun q => absurd rfl q)
/-- an object cast to a class above its own -/
theorem sw_castC (F : Fx x y cc ret nL fr lo tab) {a idx : Nat} {C E : String} (hrec : Rcv x Ps bc bs a C) (q1 : Cond.classLink y.cls idx E ∈ lw_all) (q2 : Cond.castable C E ∈ lw_tbl) (hd : decode cc pc = .ok (.checkcast idx, 3)) (hn : pc + 3 = n) (k : SW x Ps bc bs n L (.ref a :: st)) : SW x Ps bc bs pc L (.ref a :: st) := by
  subst hn
  intro H locs h uc us ls I hL T hT X
  obtain ⟨cell, g1, g2, g3⟩ := hrec H locs h uc us I
  obtain ⟨c3, c4, h3, h4, hasg⟩ := Cond.castable_spec (F.gx.1.2.1 _ q2)
  have hal := F.gx.2.1.alike
  rw [hal.findClass] at g3
  have e : cell.cls = c3 := Option.some.inj (g3.symm.trans h3)
  obtain ⟨vm', X', step⟩ := X.checkcastYes F.exec F.own (F.wd _ q1) (a := a) (cT := c4) (by rw [hT]; exact g1) g2 (by rw [hal.findClass]; exact h4) (by rw [hal.assignable, e]; exact hasg) (g := F0 (xm x) pc ls (.ref a :: st)) rfl rfl (by rw [F.code]; exact hd)
  obtain ⟨t, a1, b1⟩ := k H locs h uc us ls I hL (T.setVm vm') hT X'
  exact ⟨t, step t a1, b1⟩
theorem sw_castAO (F : Fx x y cc ret nL fr lo tab) (i : Nat) {a t0 N : Nat} {C : String} {f : Nat → Option Nat} (hat : Ps[i]? = some (aQ (xg x) t0 a N f)) (ht : ∀ dA, (tysG dA)[t0]? = some (dA t0, .object C)) {idx : Nat} {nm : String} (q1 : Cond.classLink y.cls idx nm ∈ lw_all) (hnm : "[" ++ (FieldType.object C).toString = nm) (hd : decode cc pc = .ok (.checkcast idx, 3)) (hn : pc + 3 = n) (k : SW x Ps bc bs n L (.ref a :: st)) : SW x Ps bc bs pc L (.ref a :: st) := by
  subst hn; subst hnm
  intro H locs h uc us ls I hL T hT X
  obtain ⟨kA, comp, -, -, -, e4⟩ := (F.K.2 t0 _ (ht _)).2
  obtain ⟨vm', X', step⟩ := X.checkcastYes F.exec F.own (F.wd _ q1) (a := a) (by rw [hT]; exact ar_at hat I.1 I.2.1) rfl e4 (va_asg _ _) (g := F0 (xm x) pc ls (.ref a :: st)) rfl rfl (by rw [F.code]; exact hd)
  obtain ⟨t, a1, b1⟩ := k H locs h uc us ls I hL (T.setVm vm') hT X'
  exact ⟨t, step t a1, b1⟩
theorem rcv_aQ (F : Fx x y cc ret nL fr lo tab) (i : Nat) {a t0 N : Nat} {C nm : String} {f : Nat → Option Nat} (hat : Ps[i]? = some (aQ (xg x) t0 a N f)) (ht : ∀ dA, (tysG dA)[t0]? = some (dA t0, .object C)) (hnm : "[" ++ (FieldType.object C).toString = nm) : Rcv x Ps bc bs a nm := fun H locs h uc us I => by
  subst hnm
  obtain ⟨kA, comp, -, -, -, e4⟩ := (F.K.2 t0 _ (ht _)).2
  exact ⟨_, ar_at hat I.1 I.2.1, rfl, e4⟩
theorem lw_5 {a b c d e : Cond} (h1 : a ∈ lw_all) (h2 : b ∈ lw_all) (h3 : c ∈ lw_all) (h4 : d ∈ lw_all) (h5 : e ∈ lw_all) : ∀ w ∈ ([a, b, c, d, e] : List Cond), w ∈ lw_all := by
  intro w h
  simp only [List.mem_cons, List.not_mem_nil, or_false] at h
  rcases h with rfl | rfl | rfl | rfl | rfl <;> assumption
/-- the core of a call through an interface -/
theorem sw_go5 (F : Fx x y cc ret nL fr lo tab) {y2 : MethodName} {ws2 : List Cond} {fr2 lo2 mc2 ms2 : Nat} {As : List Value} {Ps2 : List HP} {Po2 : Option Value → List HP → Prop} {Px2 : String → List HP → Prop} (C : Ct (xg x) (xl x) y2 ws2 fr2 lo2 mc2 ms2 As Ps2 Po2 Px2)
    (is : List Nat) (hp : is.isPerm (List.range Ps.length) = true) (Rs : List HP) (hpk : sl_pick Ps is = Ps2 ++ Rs) {bc2 bs2 : Nat} (hb : mc2 + bc2 ≤ bc ∧ ms2 + bs2 ≤ bs) {rest : List Value}
    (run : ∀ (H : Heap) (locs : List Loc) (h a : PH) (uc us : Nat) (ls : Array Slot), xI x Ps bc bs H locs h uc us → ls.size = nL → uc + mc2 ≤ (xn x).2.2.1 ∧ us + ms2 ≤ (xn x).2.2.2.1 →
      vx_Met (xl x) y2 ws2 ({ frames := fr2, cells := mc2, slots := ms2, locals := lo2 } : Room) (va_Pc As (fun U => U.heap.size = H.size ∧ ph_S a U.heap ∧ GX (xg x) (xl x) U)) (ctQ a H.size Po2) (ctX a H.size Px2) mc2 ms2 (ctA a H.size) →
      (∀ U : State, U.heap = H → (xs x).WarmedH U.vm → va_Pc As (fun U => U.heap.size = H.size ∧ ph_S a U.heap ∧ GX (xg x) (xl x) U) As.toArray U) →
      vx_Run5 (xp x) (xl x) (xe x) (xR x) (xs x) (xm x) (xa x) (xb x) (xt x) (xc x) H locs uc us mc2 ms2 (F0 (xm x) pc ls st) rest (ctQ a H.size Po2 As.toArray) (ctX a H.size Px2) (ctA a H.size))
    (hn : pc + 5 = n) (kx : ∀ (E : String) (Ws : List HP), Px2 E Ws → SX x (Ws ++ Rs) bc2 bs2 pc L E) (kk : ∀ (v : Option Value) (Ws : List HP), Po2 v Ws → SW x (Ws ++ Rs) bc2 bs2 n L (v.toList ++ rest)) : SW x Ps bc bs pc L st := by
  subst hn
  intro H locs h uc us ls I hL T hT X
  have I0 := I
  obtain ⟨hs, hS, hA, hV, i1, i2⟩ := I
  have hs2 := sl_perm (sl_pick_perm is hp) _ hs
  rw [hpk] at hs2
  obtain ⟨a, b, hD, rfl, ha, hbR⟩ := (sl_app _).mp hs2
  have haS := ph_S_l hS
  have hM := C a H.size ha (fun q hq => F.A0 q (hA q (fun z => hq (ph_U_none.mp z).1)))
  have hPre : ∀ U : State, U.heap = H → (xs x).WarmedH U.vm → va_Pc As (fun U => U.heap.size = H.size ∧ ph_S a U.heap ∧ GX (xg x) (xl x) U) As.toArray U := fun U hU hW => ⟨rfl, by rw [hU], by rw [hU]; exact haS, xI_gx F I0 hU hW⟩
  rcases run H locs (ph_U a b) a uc us ls I0 (hL.1.trans F.nl) ⟨by omega, by omega⟩ hM hPre T hT X with ⟨v, st₀, t, T', LL, e0, X', hLL, e1, -, hq, st⟩ | ⟨q, st₀, t, T', LL, E, ce, e0, X', hLL, e1, -, hx, g1, g2, g3, st⟩
  · obtain ⟨⟨v', Ws, h', ev, hpo, hW, hS', hdom⟩, hF⟩ := hq
    cases ev
    have I2 := xI_back (H1 := T'.heap) (LL := LL) (mc2 := mc2) (ms2 := ms2) (bc2 := bc2) (bs2 := bs2) I0 hD hbR hW (by rw [e1]; exact hS') hdom (by rw [e1, ← e0]; exact hF.1) (fun q h1 h2 => by rw [e1, ← e0]; exact hF.2 q (by rw [e0]; exact h1) h2) hLL hb
    obtain ⟨u, s1, s2⟩ := kk v Ws hpo T'.heap (locs ++ LL) _ _ _ ls I2 hL T' rfl X'
    exact ⟨u, st u s1, s2⟩
  · obtain ⟨⟨Ws, h', hpx, hW, hS', hdom⟩, hF⟩ := hx
    have I2 := xI_back (H1 := T'.heap) (LL := LL) (mc2 := mc2) (ms2 := ms2) (bc2 := bc2) (bs2 := bs2) I0 hD hbR hW (by rw [e1]; exact hS') hdom (by rw [e1, ← e0]; exact hF.1) (fun q h1 h2 => by rw [e1, ← e0]; exact hF.2 q (by rw [e0]; exact h1) h2) hLL hb
    obtain ⟨u, s1, s2⟩ := kx E Ws hpx T'.heap (locs ++ LL) _ _ _ ls rest q ce I2 hL (by rw [e1]; exact g1) g2 g3 T' rfl X'
    exact ⟨u, st.trans s1, s2⟩
theorem fw_of {g : GG} {l : Launch} (h : ST g l) {C : String} {z y2 : MethodName} (h1 : Cond.declares z ∈ lw_tbl) (h2 : Cond.interfaceMethod z.cls z.cls z.name z.desc ∈ lw_tbl) (h3 : Cond.publicMethod y2 ∈ lw_tbl) (h4 : Cond.unhidden C z.name z.desc ∈ lw_tbl) (h5 : Cond.castable C z.cls ∈ lw_tbl) : va_Fw C z y2 (gS g) := va_Fw.of (h.2.1 _ h1) (h.2.1 _ h2) (h.2.1 _ h3) (h.2.1 _ h4) (h.2.1 _ h5)
/-- a method named by an interface -/
theorem sw_callF (F : Fx x y cc ret nL fr lo tab) {z y2 : MethodName} {cc2 : ByteArray} {nL2 : Nat} {ret2 : Option FieldType} {fr2 lo2 mc2 ms2 b ci N : Nat} {T2 : u_T} {CC : String} {As : List Value} {Ps2 : List HP} {Po2 : Option Value → List HP → Prop} {Px2 : String → List HP → Prop} (C : Ct (xg x) (xl x) y2 (ws_ y2 cc2 nL2 ret2) fr2 lo2 mc2 ms2 (.ref b :: As) Ps2 Po2 Px2)
    (hrec : Rcv x Ps bc bs b CC) (hci : vwCl[ci]? = some (CC, T2, N)) (hf : va_Fw CC z y2 (gS (xg x))) {idx cnt k : Nat} (q1 : Cond.methodLink y.cls idx z ∈ lw_all) (q2 : Cond.selects CC z y2 ∈ lw_all) (q3 : Cond.instanceMethod y2 ∈ lw_all) (q4 : Cond.initialized y2.cls ∈ lw_all) (q5 : Cond.code y2 cc2 nL2 ret2 ∈ lw_all) (hy : z.cls ≠ "java/lang/invoke/MethodHandle" ∧ z.cls ≠ "java/lang/invoke/VarHandle" ∧ (parseMethodDescriptor z.desc).map (fun d => d.parameters.length) = some k) (hk : As.length = k) (hR : fr2 + 1 ≤ fr ∧ 8 + (nL2 + 11) + lo2 ≤ lo)
    (is : List Nat) (hp : is.isPerm (List.range Ps.length) = true) (Rs : List HP) (hpk : sl_pick Ps is = Ps2 ++ Rs) (bc2 bs2 : Nat) (hb : mc2 + bc2 ≤ bc ∧ ms2 + bs2 ≤ bs) (rest : List Value) (hst : st = As.reverse ++ .ref b :: rest) (hcat : (rest.map fun v => v.category).sum ≤ 8) (hd : decode cc pc = .ok (.invokeinterface idx cnt, 5))
    (hn : pc + 5 = n) (kx : ∀ (E : String) (Ws : List HP), Px2 E Ws → SX x (Ws ++ Rs) bc2 bs2 pc L E) (kk : ∀ (v : Option Value) (Ws : List HP), Po2 v Ws → SW x (Ws ++ Rs) bc2 bs2 n L (v.toList ++ rest)) : SW x Ps bc bs pc L st := by
  refine sw_go5 F C is hp Rs hpk hb (fun H locs h a uc us ls I hsz hff hM hPre => ?_) hn kx kk
  exact vx_runF (rm := { frames := fr2, cells := mc2, slots := ms2, locals := lo2 }) (C := CC) (x := z) (F.K.1 ci _ hci).2 ⟨F.exec, F.code, F.mL, F.own, F.wd⟩ hM
    (va_cwF k F.wd (lw_app (lw_4 q1 q2 q3 q4) (lw_meth q5)) rfl rfl rfl (va_Fw.moved ⟨hy.1, hy.2.1⟩ F.gx.2.1.alike hf) hy ⟨by show fr2 + 1 ≤ (xn x).1; rw [F.fR]; exact hR.1, by show _ ≤ (xn x).2.1; rw [F.lO]; exact hR.2⟩) ⟨ct_blind, hrec H locs h uc us I, hPre⟩ rfl hk hsz hst (lv_room hcat) hd hff
/-- a constructor of a nest mate -/
theorem sw_callIN (F : Fx x y cc ret nL fr lo tab) {y2 : MethodName} {cc2 : ByteArray} {nL2 : Nat} {fr2 lo2 mc2 ms2 b : Nat} {host : String} {As : List Value} {Ps2 : List HP} {Po2 : Option Value → List HP → Prop} {Px2 : String → List HP → Prop} (C : Ct (xg x) (xl x) y2 (ws_ y2 cc2 nL2 none) fr2 lo2 mc2 ms2 (.ref b :: As) Ps2 Po2 Px2)
    {idx k : Nat} (q1 : Cond.methodLinkNest y.cls idx y2 host ∈ lw_tbl) (q2 : Cond.instanceMethod y2 ∈ lw_all) (q3 : Cond.initialized y2.cls ∈ lw_all) (q5 : Cond.code y2 cc2 nL2 none ∈ lw_all) (hin : y2.name = "<init>") (hy : y2.cls ≠ "java/lang/invoke/MethodHandle" ∧ y2.cls ≠ "java/lang/invoke/VarHandle" ∧ (parseMethodDescriptor y2.desc).map (fun d => d.parameters.length) = some k) (hk : As.length = k) (hR : fr2 + 1 ≤ fr ∧ 8 + (nL2 + 11) + lo2 ≤ lo)
    (is : List Nat) (hp : is.isPerm (List.range Ps.length) = true) (Rs : List HP) (hpk : sl_pick Ps is = Ps2 ++ Rs) (bc2 bs2 : Nat) (hb : mc2 + bc2 ≤ bc ∧ ms2 + bs2 ≤ bs) (rest : List Value) (hst : st = As.reverse ++ .ref b :: rest) (hcat : (rest.map fun v => v.category).sum ≤ 8) (hd : decode cc pc = .ok (.invokespecial idx, 3))
    (hn : pc + 3 = n) (kx : ∀ (E : String) (Ws : List HP), Px2 E Ws → SX x (Ws ++ Rs) bc2 bs2 pc L E) (kk : ∀ (v : Option Value) (Ws : List HP), Po2 v Ws → SW x (Ws ++ Rs) bc2 bs2 n L (v.toList ++ rest)) : SW x Ps bc bs pc L st := by
  refine sw_go F C is hp Rs hpk hb (fun H locs h a uc us ls I hsz hf hM hPre => ?_) hn kx kk
  exact vx_runIN (rm := { frames := fr2, cells := mc2, slots := ms2, locals := lo2 }) ⟨F.exec, F.code, F.mL, F.own, F.wd⟩ hM ⟨va_cnB k F.wd (lw_meth q5) rfl rfl rfl (va_Nw.warmM F.gx.2.1 (va_Nw.of rfl (F.gx.1.2.1 _ q1))) (F.wd _ q3) hy ⟨by show fr2 + 1 ≤ (xn x).1; rw [F.fR]; exact hR.1, by show _ ≤ (xn x).2.1; rw [F.lO]; exact hR.2⟩, hin, F.wd _ q2⟩ ⟨ct_blind, hPre⟩ rfl hk hsz hst (lv_room hcat) hd hf
/-- a private static method of a nest mate -/
theorem sw_callSN (F : Fx x y cc ret nL fr lo tab) {y2 : MethodName} {cc2 : ByteArray} {nL2 : Nat} {ret2 : Option FieldType} {fr2 lo2 mc2 ms2 : Nat} {host : String} {As : List Value} {Ps2 : List HP} {Po2 : Option Value → List HP → Prop} {Px2 : String → List HP → Prop} (C : Ct (xg x) (xl x) y2 (ws_ y2 cc2 nL2 ret2) fr2 lo2 mc2 ms2 As Ps2 Po2 Px2)
    {idx k : Nat} (q1 : Cond.methodLinkNest y.cls idx y2 host ∈ lw_tbl) (q2 : Cond.static y2 ∈ lw_all) (q3 : Cond.initialized y2.cls ∈ lw_all) (q4 : Cond.code y2 cc2 nL2 ret2 ∈ lw_all) (hy : y2.cls ≠ "java/lang/invoke/MethodHandle" ∧ y2.cls ≠ "java/lang/invoke/VarHandle" ∧ (parseMethodDescriptor y2.desc).map (fun d => d.parameters.length) = some k) (hk : As.length = k) (hR : fr2 + 1 ≤ fr ∧ 8 + (nL2 + 11) + lo2 ≤ lo)
    (is : List Nat) (hp : is.isPerm (List.range Ps.length) = true) (Rs : List HP) (hpk : sl_pick Ps is = Ps2 ++ Rs) (bc2 bs2 : Nat) (hb : mc2 + bc2 ≤ bc ∧ ms2 + bs2 ≤ bs) (rest : List Value) (hst : st = As.reverse ++ rest) (hcat : (rest.map fun v => v.category).sum ≤ 8) (hd : decode cc pc = .ok (.invokestatic idx, 3))
    (hn : pc + 3 = n) (kx : ∀ (E : String) (Ws : List HP), Px2 E Ws → SX x (Ws ++ Rs) bc2 bs2 pc L E) (kk : ∀ (v : Option Value) (Ws : List HP), Po2 v Ws → SW x (Ws ++ Rs) bc2 bs2 n L (v.toList ++ rest)) : SW x Ps bc bs pc L st := by
  refine sw_go F C is hp Rs hpk hb (fun H locs h a uc us ls I hsz hf hM hPre => ?_) hn kx kk
  exact vx_runSN (rm := { frames := fr2, cells := mc2, slots := ms2, locals := lo2 }) ⟨F.exec, F.code, F.mL, F.own, F.wd⟩ hM ⟨va_cnB k F.wd (lw_meth q4) rfl rfl rfl (va_Nw.warmM F.gx.2.1 (va_Nw.of rfl (F.gx.1.2.1 _ q1))) (F.wd _ q3) hy ⟨by show fr2 + 1 ≤ (xn x).1; rw [F.fR]; exact hR.1, by show _ ≤ (xn x).2.1; rw [F.lO]; exact hR.2⟩, F.wd _ q2, trivial⟩ ⟨ct_blind, hPre⟩ rfl hk hsz hst (lv_room hcat) hd hf
/-- an inherited method -/
theorem sw_callU (F : Fx x y cc ret nL fr lo tab) {z y2 : MethodName} {cc2 : ByteArray} {nL2 : Nat} {ret2 : Option FieldType} {fr2 lo2 mc2 ms2 b : Nat} {CC owner : String} {As : List Value} {Ps2 : List HP} {Po2 : Option Value → List HP → Prop} {Px2 : String → List HP → Prop} (C : Ct (xg x) (xl x) y2 (ws_ y2 cc2 nL2 ret2) fr2 lo2 mc2 ms2 (.ref b :: As) Ps2 Po2 Px2)
    (hrec : Rcv x Ps bc bs b CC) {idx k : Nat} (hcw : ∀ (R : Room), fr2 + 1 ≤ R.frames → 8 + (nL2 + 11) + lo2 ≤ R.locals → va_CU R (xs x) (xa x) y.cls CC owner idx z y2 cc2 nL2 ret2 (ws_ y2 cc2 nL2 ret2) { frames := fr2, cells := mc2, slots := ms2, locals := lo2 } mc2 ms2 k) (hk : As.length = k) (hR : fr2 + 1 ≤ fr ∧ 8 + (nL2 + 11) + lo2 ≤ lo)
    (is : List Nat) (hp : is.isPerm (List.range Ps.length) = true) (Rs : List HP) (hpk : sl_pick Ps is = Ps2 ++ Rs) (bc2 bs2 : Nat) (hb : mc2 + bc2 ≤ bc ∧ ms2 + bs2 ≤ bs) (rest : List Value) (hst : st = As.reverse ++ .ref b :: rest) (hcat : (rest.map fun v => v.category).sum ≤ 8) (hd : decode cc pc = .ok (.invokevirtual idx, 3))
    (hn : pc + 3 = n) (kx : ∀ (E : String) (Ws : List HP), Px2 E Ws → SX x (Ws ++ Rs) bc2 bs2 pc L E) (kk : ∀ (v : Option Value) (Ws : List HP), Po2 v Ws → SW x (Ws ++ Rs) bc2 bs2 n L (v.toList ++ rest)) : SW x Ps bc bs pc L st := by
  refine sw_go F C is hp Rs hpk hb (fun H locs h a uc us ls I hsz hf hM hPre => ?_) hn kx kk
  exact vx_runU (rm := { frames := fr2, cells := mc2, slots := ms2, locals := lo2 }) (C := CC) (owner := owner) (x := z) ⟨F.exec, F.code, F.mL, F.own, F.wd⟩ hM (hcw _ (by show fr2 + 1 ≤ (xn x).1; rw [F.fR]; exact hR.1) (by show _ ≤ (xn x).2.1; rw [F.lO]; exact hR.2)) ⟨ct_blind, hrec H locs h uc us I, hPre⟩ rfl hk hsz hst (lv_room hcat) hd hf
/-- private fields of nest mates -/
def FLN (own : String) (idx ci k : Nat) (ref : String) : Prop := ∃ (r : vw_C) (host : String), vwCl[ci]? = some r ∧ k < r.2.2 ∧ Cond.fieldLinkNest own idx ref (r.2.1 k).2.1 (r.2.1 k).2.2.1 host ∈ lw_tbl ∧ (∀ w ∈ u_ws r.1 r.2.1 r.2.2, w ∈ lw_all) ∧ (ref = (r.2.1 k).1 ∨ Cond.sameField ref (r.2.1 k).1 (r.2.1 k).2.1 (r.2.1 k).2.2.1 ∈ lw_all)
theorem getR_WN (F : Fx x y cc ret nL fr lo tab) {a ci : Nat} {fs : List Value} {c : Cell} {H : Heap} {locs : List Loc} {uc us : Nat} {ls : Array Slot} (h1 : H[a]? = some c) (h2 : obR (xg x) ci fs c) {idx k : Nat} {ref : String} (hl : FLN y.cls idx ci k ref) {v : Value} (hv : fs[k]? = some v) (hd : decode cc pc = .ok (.getfield idx, 3)) (kk : xW x H locs uc us (pc + 3) ls (v :: st)) : xW x H locs uc us pc ls (.ref a :: st) := by
  obtain ⟨⟨C, T, N⟩, host, hc, hk, hlink, hin, hsame⟩ := hl
  obtain ⟨r, hr, q2, q3, -, q4⟩ := h2
  have hr : r = (C, T, N) := Option.some.inj (hr.symm.trans hc)
  subst hr
  obtain ⟨hS, hfc, kC, hkC, hkind⟩ := F.K.1 ci _ hc
  obtain ⟨cf, kf, fi, f, hi, hsl⟩ := hS k hk
  refine va_Wgetf F.exec F.code F.own (va_Nw.use rfl (va_Nw.warmF F.gx.2.1 (va_Nw.of rfl (F.gx.1.2.1 _ hlink)))) (FL.same (own := "") (idx := 0) hsame F.wd _ hi) (u_facts hfc hkC (u_lays F.wd hin hk) hi).1 h1 q3 (v := v) ?_ rfl rfl hd kk
  rw [hsl]
  refine (q4 k hk).trans ?_
  simp [vp_V, List.getD, hv]
theorem sw_getKN (F : Fx x y cc ret nL fr lo tab) {a ci : Nat} {fs : List Value} (hh : hO x Ps a ci fs) {idx k : Nat} {ref : String} (hl : FLN y.cls idx ci k ref) {v : Value} (hv : fs[k]? = some v) (hd : decode cc pc = .ok (.getfield idx, 3)) (hn : pc + 3 = n) (kk : SW x Ps bc bs n L (v :: st)) : SW x Ps bc bs pc L (.ref a :: st) := by
  subst hn
  intro H locs h uc us ls I hL
  obtain ⟨c, h1, h2⟩ := hh _ _ H locs h uc us I
  exact getR_WN F h1 h2 hl hv hd (kk H locs h uc us ls I hL)
theorem sw_getN (F : Fx x y cc ret nL fr lo tab) (i : Nat) {a ci : Nat} {fs : List Value} (hat : Ps[i]? = some (ob (xg x) a ci fs)) {idx k : Nat} {ref : String} (hl : FLN y.cls idx ci k ref) {v : Value} (hv : fs[k]? = some v) (hd : decode cc pc = .ok (.getfield idx, 3)) (hn : pc + 3 = n) (kk : SW x Ps bc bs n L (v :: st)) : SW x Ps bc bs pc L (.ref a :: st) :=
  sw_getKN F (hO_ob hat) hl hv hd hn kk
theorem sw_putN (F : Fx x y cc ret nL fr lo tab) (i : Nat) {a ci : Nat} {fs fs' : List Value} (hat : Ps[i]? = some (ob (xg x) a ci fs)) {idx k : Nat} {ref : String} (hl : FLN y.cls idx ci k ref) {v : Value} (ty : FieldType)
    (hk : ∃ r : vw_C, vwCl[ci]? = some r ∧ (r.2.1 k).2.2.2 = false ∧ parseFieldDescriptor (r.2.1 k).2.2.1 = some ty ∧ (∀ a, a < r.2.2 → ∀ b, b < r.2.2 → a ≠ b → (r.2.1 a).2.1 ≠ (r.2.1 b).2.1) ∧ ∃ ty0 : Nat → FieldType, ∀ k, k < r.2.2 → parseFieldDescriptor (r.2.1 k).2.2.1 = some (ty0 k))
    (hn1 : narrow ty v = v) (hfit : fits ty v = true) (hlen : k < fs.length) (hfs : fs.set k v = fs') (Ps' : List HP) (hPs : Ps.set i (ob (xg x) a ci fs') = Ps') (hd : decode cc pc = .ok (.putfield idx, 3)) (hn : pc + 3 = n) (kk : SW x Ps' bc bs n L st) : SW x Ps bc bs pc L (v :: .ref a :: st) := by
  subst hn; subst hPs; subst hfs
  intro H locs h uc us ls I hL
  obtain ⟨⟨C, T, N⟩, host, hc, hk1, hlink, hin, hsame⟩ := hl
  obtain ⟨r', hc', hfin, hdp, hnm, ty0, hty⟩ := hk
  cases hc.symm.trans hc'
  have hap := va_apart (own := y.cls) F.wd hin ty0 hty hnm F.K hc
  obtain ⟨r, h1, cell, q1, q2, q3, q4⟩ := ob_P hat I.1 I.2.1 0 _ rfl
  cases h1.symm.trans hc
  obtain ⟨hS, hfc, kC, hkC, hkind⟩ := F.K.1 ci _ hc
  obtain ⟨cf, kf, fi, f, hi, hsl⟩ := hS k hk1
  have hlay := F.wd _ (hin _ (u_in_lay hk1))
  unfold u_lay at hlay
  rw [if_neg (by rw [hfin]; decide)] at hlay
  have hst := (u_facts hfc hkC (u_lays F.wd hin hk1) hi).1
  have h6 := u_store hfc hkC hkind hlay hi hdp hn1 hfit
  refine va_WputK F.exec F.code (f := f) F.own (va_Nw.use rfl (va_Nw.warmF F.gx.2.1 (va_Nw.of rfl (F.gx.1.2.1 _ hlink)))) (FL.same (own := "") (idx := 0) hsame F.wd _ hi) hst (by rw [q2]; exact h6) q1 q3 (by rw [hsl]; exact k2_hasslot (q4 k hk1)) rfl rfl hd fun H' e1 e2 e3 => ?_
  rw [hsl] at e1 ⊢
  obtain ⟨h', I'⟩ := xI_write (P' := ob (xg x) a ci (fs.set k v)) (k := (xg x).1.2 ci k) I hat (fun h ⟨c, e, _⟩ => ⟨c, e⟩)
    ⟨cell.setSlot ((xg x).1.2 ci k) v, rfl, (C, T, N), hc, q2, q3, fun j hj => by have z := t_set q4 hap hk1 v j hj; rw [vp_updV_set hlen] at z; exact z⟩ e1 e2 e3
  exact kk H' _ h' uc us ls I' hL
end COLL
/-! objects of any class that never change: the second pool -/
abbrev TT : Type := Nat → Option (Nat × List Value)
def im (g : GG) (T : TT) : HP := fun h => (∀ q, h q = none ↔ T q = none) ∧ ∀ q c r, h q = some c → T q = some r → obC g r.1 r.2 c
def am (T : TT) (q ci : Nat) (fs : List Value) : Prop := T q = some (ci, fs)
def lm_ (T T' : TT) : Prop := ∀ q v, T q = some v → T' q = some v
theorem lm_.rf {T : TT} : lm_ T T := fun _ _ h => h
theorem lm_.tr {T T' T'' : TT} (h : lm_ T T') (h2 : lm_ T' T'') : lm_ T T'' := fun q v k => h2 q v (h q v k)
theorem am.up {T T' : TT} {q ci : Nat} {fs : List Value} (h : am T q ci fs) (hl : lm_ T T') : am T' q ci fs := hl _ _ h
theorem kn_im {g : GG} {T : TT} {e ci : Nat} {fs : List Value} (h : am T e ci fs) : kn g (im g T) e ci := Or.inl fun hh hp => by
  cases e1 : hh e with
  | none =>
    have h2 := (hp.1 e).mp e1
    have h : T e = some (ci, fs) := h
    rw [h2] at h; cases h
  | some c =>
    obtain ⟨r, -, h3, h4, -⟩ := hp.2 e c _ e1 h
    exact ⟨c, rfl, h3, by rw [h4]; rfl⟩
section IMM
variable {x : EX} {y : MethodName} {cc : ByteArray} {ret : Option FieldType} {nL fr lo : Nat} {tab : List ExceptionTableEntry} {Ps : List HP} {bc bs pc n : Nat} {L : List (Nat × Value)} {st : List Value} {T : TT} {q ci : Nat} {fs : List Value}
theorem im_hO (i : Nat) (hat : Ps[i]? = some (im (xg x) T)) (h : am T q ci fs) : hO x Ps q ci fs := by
  intro bc bs H locs hh uc us I
  obtain ⟨a, b, hd, rfl, hp, -⟩ := sl_at hat I.1
  cases e1 : a q with
  | none =>
    have h2 := (hp.1 q).mp e1
    have h : T q = some (ci, fs) := h
    rw [h2] at h; cases h
  | some c => exact ⟨c, ph_S_l I.2.1 q c e1, (hp.2 q c _ e1 h).R⟩
/-- an object joins the second pool -/
theorem sw_absM {Rs : List HP} (kk : ∀ T' : TT, lm_ T T' → am T' q ci fs → SW x (im (xg x) T' :: Rs) bc bs pc L st) : SW x (ob (xg x) q ci fs :: im (xg x) T :: Rs) bc bs pc L st := by
  intro H locs h uc us ls I hL
  obtain ⟨hs, hS, hA, hV, i1, i2⟩ := I
  obtain ⟨a, b, hd, rfl, ⟨c, rfl, hc⟩, a2, b2, hd2, rfl, hp, hR⟩ := hs
  obtain ⟨d1, d2⟩ := ph_D_U.mp hd
  have hq : a2 q = none := ph_D_1 d1
  have hT : T q = none := (hp.1 q).mp hq
  refine kk (fun r => if r = q then some (ci, fs) else T r) (fun r v k => ?_) (if_pos rfl) H locs _ uc us ls ⟨⟨ph_U (ph_1 q c) a2, b2, ph_U_D.mpr ⟨d2, hd2⟩, ph_U_assoc.symm, ⟨fun r => ?_, fun r c2 w h1 h2 => ?_⟩, hR⟩, hS, hA, hV, i1, i2⟩ hL
  · by_cases e : r = q
    · subst e; rw [hT] at k; cases k
    · show (if r = q then _ else _) = _
      rw [if_neg e]; exact k
  · by_cases e : r = q
    · subst e; simp [ph_U, ph_1]
    · simp only [ph_U, ph_1, if_neg e]; simpa using hp.1 r
  · by_cases e : r = q
    · subst e
      simp only [if_pos] at h2
      cases h2
      simp [ph_U, ph_1] at h1
      subst h1
      exact hc
    · simp only [ph_U, ph_1, if_neg e] at h1 h2
      exact hp.2 r c2 w (by simpa using h1) h2
end IMM
