/-! arrays copied and cloned; words read and laid; what a BigInteger remembers -/
section ROW2
variable {x : EX} {y : MethodName} {cc : ByteArray} {ret : Option FieldType} {nL fr lo : Nat} {tab : List ExceptionTableEntry} {Ps : List HP} {bc bs pc n : Nat} {L : List (Nat × Value)} {st : List Value} {M : Nat → Option PV} {q : Nat}
theorem xI_writeL {P P' : HP} {i a : Nat} {c' : Cell} {H H' : Heap} {locs LL : List Loc} {h : PH} {uc us : Nat} (I : xI x Ps bc bs H locs h uc us) (hat : Ps[i]? = some P) (hP : ∀ h, P h → ∃ c, h = ph_1 a c) (hP' : P' (ph_1 a c')) (e1 : H'[a]? = some c') (e2 : H'.size = H.size) (e3 : ∀ q : Nat, q ≠ a → H'[q]? = H[q]?) (hLL : ∀ z ∈ LL, z.base = a) : ∃ h', xI x (Ps.set i P') bc bs H' (locs ++ LL) h' uc us := by
  obtain ⟨h', J1, J2, J3, J4, J5, J6⟩ := xI_write (k := 0) I hat hP hP' e1 e2 e3
  refine ⟨h', J1, J2, J3, ⟨J4.1, J4.2.1, fun z hz => ?_⟩, J5, J6⟩
  rcases List.mem_append.mp hz with k | k
  · exact I.2.2.2.1.2.2 z k
  · rw [hLL z k]
    exact J4.2.2 ⟨a, 0⟩ (List.mem_append.mpr (Or.inr List.mem_cons_self))
theorem sw_copy (F : Fx x y cc ret nL fr lo tab) (i : Nat) {ty : FieldType} {a0 a t0 n0 n1 : Nat} {f g : Nat → Value} (hs : hA x Ps ty a0 n0 f) (hat : Ps[i]? = some (ar (xg x) t0 a n1 g)) (ht : ∀ dA, (tysG dA)[t0]? = some (dA t0, ty)) {sp dp z : Int} (sn dn nn : Nat) (e1 : sp = (sn : Int)) (e2 : dp = (dn : Int)) (e3 : z = (nn : Int)) (h4 : sn + nn ≤ n0) (h5 : dn + nn ≤ n1) (hb : n0 ≤ 2147483647 ∧ n1 ≤ 2147483647)
    (hf : ∀ i, i < nn → fits ty (f (sn + i)) = true ∧ ∃ w : Int32, f (sn + i) = .int w) {idx : Nat} (q1 : Cond.methodLink y.cls idx arraycopyName ∈ lw_all) (q2 : Cond.native arraycopyName ∈ lw_all) (q3 : Cond.static arraycopyName ∈ lw_all) (q4 : Cond.initialized "java/lang/System" ∈ lw_all) (hR : 1 ≤ fr ∧ (st.map fun v => v.category).sum + (nativeFrameWords "java/lang/System" "arraycopy" 5 + 11) ≤ lo)
    (Ps' : List HP) (hPs : Ps.set i (ar (xg x) t0 a n1 (va_cpy f g sn dn nn)) = Ps') (hd : decode cc pc = .ok (.invokestatic idx, 3)) (hn : pc + 3 = n) (k : SW x Ps' bc bs n L st) : SW x Ps bc bs pc L (.int (jI z) :: .int (jI dp) :: .ref a :: .int (jI sp) :: .ref a0 :: st) := by
  subst hn; subst hPs; subst e1; subst e2; subst e3
  intro H locs h uc us ls I hL T hT X
  obtain ⟨cs, s1, ⟨-, ks, hks, cms, hkks⟩, s3, s4, s5, s6⟩ := hs _ _ H locs h uc us I
  have hd1 := ar_at hat I.1 I.2.1
  obtain ⟨-, kd, hkd, cmd, hkkd⟩ := (F.K.2 t0 _ (ht _)).1 n1 g
  have c1 : (jI (sn : Int)).toNatClampNeg = sn := jI_cl rfl (by omega)
  have c2 : (jI (dn : Int)).toNatClampNeg = dn := jI_cl rfl (by omega)
  have c3 : (jI (nn : Int)).toNatClampNeg = nn := jI_cl rfl (by omega)
  have n1' : (jI (sn : Int)).toInt = sn := jI_toInt (by omega)
  have n2' : (jI (dn : Int)).toInt = dn := jI_toInt (by omega)
  have n3' : (jI (nn : Int)).toInt = nn := jI_toInt (by omega)
  have hgd : ∀ i, i < nn → cs.slots.getD (sn + i) .null = f (sn + i) := fun i hi => by
    rw [Array.getD_eq_getD_getElem?, s6 _ (by omega)]; rfl
  obtain ⟨vm', X', step⟩ := X.arraycopy F.exec F.own (F.wd _ q1) (F.wd _ q2) (F.wd _ q3) (F.wd _ q4) (src := a0) (dst := a) (cs := cs) (cd := arrV ((xg x).2.1 t0) n1 g) (srcPos := jI (sn : Int)) (destPos := jI (dn : Int)) (n := jI (nn : Int)) (by rw [hT]; exact s1) (by rw [hT]; exact hd1)
    (fun k e => by rw [e] at s4; cases s4) (fun k e => by cases e) s3 (fun e => by cases e) hks hkd hkks hkkd (by simp)
    (by rw [jI_0, jI_lt (by omega) (by omega)]; omega) (by rw [jI_0, jI_lt (by omega) (by omega)]; omega) (by rw [jI_0, jI_lt (by omega) (by omega)]; omega)
    (by rw [n1', n3', s5]; omega) (by rw [n2', n3', arrV_size]; omega)
    (fun vm₁ _ i hi => by
      rw [c3] at hi
      rw [c1, hgd i hi]
      obtain ⟨g1, w, g2⟩ := hf i hi
      exact ⟨g1, by rw [g2]; exact trivial⟩)
    (g := F0 (xm x) pc ls (.int (jI (nn : Int)) :: .int (jI (dn : Int)) :: .ref a :: .int (jI (sn : Int)) :: .ref a0 :: st)) rfl ((hL.1.trans F.nl).trans F.mL.symm) (rest := st) rfl (by rw [F.code]; exact hd) (by show 1 ≤ (xn x).1; rw [F.fR]; exact hR.1) (by show 2 * 0 + _ + _ ≤ (xn x).2.1; rw [F.lO]; have := hR.2; omega)
  have hst : cs.stretch sn nn = (arrV ((xg x).2.1 t0) n0 f).stretch sn nn := by
    unfold Cell.stretch
    apply List.map_congr_left
    intro i hi
    have hi' := List.mem_range.mp hi
    rw [hgd i hi', Array.getD_eq_getD_getElem?, arrV_read _ _ (by omega)]
    rfl
  have e1 : copied cs (arrV ((xg x).2.1 t0) n1 g) (jI (sn : Int)) (jI (dn : Int)) (jI (nn : Int)) = arrV ((xg x).2.1 t0) n1 (va_cpy f g sn dn nn) := by
    show (arrV ((xg x).2.1 t0) n1 g).storeRun (jI (dn : Int)).toNatClampNeg (cs.stretch (jI (sn : Int)).toNatClampNeg (jI (nn : Int)).toNatClampNeg) = _
    rw [c1, c2, c3, hst]
    exact va_copied (fun v => v) ((xg x).2.1 t0) ((xg x).2.1 t0) f g h4
  rw [e1] at X' step
  have hl : a < H.size := (Array.getElem?_eq_some_iff.mp hd1).1
  have hheap : ((T.setVm vm').setCell a (arrV ((xg x).2.1 t0) n1 (va_cpy f g sn dn nn))).heap = H.setIfInBounds a (arrV ((xg x).2.1 t0) n1 (va_cpy f g sn dn nn)) := by rw [← hT]; rfl
  obtain ⟨h', I'⟩ := xI_writeL (H' := H.setIfInBounds a (arrV ((xg x).2.1 t0) n1 (va_cpy f g sn dn nn))) (P' := ar (xg x) t0 a n1 (va_cpy f g sn dn nn)) (LL := (cs.stretch (jI (sn : Int)).toNatClampNeg (jI (nn : Int)).toNatClampNeg).zipIdx.map fun q => ⟨a, (jI (dn : Int)).toNatClampNeg + q.2⟩) I hat (fun h e => ⟨_, e⟩) rfl (by simp [Array.getElem?_setIfInBounds, hl]) (by simp) (fun q hq => by simp [Array.getElem?_setIfInBounds, Ne.symm hq]) (fun z hz => by
    obtain ⟨w, -, e⟩ := List.mem_map.mp hz
    rw [← e])
  obtain ⟨t, a1, b1⟩ := k _ _ h' uc us ls I' hL _ hheap X'
  exact ⟨t, step t a1, b1⟩
theorem va_cpy_mk {α : Type} (mk : α → Value) (f g : Nat → α) (sp dp n : Nat) : va_cpy (fun j => mk (f j)) (fun j => mk (g j)) sp dp n = fun j => mk (va_cpy f g sp dp n j) := by
  funext k; unfold va_cpy; split <;> rfl
theorem sw_copyN (F : Fx x y cc ret nL fr lo tab) (i : Nat) {a0 a n0 n1 : Nat} {f g : Nat → Nat} (hs : hA x Ps .int a0 n0 (fun j => .int (jI (f j : Nat)))) (hat : Ps[i]? = some (aN (xg x) 0 a n1 g)) {sp dp z : Int} (sn dn nn : Nat) (e1 : sp = (sn : Int)) (e2 : dp = (dn : Int)) (e3 : z = (nn : Int)) (h4 : sn + nn ≤ n0) (h5 : dn + nn ≤ n1) (hb : n0 ≤ 2147483647 ∧ n1 ≤ 2147483647)
    {idx : Nat} (q1 : Cond.methodLink y.cls idx arraycopyName ∈ lw_all) (q2 : Cond.native arraycopyName ∈ lw_all) (q3 : Cond.static arraycopyName ∈ lw_all) (q4 : Cond.initialized "java/lang/System" ∈ lw_all) (hR : 1 ≤ fr ∧ (st.map fun v => v.category).sum + (nativeFrameWords "java/lang/System" "arraycopy" 5 + 11) ≤ lo)
    (Ps' : List HP) (hPs : Ps.set i (aN (xg x) 0 a n1 (va_cpy f g sn dn nn)) = Ps') (hd : decode cc pc = .ok (.invokestatic idx, 3)) (hn : pc + 3 = n) (k : SW x Ps' bc bs n L st) : SW x Ps bc bs pc L (.int (jI z) :: .int (jI dp) :: .ref a :: .int (jI sp) :: .ref a0 :: st) :=
  sw_copy F i (ty := .int) (t0 := 0) (g := fun j => .int (jI (g j : Nat))) hs hat (fun _ => rfl) sn dn nn e1 e2 e3 h4 h5 hb (fun j _ => ⟨rfl, _, rfl⟩) q1 q2 q3 q4 hR Ps' (by rw [va_cpy_mk (fun w : Nat => Value.int (jI (w : Int)))]; exact hPs) hd hn k
/-- an array of ints, its class known exactly -/
def hX (x : EX) (Ps : List HP) (a : Nat) : Prop := ∀ (bc bs : Nat) (H : Heap) (locs : List Loc) (h : PH) (uc us : Nat), xI x Ps bc bs H locs h uc us → ∃ cell : Cell, H[a]? = some cell ∧ (xs x).vm.findClass "[I" = some cell.cls
theorem dA0 (F : Fx x y cc ret nL fr lo tab) : (xs x).vm.findClass "[I" = some ((xg x).2.1 0) := va_nm_int (F.K.2 0 _ rfl).2
theorem hX_ar (F : Fx x y cc ret nL fr lo tab) {i a N : Nat} {f : Nat → Value} (hat : Ps[i]? = some (ar (xg x) 0 a N f)) : hX x Ps a := fun _ _ H _ _ _ _ I => ⟨_, ar_at hat I.1 I.2.1, dA0 F⟩
theorem plX {m : Nat} {f : Nat → Nat} (F : Fx x y cc ret nL fr lo tab) (i : Nat) (hat : Ps[i]? = some (pl (xg x) M)) (hx : at_ (xg x) M q (vA m f)) : hX x Ps q := by
  intro bc bs H locs h uc us I
  rcases hx with ⟨hg, hM⟩ | hC
  · obtain ⟨a, hp, hS⟩ := xI_pl hat I
    obtain ⟨c, h1, h2⟩ := pl_get hp hM
    have h2 : c = arrV ((xg x).2.1 0) m (fun j => .int (jI (f j : Nat))) := h2
    subst h2
    exact ⟨_, hS q _ h1, dA0 F⟩
  · obtain ⟨h1, -, cell, h2, h3⟩ := hC
    exact ⟨cell, by rw [xI_old F I q h1]; exact h2, by rw [F.gx.2.1.alike.findClass]; exact h3⟩
theorem cell_arr {c : Cell} {N : Nat} {f : Nat → Value} {cA : ClassId} (h1 : c.cls = cA) (h2 : c.slots.size = N) (h3 : ∀ j : Nat, j < N → c.slots[j]? = some (f j)) : ({ cls := c.cls, slots := c.slots } : Cell) = arrV cA N f := by
  subst h1
  have e : c.slots = (arrV c.cls N f).slots := by
    apply Array.ext_getElem?
    intro i
    rcases Nat.lt_or_ge i N with k | k
    · rw [h3 i k, arrV_read _ _ k]
    · rw [Array.getElem?_eq_none (by omega), Array.getElem?_eq_none (by rw [arrV_size]; omega)]
  rw [e]
  rfl
theorem sw_clone (F : Fx x y cc ret nL fr lo tab) {a N : Nat} {f : Nat → Nat} (hs : hA x Ps .int a N (fun j => .int (jI (f j : Nat)))) (hx : hX x Ps a) {idx : Nat} (q1 : Cond.methodLink y.cls idx ⟨"[I", "clone", "()Ljava/lang/Object;"⟩ ∈ lw_all) (bc2 bs2 : Nat) (hb : 1 + bc2 ≤ bc ∧ N + bs2 ≤ bs) (hR : 1 ≤ fr ∧ (st.map fun v => v.category).sum + 14 ≤ lo) (hd : decode cc pc = .ok (.invokevirtual idx, 3)) (hn : pc + 3 = n)
    (kk : ∀ r : Nat, SW x (aN (xg x) 0 r N f :: Ps) bc2 bs2 n L (.ref r :: st)) : SW x Ps bc bs pc L (.ref a :: st) := by
  subst hn
  intro H locs h uc us ls I hL T hT X
  obtain ⟨cs, s1, s2, s3, s4, s5, s6⟩ := hs _ _ H locs h uc us I
  obtain ⟨cs2, s7, s8⟩ := hx _ _ H locs h uc us I
  have e : cs2 = cs := Option.some.inj (s7.symm.trans s1)
  subst e
  obtain ⟨-, kS, hkS, cmS, hkindS⟩ := id s2
  obtain ⟨-, kA, hkA, cmA, hkind⟩ := State.isArrayOf_alike X.warmed.alike s2
  obtain ⟨c0, t0', f1, f2, f3⟩ := Cond.castable_spec (va_Nw.use (A := xa x) rfl (va_Nw.warmC F.gx.2.1 (va_Nw.of rfl (F.gx.1.2.1 _ q1160))))
  cases s8.symm.trans f1
  obtain ⟨vm', X', step⟩ := X.cloneArray F.exec F.own (F.wd _ q1) (F.wd _ q1158) (F.wd _ q522) (F.wd _ q523) (F.wd _ q1159) (a := a) (cell := cs2) (by rw [hT]; exact s1) (fun k e => by rw [e] at s4; cases s4) s3 s8 f2 f3
    (fun i v hv => by
      have hk' : T.vm.classes[cs2.cls]? = some kA := hkA
      have hfi : fits .int v = true := by
        rcases Nat.lt_or_ge i N with k | k
        · rw [s6 i k] at hv; cases hv; rfl
        · rw [Array.getElem?_eq_none (by omega)] at hv; cases hv
      simpa [State.fitsSlot, State.slotType?, hk', hkind] using hfi)
    (g := F0 (xm x) pc ls (.ref a :: st)) rfl ((hL.1.trans F.nl).trans F.mL.symm) rfl (by rw [F.code]; exact hd) (by show 1 ≤ (xn x).1; rw [F.fR]; exact hR.1) (by show 2 * 0 + _ + 14 ≤ (xn x).2.1; rw [F.lO]; have := hR.2; omega) (by show uc + 1 ≤ (xn x).2.2.1; have := I.2.2.2.2.1; omega) (by show us + _ ≤ (xn x).2.2.2.1; rw [s5]; have := I.2.2.2.2.2; omega) (hloader := Vm.clonesLoader_of_array hkS hkindS)
  have hc0 : cs2.cls = (xg x).2.1 0 := Option.some.inj (s8.symm.trans (dA0 F))
  rw [cell_arr hc0 s5 s6, s5] at X'
  rw [cell_arr hc0 s5 s6] at step
  generalize hH1 : H.push (arrV ((xg x).2.1 0) N (fun j => .int (jI (f j : Nat)))) = H1
  have z1 : H1.size = H.size + 1 := by rw [← hH1, Array.size_push]
  have e1 : H1[H.size]? = some (arrV ((xg x).2.1 0) N (fun j => .int (jI (f j : Nat)))) := by rw [← hH1, Array.getElem?_push_size]
  have o1 : ∀ q : Nat, q < H.size → H1[q]? = H[q]? := fun q hq => by rw [← hH1, Array.getElem?_push, if_neg (Nat.ne_of_lt hq)]
  obtain ⟨h', I'⟩ := xI_new (P' := aN (xg x) 0 H.size N f) (N := N) (bc2 := bc2) (bs2 := bs2) F I hb rfl e1 z1 o1
  obtain ⟨t, a1, b1⟩ := kk H.size H1 locs h' _ _ ls I' hL ((T.setVm vm').pushCell (arrV ((xg x).2.1 0) N (fun j => .int (jI (f j : Nat))))) (by rw [← hH1, ← hT]; rfl) X'
  refine ⟨t, step t ?_, b1⟩
  rw [hT]
  exact a1
theorem sw_castI (F : Fx x y cc ret nL fr lo tab) (i : Nat) {a N : Nat} {f : Nat → Value} (hat : Ps[i]? = some (ar (xg x) 0 a N f)) {idx : Nat} (q1 : Cond.classLink y.cls idx "[I" ∈ lw_all) (hd : decode cc pc = .ok (.checkcast idx, 3)) (hn : pc + 3 = n) (k : SW x Ps bc bs n L (.ref a :: st)) : SW x Ps bc bs pc L (.ref a :: st) := by
  subst hn
  intro H locs h uc us ls I hL T hT X
  obtain ⟨vm', X', step⟩ := X.checkcastYes F.exec F.own (F.wd _ q1) (a := a) (by rw [hT]; exact ar_at hat I.1 I.2.1) rfl (dA0 F) (va_asg _ _) (g := F0 (xm x) pc ls (.ref a :: st)) rfl rfl (by rw [F.code]; exact hd)
  obtain ⟨t, a1, b1⟩ := k H locs h uc us ls I hL (T.setVm vm') hT X'
  exact ⟨t, step t a1, b1⟩
-- words
theorem sw_i2lr (F : Fx x y cc ret nL fr lo tab) {a : Int} (hd : decode cc pc = .ok (.i2l, 1)) (hn : pc + 1 = n) (k : SW x Ps bc bs n L (.long (jI a).toInt64 :: st)) : SW x Ps bc bs pc L (.int (jI a) :: st) := by
  subst hn; intro H locs h uc us ls I hl; have w := k H locs h uc us ls I hl; exact lv_i2l F.exec F.code hd rfl w
theorem jI_wordE {z r : Int} (h : z % 4294967296 = r) : (jI z).toInt64 &&& jL 4294967295 = jL r := by rw [jI_word, h]
theorem sw_iastoreW (F : Fx x y cc ret nL fr lo tab) (i : Nat) {a t0 N : Nat} {f : Nat → Nat} (hat : Ps[i]? = some (aN (xg x) t0 a N f)) (ht : ∀ dA, (tysG dA)[t0]? = some (dA t0, .int)) {z : Int} (j : Nat) (hz : z = (j : Int)) (hj : j < N ∧ (j : Int) ≤ 2147483647) {v : Int} (vn : Nat) (hvn : v % 4294967296 = (vn : Int) % 4294967296) (Ps' : List HP) (hPs : Ps.set i (aN (xg x) t0 a N (va_up f j vn)) = Ps') (hd : decode cc pc = .ok (.iastore, 1)) (hn : pc + 1 = n) (k : SW x Ps' bc bs n L st) : SW x Ps bc bs pc L (.int (jI v) :: .int (jI z) :: .ref a :: st) := by
  rw [jI_mod hvn]
  exact sw_iastoreN F i hat ht j hz hj vn rfl Ps' hPs hd hn k
theorem sw_takeI {v : Int} {a : Nat} {Rs : List HP} (hg : gB (xg x) ≤ q) (hx : at_ (xg x) M q (vI v a)) (kk : ∀ c1 c2 c3 c4 : Int, (c4 = (fac 4294967296 v.natAbs : Int) + 2 ∨ c4 = 0) → SW x (ob (xg x) q 16 (flI v a c1 c2 c3 c4) :: plH (xg x) M q :: Rs) bc bs pc L st) : SW x (pl (xg x) M :: Rs) bc bs pc L st := by
  rcases hx with ⟨-, hM⟩ | hC
  · intro H locs h uc us ls I hL
    obtain ⟨hs, hS, hAA, hV, i1, i2⟩ := I
    obtain ⟨a2, b, hd, rfl, hp, hR⟩ := hs
    obtain ⟨c, b1, hd1, rfl, ⟨⟨c1, c2, c3, c4, h4, hc⟩, -⟩, hH⟩ := pl_take hp hM
    obtain ⟨hd2, hd3⟩ := ph_U_D.mp hd
    exact kk c1 c2 c3 c4 h4 H locs _ uc us ls ⟨⟨_, _, ph_D_U.mpr ⟨hd1, hd2⟩, (ph_U_assoc), ⟨c, rfl, hc⟩, _, _, hd3, rfl, hH, hR⟩, hS, hAA, hV, i1, i2⟩ hL
  · exact absurd hC.lt (by omega)
theorem sw_backI {v : Int} {a m : Nat} {f : Nat → Nat} {c1 c2 c3 c4 : Int} {Rs : List HP} (hg : gB (xg x) ≤ q) (hx : at_ (xg x) M q (vI v a)) (h4 : c4 = (fac 4294967296 v.natAbs : Int) + 2 ∨ c4 = 0) (ha : at_ (xg x) M a (vA m f)) (hw : wOK m f) (hv : wv f m = v.natAbs) (kk : SW x (pl (xg x) M :: Rs) bc bs pc L st) : SW x (ob (xg x) q 16 (flI v a c1 c2 c3 c4) :: plH (xg x) M q :: Rs) bc bs pc L st := by
  rcases hx with ⟨-, hM⟩ | hC
  · intro H locs h uc us ls I hL
    obtain ⟨hs, hS, hAA, hV, i1, i2⟩ := I
    obtain ⟨a3, b, hd, rfl, ⟨c, rfl, hc⟩, a2, b2, hd2, rfl, hH, hR⟩ := hs
    obtain ⟨hd3, hd4⟩ := ph_D_U.mp hd
    have hp2 := pl_back hH hM (c := c) ⟨⟨c1, c2, c3, c4, h4, hc⟩, m, f, ha, hw, hv⟩
    exact kk H locs _ uc us ls ⟨⟨_, _, ph_U_D.mpr ⟨hd4, hd2⟩, ph_U_assoc.symm, hp2, hR⟩, hS, hAA, hV, i1, i2⟩ hL
  · exact absurd hC.lt (by omega)
end ROW2
section ROW3
variable {x : EX} {y : MethodName} {cc : ByteArray} {ret : Option FieldType} {nL fr lo : Nat} {tab : List ExceptionTableEntry} {Ps : List HP} {bc bs pc n : Nat} {L : List (Nat × Value)} {st : List Value}
theorem sw_newaN (F : Fx x y cc ret nL fr lo tab) {z : Int} (N : Nat) (hz : z = (N : Int)) (hbytes : N ≤ 67108864) (bc2 bs2 : Nat) (hb : 1 + bc2 ≤ bc ∧ N + bs2 ≤ bs) (hd : decode cc pc = .ok (.newarray .int, 2)) (hn : pc + 2 = n) (kk : ∀ q : Nat, SW x (aN (xg x) 0 q N (fun _ => 0) :: Ps) bc2 bs2 n L (.ref q :: st)) : SW x Ps bc bs pc L (.int (jI z) :: st) :=
  sw_newa F .int 0 rfl q1091 (fun _ => rfl) N hz hbytes bc2 bs2 hb hd hn (fun q => kk q)
theorem topL {a b : Int} (h : a = b) : Value.long (jL a) = Value.long (jL b) := by rw [h]
theorem topI {a b : Int} (h : a = b) : Value.int (jI a) = Value.int (jI b) := by rw [h]
theorem topLm {a b : Int} (h : a % 18446744073709551616 = b % 18446744073709551616) : Value.long (jL a) = Value.long (jL b) := by rw [jL_mod h]
theorem topIm {a b : Int} (h : a % 4294967296 = b % 4294967296) : Value.int (jI a) = Value.int (jI b) := by rw [jI_mod h]
theorem jI_eqU {a b : Int} (ha : 0 ≤ a ∧ a < 4294967296) (hb : 0 ≤ b ∧ b < 4294967296) : jI a = jI b ↔ a = b := by
  constructor
  · intro h
    have h2 := congrArg (fun z : Int32 => z.toBitVec.toNat) h
    simp only [jI_tn] at h2
    omega
  · intro h; rw [h]
theorem sw_icmp_eqU (F : Fx x y cc ret nL fr lo tab) {a b : Int} (ha : 0 ≤ a ∧ a < 4294967296) (hb : 0 ≤ b ∧ b < 4294967296) {off : Int} {tgt : Nat} (hd : decode cc pc = .ok (.if_icmp .eq off, 3)) (ht : (pc : Int) + off = (tgt : Int)) (hn : pc + 3 = n) (kt : a = b → SW x Ps bc bs tgt L st) (kf : a ≠ b → SW x Ps bc bs n L st) : SW x Ps bc bs pc L (.int (jI b) :: .int (jI a) :: st) := by
  subst hn; intro H locs h uc us ls I hl
  exact lv_icmp_eq F.exec F.code hd ht (fun q => kt ((jI_eqU ha hb).mp q) H locs h uc us ls I hl) (fun q => kf (fun e => q ((jI_eqU ha hb).mpr e)) H locs h uc us ls I hl)
theorem sw_icmp_neU (F : Fx x y cc ret nL fr lo tab) {a b : Int} (ha : 0 ≤ a ∧ a < 4294967296) (hb : 0 ≤ b ∧ b < 4294967296) {off : Int} {tgt : Nat} (hd : decode cc pc = .ok (.if_icmp .ne off, 3)) (ht : (pc : Int) + off = (tgt : Int)) (hn : pc + 3 = n) (kt : a ≠ b → SW x Ps bc bs tgt L st) (kf : a = b → SW x Ps bc bs n L st) : SW x Ps bc bs pc L (.int (jI b) :: .int (jI a) :: st) := by
  subst hn; intro H locs h uc us ls I hl
  exact lv_icmp_ne F.exec F.code hd ht (fun q => kt (fun e => q ((jI_eqU ha hb).mpr e)) H locs h uc us ls I hl) (fun q => kf ((jI_eqU ha hb).mp q) H locs h uc us ls I hl)
end ROW3
theorem arrV_cong {cA : ClassId} {N : Nat} {f g : Nat → Value} (h : ∀ j, j < N → f j = g j) : arrV cA N f = arrV cA N g :=
  cell_arr (c := arrV cA N f) rfl (arrV_size _ _ _) (fun j hj => by rw [arrV_read _ _ hj, h j hj])
theorem aN_cong {g : GG} {k x n : Nat} {f f2 : Nat → Nat} (h : ∀ j, j < n → f j = f2 j) : aN g k x n f = aN g k x n f2 := by
  unfold aN ar
  rw [arrV_cong (fun j hj => by rw [h j hj])]
theorem jI_not (z : Int) : jI z ^^^ jI (-1) = jI (-z - 1) := by
  have e : ∀ a : Int32, a ^^^ jI (-1) = -a - 1 := by
    intro a
    have h1 : jI (-1) = -1 := by decide
    rw [h1]
    apply Int32.toBitVec_inj.mp
    show a.toBitVec ^^^ (-1 : Int32).toBitVec = (-a - 1).toBitVec
    rw [show (-1 : Int32).toBitVec = BitVec.allOnes 32 from by decide, BitVec.xor_allOnes]
    show ~~~a.toBitVec = -a.toBitVec - 1
    rw [BitVec.neg_eq_not_add]
    exact (BitVec.add_sub_cancel _ _).symm
  rw [e, jI_neg, show (1 : Int32) = jI 1 from by decide, jI_sub]
