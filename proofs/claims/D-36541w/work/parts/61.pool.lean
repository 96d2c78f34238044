/-! values that never change: BigDecimal, BigInteger, their words, Integer; a pool of them -/
abbrev PV : Type := (Int × Int × Option Nat) ⊕ (Int × Nat) ⊕ (Nat × (Nat → Nat)) ⊕ Int
def vD (u s : Int) (o : Option Nat) : PV := .inl (u, s, o)
def vI (v : Int) (a : Nat) : PV := .inr (.inl (v, a))
def vA (n : Nat) (f : Nat → Nat) : PV := .inr (.inr (.inl (n, f)))
def vN (z : Int) : PV := .inr (.inr (.inr z))
/-- what n words are worth, the first one the highest -/
def wv (f : Nat → Nat) : Nat → Nat
  | 0 => 0
  | n + 1 => wv f n * 4294967296 + f n
def wOK (n : Nat) (f : Nat → Nat) : Prop := (∀ k, k < n → f k < 4294967296) ∧ (0 < n → f 0 ≠ 0)
def fit (u : Int) : Prop := -9223372036854775808 < u ∧ u ≤ 9223372036854775807
def cpt (u : Int) : Int := if -9223372036854775808 < u ∧ u ≤ 9223372036854775807 then u else -9223372036854775808
theorem cpt_1 {u : Int} (h : fit u) : cpt u = u := if_pos h
theorem cpt_0 {u : Int} (h : ¬ fit u) : cpt u = -9223372036854775808 := if_neg h
def flD (u s : Int) (o : Option Nat) (p : Int) : List Value := [va_rf o, .int (jI s), .int (jI p), .null, .long (jL (cpt u))]
def flI (v : Int) (a : Nat) (c1 c2 c3 c4 : Int) : List Value := [.int (jI (sgI v)), .ref a, .int (jI c1), .int (jI c2), .int (jI c3), .int (jI c4)]
def pcell (g : GG) (K : Nat → PV → Prop) (v : PV) (c : Cell) : Prop :=
  match v with
  | .inl (u, s, o) => (∃ p : Int, (p = dgc u.natAbs ∨ p = 0) ∧ obC g 13 (flD u s o p) c) ∧ (o = none → fit u) ∧ ∀ b, o = some b → ∃ a, K b (vI u a)
  | .inr (.inl (v, a)) => (∃ c1 c2 c3 c4 : Int, (c4 = (fac 4294967296 v.natAbs : Int) + 2 ∨ c4 = 0) ∧ obC g 16 (flI v a c1 c2 c3 c4) c) ∧ ∃ n f, K a (vA n f) ∧ wOK n f ∧ wv f n = v.natAbs
  | .inr (.inr (.inl (n, f))) => c = arrV (g.2.1 0) n (fun j => .int (jI (f j)))
  | .inr (.inr (.inr z)) => obC g 17 [.int (jI z)] c
theorem pcell.mono {g : GG} {K K' : Nat → PV → Prop} (hK : ∀ q v, K q v → K' q v) {v : PV} {c : Cell} (h : pcell g K v c) : pcell g K' v c := by
  rcases v with ⟨u, s, o⟩ | ⟨v, a⟩ | ⟨n, f⟩ | z
  · exact ⟨h.1, h.2.1, fun b e => (h.2.2 b e).imp fun a k => hK _ _ k⟩
  · obtain ⟨h1, n, f, h2, h3⟩ := h
    exact ⟨h1, n, f, hK _ _ h2, h3⟩
  · exact h
  · exact h
/-- the class of an array of ints, exactly -/
def cX (g : GG) (a : Nat) : Prop := ∃ cell : Cell, (gS g).heap[a]? = some cell ∧ (gS g).vm.findClass "[I" = some cell.cls
def cAtI (g : GG) (q : Nat) (v : Int) (a : Nat) : Prop := q < gB g ∧ (∃ c1 c2 c3 : Int, cO g q 16 (flI v a c1 c2 c3 ((fac 4294967296 v.natAbs : Int) + 2))) ∧ ∃ n f, (cA g .int a n (fun j => .int (jI (f j : Nat))) ∧ cX g a) ∧ wOK n f ∧ wv f n = v.natAbs
/-- a constant of the start, all that it would remember asked before -/
def cAt (g : GG) (q : Nat) (v : PV) : Prop :=
  match v with
  | .inl (u, s, o) => q < gB g ∧ cO g q 13 (flD u s o (dgc u.natAbs)) ∧ (o = none → fit u) ∧ ∀ b, o = some b → ∃ a, cAtI g b u a
  | .inr (.inl (v, a)) => cAtI g q v a
  | .inr (.inr (.inl (n, f))) => q < gB g ∧ cA g .int q n (fun j => .int (jI (f j : Nat))) ∧ cX g q
  | .inr (.inr (.inr z)) => q < gB g ∧ cO g q 17 [.int (jI z)]
theorem cAt.lt {g : GG} {q : Nat} {v : PV} (h : cAt g q v) : q < gB g := by
  rcases v with ⟨u, s, o⟩ | ⟨v, a⟩ | ⟨n, f⟩ | z
  · exact h.1
  · exact h.1
  · exact h.1
  · exact h.1
def at_ (g : GG) (M : Nat → Option PV) (q : Nat) (v : PV) : Prop := (gB g ≤ q ∧ M q = some v) ∨ cAt g q v
def le_ (M M' : Nat → Option PV) : Prop := ∀ q v, M q = some v → M' q = some v
theorem le_.rf {M : Nat → Option PV} : le_ M M := fun _ _ h => h
theorem le_.tr {M M' M'' : Nat → Option PV} (h : le_ M M') (h2 : le_ M' M'') : le_ M M'' := fun q v k => h2 q v (h q v k)
theorem at_.up {g : GG} {M M' : Nat → Option PV} {q : Nat} {v : PV} (h : at_ g M q v) (hl : le_ M M') : at_ g M' q v := h.imp (fun k => ⟨k.1, hl _ _ k.2⟩) id
def pl (g : GG) (M : Nat → Option PV) : HP := fun h => (∀ q, h q = none ↔ M q = none) ∧ ∀ q c v, h q = some c → M q = some v → pcell g (at_ g M) v c
def plH (g : GG) (M : Nat → Option PV) (x : Nat) : HP := fun h => (∀ q, h q = none ↔ (M q = none ∨ q = x)) ∧ ∀ q c v, h q = some c → M q = some v → pcell g (at_ g M) v c
def upM (M : Nat → Option PV) (q : Nat) (v : PV) : Nat → Option PV := fun r => if r = q then some v else M r
theorem upM_le {M : Nat → Option PV} {q : Nat} {v : PV} (h : M q = none) : le_ M (upM M q v) := fun r w k => by
  unfold upM
  by_cases e : r = q
  · subst e; rw [h] at k; cases k
  · rw [if_neg e]; exact k
theorem upM_self {M : Nat → Option PV} {q : Nat} {v : PV} : upM M q v q = some v := if_pos rfl
theorem pl_get {g : GG} {M : Nat → Option PV} {h : PH} {q : Nat} {v : PV} (hp : pl g M h) (hq : M q = some v) : ∃ c, h q = some c ∧ pcell g (at_ g M) v c := by
  cases e : h q with
  | none => rw [(hp.1 q).mp e] at hq; cases hq
  | some c => exact ⟨c, rfl, hp.2 q c v e hq⟩
/-- one more value -/
theorem pl_add {g : GG} {M : Nat → Option PV} {h : PH} {q : Nat} {c : Cell} {v : PV} (hp : pl g M h) (hd : h q = none) (hg : gB g ≤ q) (hc : pcell g (at_ g (upM M q v)) v c) : pl g (upM M q v) (ph_U (ph_1 q c) h) := by
  have hM : M q = none := (hp.1 q).mp hd
  refine ⟨fun r => ?_, fun r c2 w h1 h2 => ?_⟩
  · by_cases e : r = q
    · subst e; simp [ph_U, ph_1, upM]
    · simp only [ph_U, ph_1, upM, if_neg e]; simpa using hp.1 r
  · by_cases e : r = q
    · subst e
      rw [upM_self] at h2
      cases h2
      simp [ph_U, ph_1] at h1
      subst h1
      exact hc
    · simp only [ph_U, ph_1, upM, if_neg e] at h1 h2
      exact (hp.2 r c2 w (by simpa using h1) h2).mono fun q' v' k => k.up (upM_le hM)
theorem pl_take {g : GG} {M : Nat → Option PV} {h : PH} {q : Nat} {v : PV} (hp : pl g M h) (hq : M q = some v) : ∃ c b, ph_D (ph_1 q c) b ∧ h = ph_U (ph_1 q c) b ∧ pcell g (at_ g M) v c ∧ plH g M q b := by
  obtain ⟨c, hc, hv⟩ := pl_get hp hq
  refine ⟨c, fun r => if r = q then none else h r, fun r => ?_, ?_, hv, fun r => ?_, fun r c2 w h1 h2 => ?_⟩
  · by_cases e : r = q
    · exact Or.inr (if_pos e)
    · exact Or.inl (by simp [ph_1, e])
  · funext r
    by_cases e : r = q
    · subst e; simp [ph_U, ph_1, hc]
    · simp [ph_U, ph_1, e]
  · by_cases e : r = q
    · simp [e]
    · simp [e]; exact hp.1 r
  · by_cases e : r = q
    · simp [e] at h1
    · simp [e] at h1; exact hp.2 r c2 w h1 h2
theorem pl_back {g : GG} {M : Nat → Option PV} {b : PH} {q : Nat} {c : Cell} {v : PV} (hb : plH g M q b) (hq : M q = some v) (hc : pcell g (at_ g M) v c) : pl g M (ph_U (ph_1 q c) b) := by
  refine ⟨fun r => ?_, fun r c2 w h1 h2 => ?_⟩
  · by_cases e : r = q
    · subst e; simp [ph_U, ph_1, hq]
    · have := hb.1 r; simp [ph_U, ph_1, e]; rw [this]; simp [e]
  · by_cases e : r = q
    · subst e
      rw [hq] at h2; cases h2
      simp [ph_U, ph_1] at h1; subst h1; exact hc
    · simp [ph_U, ph_1, e] at h1; exact hb.2 r c2 w h1 h2
section POOL
variable {x : EX} {y : MethodName} {cc : ByteArray} {ret : Option FieldType} {nL fr lo : Nat} {tab : List ExceptionTableEntry} {Ps : List HP} {bc bs pc n : Nat} {L : List (Nat × Value)} {st : List Value} {M : Nat → Option PV} {q : Nat}
theorem xI_pl {i : Nat} (hat : Ps[i]? = some (pl (xg x) M)) {H : Heap} {locs : List Loc} {h : PH} {uc us : Nat} (I : xI x Ps bc bs H locs h uc us) : ∃ a : PH, pl (xg x) M a ∧ ph_S a H := by
  obtain ⟨a, b, hd, rfl, hp, -⟩ := sl_at hat I.1
  exact ⟨a, hp, ph_S_l I.2.1⟩
theorem plD {u s : Int} {o : Option Nat} (F : Fx x y cc ret nL fr lo tab) (i : Nat) (hat : Ps[i]? = some (pl (xg x) M)) (hx : at_ (xg x) M q (vD u s o)) {H : Heap} {locs : List Loc} {h : PH} {uc us : Nat} (I : xI x Ps bc bs H locs h uc us) : ∃ (p : Int) (c : Cell), H[q]? = some c ∧ obR (xg x) 13 (flD u s o p) c ∧ (p = dgc u.natAbs ∨ (p = 0 ∧ gB (xg x) ≤ q)) := by
  rcases hx with ⟨hg, hM⟩ | hC
  · obtain ⟨a, hp, hS⟩ := xI_pl hat I
    obtain ⟨c, h1, ⟨p, h2, h3⟩, -⟩ := pl_get hp hM
    exact ⟨p, c, hS q c h1, h3.R, h2.imp id fun e => ⟨e, hg⟩⟩
  · obtain ⟨c, h1, h2⟩ := hC.2.1.O F (Ps := Ps) _ _ H locs h uc us I
    exact ⟨dgc u.natAbs, c, h1, h2, Or.inl rfl⟩
theorem sw_getD {u s : Int} {o : Option Nat} (F : Fx x y cc ret nL fr lo tab) (i : Nat) (hat : Ps[i]? = some (pl (xg x) M)) (hx : at_ (xg x) M q (vD u s o)) {idx k : Nat} {ref : String} (hl : FL y.cls idx 13 k ref) (v : Value) (hv : ∀ p, (flD u s o p)[k]? = some v) (hd : decode cc pc = .ok (.getfield idx, 3)) (hn : pc + 3 = n) (kk : SW x Ps bc bs n L (v :: st)) : SW x Ps bc bs pc L (.ref q :: st) := by
  subst hn
  intro H locs h uc us ls I hL
  obtain ⟨p, c, h1, h2, -⟩ := plD F i hat hx I
  exact getR_W F h1 h2 hl (hv p) hd (kk H locs h uc us ls I hL)
theorem sw_getDp {u s : Int} {o : Option Nat} (F : Fx x y cc ret nL fr lo tab) (i : Nat) (hat : Ps[i]? = some (pl (xg x) M)) (hx : at_ (xg x) M q (vD u s o)) {idx : Nat} {ref : String} (hl : FL y.cls idx 13 2 ref) (hd : decode cc pc = .ok (.getfield idx, 3)) (hn : pc + 3 = n) (kk : ∀ p : Int, (p = dgc u.natAbs ∨ (p = 0 ∧ gB (xg x) ≤ q)) → SW x Ps bc bs n L (.int (jI p) :: st)) : SW x Ps bc bs pc L (.ref q :: st) := by
  subst hn
  intro H locs h uc us ls I hL
  obtain ⟨p, c, h1, h2, hp⟩ := plD F i hat hx I
  exact getR_W F h1 h2 hl rfl hd (kk p hp H locs h uc us ls I hL)
theorem sw_factD {u s : Int} {o : Option Nat} (i : Nat) (hat : Ps[i]? = some (pl (xg x) M)) (hx : at_ (xg x) M q (vD u s o)) (kk : (o = none → fit u) → (∀ b, o = some b → ∃ a, at_ (xg x) M b (vI u a)) → SW x Ps bc bs pc L st) : SW x Ps bc bs pc L st := by
  intro H locs h uc us ls I hL
  rcases hx with ⟨hg, hM⟩ | hC
  · obtain ⟨a, hp, hS⟩ := xI_pl hat I
    obtain ⟨c, h1, -, h2, h3⟩ := pl_get hp hM
    exact kk h2 h3 H locs h uc us ls I hL
  · exact kk hC.2.2.1 (fun b e => (hC.2.2.2 b e).imp fun a k => Or.inr k) H locs h uc us ls I hL
theorem plI {v : Int} {a : Nat} (F : Fx x y cc ret nL fr lo tab) (i : Nat) (hat : Ps[i]? = some (pl (xg x) M)) (hx : at_ (xg x) M q (vI v a)) {H : Heap} {locs : List Loc} {h : PH} {uc us : Nat} (I : xI x Ps bc bs H locs h uc us) : ∃ (c1 c2 c3 c4 : Int) (c : Cell), H[q]? = some c ∧ obR (xg x) 16 (flI v a c1 c2 c3 c4) c ∧ (c4 = (fac 4294967296 v.natAbs : Int) + 2 ∨ (c4 = 0 ∧ gB (xg x) ≤ q)) := by
  rcases hx with ⟨hg, hM⟩ | hC
  · obtain ⟨a, hp, hS⟩ := xI_pl hat I
    obtain ⟨c, h1, ⟨c1, c2, c3, c4, h2, h3⟩, -⟩ := pl_get hp hM
    exact ⟨c1, c2, c3, c4, c, hS q c h1, h3.R, h2.imp id fun e => ⟨e, hg⟩⟩
  · obtain ⟨-, ⟨c1, c2, c3, hc⟩, -⟩ := hC
    obtain ⟨c, h1, h2⟩ := hc.O F (Ps := Ps) _ _ H locs h uc us I
    exact ⟨c1, c2, c3, _, c, h1, h2, Or.inl rfl⟩
theorem sw_getI {v : Int} {a : Nat} (F : Fx x y cc ret nL fr lo tab) (i : Nat) (hat : Ps[i]? = some (pl (xg x) M)) (hx : at_ (xg x) M q (vI v a)) {idx k : Nat} {ref : String} (hl : FL y.cls idx 16 k ref) (w : Value) (hv : ∀ c1 c2 c3 c4, (flI v a c1 c2 c3 c4)[k]? = some w) (hd : decode cc pc = .ok (.getfield idx, 3)) (hn : pc + 3 = n) (kk : SW x Ps bc bs n L (w :: st)) : SW x Ps bc bs pc L (.ref q :: st) := by
  subst hn
  intro H locs h uc us ls I hL
  obtain ⟨c1, c2, c3, c4, c, h1, h2, -⟩ := plI F i hat hx I
  exact getR_W F h1 h2 hl (hv c1 c2 c3 c4) hd (kk H locs h uc us ls I hL)
theorem sw_getI5 {v : Int} {a : Nat} (F : Fx x y cc ret nL fr lo tab) (i : Nat) (hat : Ps[i]? = some (pl (xg x) M)) (hx : at_ (xg x) M q (vI v a)) {idx : Nat} {ref : String} (hl : FL y.cls idx 16 5 ref) (hd : decode cc pc = .ok (.getfield idx, 3)) (hn : pc + 3 = n) (kk : ∀ c4 : Int, (c4 = (fac 4294967296 v.natAbs : Int) + 2 ∨ (c4 = 0 ∧ gB (xg x) ≤ q)) → SW x Ps bc bs n L (.int (jI c4) :: st)) : SW x Ps bc bs pc L (.ref q :: st) := by
  subst hn
  intro H locs h uc us ls I hL
  obtain ⟨c1, c2, c3, c4, c, h1, h2, h4⟩ := plI F i hat hx I
  exact getR_W F h1 h2 hl rfl hd (kk c4 h4 H locs h uc us ls I hL)
theorem sw_factI {v : Int} {a : Nat} (i : Nat) (hat : Ps[i]? = some (pl (xg x) M)) (hx : at_ (xg x) M q (vI v a)) (kk : ∀ (n : Nat) (f : Nat → Nat), at_ (xg x) M a (vA n f) → wOK n f → wv f n = v.natAbs → SW x Ps bc bs pc L st) : SW x Ps bc bs pc L st := by
  intro H locs h uc us ls I hL
  rcases hx with ⟨hg, hM⟩ | hC
  · obtain ⟨a, hp, hS⟩ := xI_pl hat I
    obtain ⟨c, h1, -, n, f, h2, h3, h4⟩ := pl_get hp hM
    exact kk n f h2 h3 h4 H locs h uc us ls I hL
  · obtain ⟨-, -, n, f, h2, h3, h4⟩ := hC
    exact kk n f (Or.inr ⟨h2.1.1, h2⟩) h3 h4 H locs h uc us ls I hL
theorem rcvD {u s : Int} {o : Option Nat} (F : Fx x y cc ret nL fr lo tab) (i : Nat) (hat : Ps[i]? = some (pl (xg x) M)) (hx : at_ (xg x) M q (vD u s o)) : Rcv x Ps bc bs q "java/math/BigDecimal" := fun H locs h uc us I => by
  obtain ⟨p, c, h1, ⟨r, hr, q2, q3, q4, -⟩, -⟩ := plD F i hat hx I
  have hr := Option.some.inj (hr.symm.trans (show vwCl[13]? = some (RJ8, TJ8, 5) from rfl))
  subst hr
  exact ⟨c, h1, q4, by rw [q2]; exact (F.K.1 13 _ rfl).2.1⟩
theorem rcvI {v : Int} {a : Nat} (F : Fx x y cc ret nL fr lo tab) (i : Nat) (hat : Ps[i]? = some (pl (xg x) M)) (hx : at_ (xg x) M q (vI v a)) : Rcv x Ps bc bs q "java/math/BigInteger" := fun H locs h uc us I => by
  obtain ⟨c1, c2, c3, c4, c, h1, ⟨r, hr, q2, q3, q4, -⟩, -⟩ := plI F i hat hx I
  have hr := Option.some.inj (hr.symm.trans (show vwCl[16]? = some (RJ19, TJ19, 6) from rfl))
  subst hr
  exact ⟨c, h1, q4, by rw [q2]; exact (F.K.1 16 _ rfl).2.1⟩
theorem plA {m : Nat} {f : Nat → Nat} (F : Fx x y cc ret nL fr lo tab) (i : Nat) (hat : Ps[i]? = some (pl (xg x) M)) (hx : at_ (xg x) M q (vA m f)) : hA x Ps .int q m (fun j => .int (jI (f j : Nat))) := by
  intro bc bs H locs h uc us I
  rcases hx with ⟨hg, hM⟩ | hC
  · obtain ⟨a, hp, hS⟩ := xI_pl hat I
    obtain ⟨c, h1, h2⟩ := pl_get hp hM
    have h2 : c = arrV ((xg x).2.1 0) m (fun j => .int (jI (f j : Nat))) := h2
    subst h2
    exact ⟨_, hS q _ h1, (F.K.2 0 _ rfl).1 m _, fun q => by (cases q), rfl, arrV_size _ _ _, fun j hj => arrV_read _ _ hj⟩
  · exact hC.2.1.A F bc bs H locs h uc us I
theorem plN {z : Int} (F : Fx x y cc ret nL fr lo tab) (i : Nat) (hat : Ps[i]? = some (pl (xg x) M)) (hx : at_ (xg x) M q (vN z)) : hO x Ps q 17 [.int (jI z)] := by
  intro bc bs H locs h uc us I
  rcases hx with ⟨hg, hM⟩ | hC
  · obtain ⟨a, hp, hS⟩ := xI_pl hat I
    obtain ⟨c, h1, h2⟩ := pl_get hp hM
    have h2 : obC (xg x) 17 [.int (jI z)] c := h2
    exact ⟨c, hS q _ h1, h2.R⟩
  · exact hC.2.O F bc bs H locs h uc us I
/-- a cell of our own joins the pool -/
theorem sw_abs (F : Fx x y cc ret nL fr lo tab) {P : HP} {Rs : List HP} (v : PV) (hc : ∀ h, P h → ∃ c, h = ph_1 q c ∧ pcell (xg x) (at_ (xg x) M) v c) (kk : ∀ M' : Nat → Option PV, le_ M M' → at_ (xg x) M' q v → SW x (pl (xg x) M' :: Rs) bc bs pc L st) : SW x (P :: pl (xg x) M :: Rs) bc bs pc L st := by
  intro H locs h uc us ls I hL
  obtain ⟨hs, hS, hAA, hV, i1, i2⟩ := I
  obtain ⟨a, b, hd, rfl, hPa, a2, b2, hd2, rfl, hp, hR⟩ := hs
  obtain ⟨c, rfl, hcc⟩ := hc a hPa
  obtain ⟨hd3, hd4⟩ := ph_D_U.mp hd
  have hnone : a2 q = none := ph_D_1 hd3
  have hg : gB (xg x) ≤ q := F.A0 q (hAA q (by simp [ph_U, ph_1]))
  have hM : M q = none := (hp.1 q).mp hnone
  have hp2 := pl_add hp hnone hg (hcc.mono fun q' v' k => k.up (upM_le hM))
  refine kk (upM M q v) (upM_le hM) (Or.inl ⟨hg, upM_self⟩) H locs (ph_U (ph_U (ph_1 q c) a2) b2) uc us ls ⟨⟨_, b2, ph_U_D.mpr ⟨hd4, hd2⟩, rfl, hp2, hR⟩, by rw [ph_U_assoc]; exact hS, by rw [ph_U_assoc]; exact hAA, hV, i1, i2⟩ hL
theorem sw_absD {u s : Int} {o : Option Nat} {p : Int} {Rs : List HP} (F : Fx x y cc ret nL fr lo tab) (hp : p = dgc u.natAbs ∨ p = 0) (ho : o = none → fit u) (hb : ∀ b, o = some b → ∃ a, at_ (xg x) M b (vI u a)) (kk : ∀ M' : Nat → Option PV, le_ M M' → at_ (xg x) M' q (vD u s o) → SW x (pl (xg x) M' :: Rs) bc bs pc L st) : SW x (ob (xg x) q 13 (flD u s o p) :: pl (xg x) M :: Rs) bc bs pc L st :=
  sw_abs F (vD u s o) (fun h ⟨c, e, hc⟩ => ⟨c, e, ⟨p, hp, hc⟩, ho, hb⟩) kk
theorem sw_absI {v : Int} {a m : Nat} {f : Nat → Nat} {c1 c2 c3 c4 : Int} {Rs : List HP} (F : Fx x y cc ret nL fr lo tab) (h4 : c4 = (fac 4294967296 v.natAbs : Int) + 2 ∨ c4 = 0) (ha : at_ (xg x) M a (vA m f)) (hw : wOK m f) (hv : wv f m = v.natAbs) (kk : ∀ M' : Nat → Option PV, le_ M M' → at_ (xg x) M' q (vI v a) → SW x (pl (xg x) M' :: Rs) bc bs pc L st) : SW x (ob (xg x) q 16 (flI v a c1 c2 c3 c4) :: pl (xg x) M :: Rs) bc bs pc L st :=
  sw_abs F (vI v a) (fun h ⟨c, e, hc⟩ => ⟨c, e, ⟨c1, c2, c3, c4, h4, hc⟩, m, f, ha, hw, hv⟩) kk
theorem sw_absA {m : Nat} {f : Nat → Nat} {Rs : List HP} (F : Fx x y cc ret nL fr lo tab) (kk : ∀ M' : Nat → Option PV, le_ M M' → at_ (xg x) M' q (vA m f) → SW x (pl (xg x) M' :: Rs) bc bs pc L st) : SW x (aN (xg x) 0 q m f :: pl (xg x) M :: Rs) bc bs pc L st :=
  sw_abs F (vA m f) (fun h e => ⟨_, e, rfl⟩) kk
theorem sw_absN {z : Int} {Rs : List HP} (F : Fx x y cc ret nL fr lo tab) (kk : ∀ M' : Nat → Option PV, le_ M M' → at_ (xg x) M' q (vN z) → SW x (pl (xg x) M' :: Rs) bc bs pc L st) : SW x (ob (xg x) q 17 [.int (jI z)] :: pl (xg x) M :: Rs) bc bs pc L st :=
  sw_abs F (vN z) (fun h ⟨c, e, hc⟩ => ⟨c, e, hc⟩) kk
/-- a value's own cell, for what it remembers -/
theorem sw_takeD {u s : Int} {o : Option Nat} {Rs : List HP} (hg : gB (xg x) ≤ q) (hx : at_ (xg x) M q (vD u s o)) (kk : ∀ p : Int, SW x (ob (xg x) q 13 (flD u s o p) :: plH (xg x) M q :: Rs) bc bs pc L st) : SW x (pl (xg x) M :: Rs) bc bs pc L st := by
  rcases hx with ⟨-, hM⟩ | hC
  · intro H locs h uc us ls I hL
    obtain ⟨hs, hS, hAA, hV, i1, i2⟩ := I
    obtain ⟨a, b, hd, rfl, hp, hR⟩ := hs
    obtain ⟨c, b1, hd1, rfl, ⟨⟨p, -, hc⟩, -⟩, hH⟩ := pl_take hp hM
    obtain ⟨hd2, hd3⟩ := ph_U_D.mp hd
    exact kk p H locs _ uc us ls ⟨⟨_, _, ph_D_U.mpr ⟨hd1, hd2⟩, (ph_U_assoc), ⟨c, rfl, hc⟩, _, _, hd3, rfl, hH, hR⟩, hS, hAA, hV, i1, i2⟩ hL
  · exact absurd hC.lt (by omega)
theorem sw_backD {u s : Int} {o : Option Nat} {p : Int} {Rs : List HP} (hg : gB (xg x) ≤ q) (hx : at_ (xg x) M q (vD u s o)) (hp : p = dgc u.natAbs ∨ p = 0) (ho : o = none → fit u) (hb : ∀ b, o = some b → ∃ a, at_ (xg x) M b (vI u a)) (kk : SW x (pl (xg x) M :: Rs) bc bs pc L st) : SW x (ob (xg x) q 13 (flD u s o p) :: plH (xg x) M q :: Rs) bc bs pc L st := by
  rcases hx with ⟨-, hM⟩ | hC
  · intro H locs h uc us ls I hL
    obtain ⟨hs, hS, hAA, hV, i1, i2⟩ := I
    obtain ⟨a, b, hd, rfl, ⟨c, rfl, hc⟩, a2, b2, hd2, rfl, hH, hR⟩ := hs
    obtain ⟨hd3, hd4⟩ := ph_D_U.mp hd
    have hp2 := pl_back hH hM (c := c) ⟨⟨p, hp, hc⟩, ho, hb⟩
    exact kk H locs _ uc us ls ⟨⟨_, _, ph_U_D.mpr ⟨hd4, hd2⟩, ph_U_assoc.symm, hp2, hR⟩, hS, hAA, hV, i1, i2⟩ hL
  · exact absurd hC.lt (by omega)
end POOL
