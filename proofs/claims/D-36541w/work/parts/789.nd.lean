/-! the nodes of a TreeMap as cells -/
def flN (ka va : Nat → Nat) (L R P : OP) (cl : Nat → Int) (q : Nat) : List Value := [.ref (ka q), .ref (va q), va_rf (L q), va_rf (R q), va_rf (P q), .int (jI (cl q))]
def nd (g : GG) (Ks : List Nat) (ka va : Nat → Nat) (L R P : OP) (cl : Nat → Int) : HP := fun h => (∀ q, h q = none ↔ ¬ q ∈ Ks) ∧ ∀ q c, h q = some c → obC g 20 (flN ka va L R P cl q) c
def ndX (g : GG) (Ks : List Nat) (ka va : Nat → Nat) (L R P : OP) (cl : Nat → Int) (x : Nat) : HP := fun h => (∀ q, h q = none ↔ (¬ q ∈ Ks ∨ q = x)) ∧ ∀ q c, h q = some c → obC g 20 (flN ka va L R P cl q) c
section ND
variable {g : GG} {Ks : List Nat} {ka va ka' va' : Nat → Nat} {L R P L' R' P' : OP} {cl cl' : Nat → Int}
theorem nd_take {h : PH} {q : Nat} (hp : nd g Ks ka va L R P cl h) (hx : q ∈ Ks) : ∃ a b, ph_D a b ∧ h = ph_U a b ∧ ob g q 20 (flN ka va L R P cl q) a ∧ ndX g Ks ka va L R P cl q b := by
  cases e : h q with
  | none => exact absurd hx ((hp.1 q).mp e)
  | some c =>
    refine ⟨ph_1 q c, fun r => if r = q then none else h r, fun r => ?_, ?_, ⟨c, rfl, hp.2 q c e⟩, fun r => ?_, fun r c2 h1 => ?_⟩
    · by_cases k : r = q
      · exact Or.inr (if_pos k)
      · exact Or.inl (by simp [ph_1, k])
    · funext r
      by_cases k : r = q
      · subst k; simp [ph_U, ph_1, e]
      · simp [ph_U, ph_1, k]
    · by_cases k : r = q
      · simp [k]
      · simp [k]; exact hp.1 r
    · by_cases k : r = q
      · simp [k] at h1
      · simp [k] at h1; exact hp.2 r c2 h1
theorem nd_back {a b : PH} {q : Nat} (hx : q ∈ Ks) (ha : ob g q 20 (flN ka' va' L' R' P' cl' q) a) (hb : ndX g Ks ka va L R P cl q b) (he : ∀ t, t ≠ q → flN ka' va' L' R' P' cl' t = flN ka va L R P cl t) : nd g Ks ka' va' L' R' P' cl' (ph_U a b) := by
  obtain ⟨c, rfl, hc⟩ := ha
  refine ⟨fun r => ?_, fun r c2 h1 => ?_⟩
  · by_cases k : r = q
    · subst k; simp [ph_U, ph_1, hx]
    · have := hb.1 r; simp [ph_U, ph_1, k]; rw [this]; simp [k]
  · by_cases k : r = q
    · subst k
      simp [ph_U, ph_1] at h1; subst h1; exact hc
    · simp [ph_U, ph_1, k] at h1; rw [he r k]; exact hb.2 r c2 h1
theorem kn_nd {q : Nat} (hx : q ∈ Ks) : kn g (nd g Ks ka va L R P cl) q 20 := Or.inl fun h hp => by
  cases e : h q with
  | none => exact absurd hx ((hp.1 q).mp e)
  | some c =>
    obtain ⟨r, -, h1, h2, -⟩ := hp.2 q c e
    exact ⟨c, rfl, h1, by rw [h2]; rfl⟩
end ND
section NDR
variable {x : EX} {y : MethodName} {cc : ByteArray} {ret : Option FieldType} {nL fr lo : Nat} {tab : List ExceptionTableEntry} {Ps Rs : List HP} {bc bs pc n : Nat} {LL : List (Nat × Value)} {st : List Value} {q : Nat} {Ks : List Nat} {ka va ka' va' : Nat → Nat} {L R P L' R' P' : OP} {cl cl' : Nat → Int}
theorem nd_hO (i : Nat) (hat : Ps[i]? = some (nd (xg x) Ks ka va L R P cl)) (hx : q ∈ Ks) : hO x Ps q 20 (flN ka va L R P cl q) := by
  intro bc bs H locs h uc us I
  obtain ⟨a, b, hd, rfl, hp, -⟩ := sl_at hat I.1
  cases e : a q with
  | none => exact absurd hx ((hp.1 q).mp e)
  | some c => exact ⟨c, ph_S_l I.2.1 q c e, (hp.2 q c e).R⟩
theorem sw_ndput (F : Fx x y cc ret nL fr lo tab) (hx : q ∈ Ks) {idx k : Nat} {ref : String} (hl : FL y.cls idx 20 k ref) {v : Value} (ty : FieldType)
    (hk : ∃ r : vw_C, vwCl[20]? = some r ∧ (r.2.1 k).2.2.2 = false ∧ parseFieldDescriptor (r.2.1 k).2.2.1 = some ty ∧ (∀ a, a < r.2.2 → ∀ b, b < r.2.2 → a ≠ b → (r.2.1 a).2.1 ≠ (r.2.1 b).2.1) ∧ ∃ ty0 : Nat → FieldType, ∀ k, k < r.2.2 → parseFieldDescriptor (r.2.1 k).2.2.1 = some (ty0 k))
    (hn1 : narrow ty v = v) (hfit : fits ty v = true) (hk6 : k < 6) (hfs : (flN ka va L R P cl q).set k v = flN ka' va' L' R' P' cl' q) (he : ∀ t, t ≠ q → flN ka' va' L' R' P' cl' t = flN ka va L R P cl t) (hd : decode cc pc = .ok (.putfield idx, 3)) (hn : pc + 3 = n) (kk : SW x (nd (xg x) Ks ka' va' L' R' P' cl' :: Rs) bc bs n LL st) : SW x (nd (xg x) Ks ka va L R P cl :: Rs) bc bs pc LL (v :: .ref q :: st) := by
  refine sw_unf (fun _ : Unit => [ob (xg x) q 20 (flN ka va L R P cl q), ndX (xg x) Ks ka va L R P cl q]) (fun _ => True) (fun h hp => ?_) fun _ _ => ?_
  · obtain ⟨a, b, h1, h2, h3, h4⟩ := nd_take hp hx
    exact ⟨(), trivial, a, b, h1, h2, h3, sl_1.mpr h4⟩
  · refine sw_put F 0 rfl hl ty hk hn1 hfit (show k < (flN ka va L R P cl q).length from hk6) hfs _ rfl hd hn ?_
    refine sw_fold (Qs := [ob (xg x) q 20 (flN ka' va' L' R' P' cl' q), ndX (xg x) Ks ka va L R P cl q]) (fun h hp => ?_) kk
    obtain ⟨a, b, h1, rfl, h3, h4⟩ := hp
    exact nd_back hx h3 (sl_1.mp h4) he
/-- a new node -/
theorem sw_ndAdd {k v : Nat} {l r p : Option Nat} {c : Int} (kk : ¬ q ∈ Ks → SW x (nd (xg x) (q :: Ks) (va_up ka q k) (va_up va q v) (va_up L q l) (va_up R q r) (va_up P q p) (va_up cl q c) :: Rs) bc bs pc LL st) : SW x (ob (xg x) q 20 [.ref k, .ref v, va_rf l, va_rf r, va_rf p, .int (jI c)] :: nd (xg x) Ks ka va L R P cl :: Rs) bc bs pc LL st := by
  intro H locs h uc us ls I hL
  obtain ⟨hs, hS, hA, hV, i1, i2⟩ := I
  obtain ⟨a, b, hd, rfl, ⟨ce, rfl, hc⟩, a2, b2, hd2, rfl, hp, hR⟩ := hs
  obtain ⟨d1, d2⟩ := ph_D_U.mp hd
  have hq : a2 q = none := ph_D_1 d1
  have hqK : ¬ q ∈ Ks := (hp.1 q).mp hq
  refine kk hqK H locs _ uc us ls ⟨⟨ph_U (ph_1 q ce) a2, b2, ph_U_D.mpr ⟨d2, hd2⟩, ph_U_assoc.symm, ⟨fun t => ?_, fun t c2 h1 => ?_⟩, hR⟩, hS, hA, hV, i1, i2⟩ hL
  · by_cases e : t = q
    · subst e; simp [ph_U, ph_1]
    · simp only [ph_U, ph_1, if_neg e, List.mem_cons, e, false_or]; simpa using hp.1 t
  · by_cases e : t = q
    · subst e
      simp [ph_U, ph_1] at h1
      subst h1
      simp only [flN, va_up, if_pos]
      exact hc
    · simp only [ph_U, ph_1, if_neg e] at h1
      simp only [flN, va_up, if_neg e]
      exact hp.2 t c2 (by simpa using h1)
theorem sw_ndNil (kk : SW x (nd (xg x) [] ka va L R P cl :: Rs) bc bs pc LL st) : SW x Rs bc bs pc LL st :=
  sw_fold (Qs := []) (fun h hq => by
    have hq : h = ph_E := hq
    subst hq
    exact ⟨fun q => by simp [ph_E], fun q c e => by simp [ph_E] at e⟩) kk
/-- a node forgotten -/
theorem sw_ndDel (F : Fx x y cc ret nL fr lo tab) (hx : q ∈ Ks) (hK : Ks.Nodup) (kk : SW x (nd (xg x) (Ks.erase q) ka va L R P cl :: Rs) bc bs pc LL st) : SW x (nd (xg x) Ks ka va L R P cl :: Rs) bc bs pc LL st := by
  intro H locs h uc us ls I hL
  obtain ⟨hs, hS, hA, hV, i1, i2⟩ := I
  obtain ⟨a, b, hd, rfl, hp, hR⟩ := hs
  obtain ⟨a1, b1, d1, rfl, -, h4⟩ := nd_take hp hx
  obtain ⟨e1, e2⟩ := ph_U_D.mp hd
  have hS2 : ph_S (ph_U b1 b) H := by
    intro r c e
    refine hS r c ?_
    have hz : a1 r = none := by
      rcases d1 r with k | k
      · exact k
      · rcases e1 r with k2 | k2
        · exact k2
        · rw [show ph_U b1 b r = none by simp [ph_U, k, k2]] at e; cases e
    rw [← e]; simp [ph_U, hz]
  refine kk H locs (ph_U b1 b) uc us ls ⟨⟨b1, b, e2, rfl, ⟨fun r => ?_, h4.2⟩, hR⟩, hS2, fun r hr => hA r (fun z => hr ?_), hV, i1, i2⟩ hL
  · rw [h4.1 r, hK.mem_erase_iff]; by_cases k : r = q <;> simp [k]
  · have := ph_U_none.mp z
    have h5 := ph_U_none.mp this.1
    exact ph_U_none.mpr ⟨h5.2, this.2⟩
end NDR
