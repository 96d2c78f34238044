/-! separation on partial heaps: a world is a list of predicates over partial heaps, each with its own cells -/
abbrev PH : Type := Nat → Option Cell
abbrev HP : Type := PH → Prop
def ph_E : PH := fun _ => none
def ph_U (a b : PH) : PH := fun q => (a q).or (b q)
def ph_D (a b : PH) : Prop := ∀ q, a q = none ∨ b q = none
def ph_S (a : PH) (H : Heap) : Prop := ∀ q c, a q = some c → H[q]? = some c
def ph_1 (x : Nat) (c : Cell) : PH := fun q => if q = x then some c else none
theorem ph_D.symm {a b : PH} (h : ph_D a b) : ph_D b a := fun q => (h q).symm
theorem ph_U_none {a b : PH} {q : Nat} : ph_U a b q = none ↔ a q = none ∧ b q = none := by
  unfold ph_U
  cases a q <;> simp
theorem ph_U_comm {a b : PH} (h : ph_D a b) : ph_U a b = ph_U b a := by
  funext q
  unfold ph_U
  rcases h q with e | e <;> rw [e] <;> cases a q <;> cases b q <;> simp_all
theorem ph_U_assoc {a b c : PH} : ph_U (ph_U a b) c = ph_U a (ph_U b c) := by
  funext q
  unfold ph_U
  cases a q <;> simp
theorem ph_E_U {a : PH} : ph_U ph_E a = a := by funext q; simp [ph_U, ph_E]
theorem ph_U_E {a : PH} : ph_U a ph_E = a := by funext q; simp [ph_U, ph_E]
theorem ph_D_U {a b c : PH} : ph_D a (ph_U b c) ↔ ph_D a b ∧ ph_D a c := by
  constructor
  · intro h
    exact ⟨fun q => (h q).imp id fun e => (ph_U_none.mp e).1, fun q => (h q).imp id fun e => (ph_U_none.mp e).2⟩
  · intro ⟨h1, h2⟩ q
    rcases h1 q with e | e
    · exact Or.inl e
    · rcases h2 q with e2 | e2
      · exact Or.inl e2
      · exact Or.inr (ph_U_none.mpr ⟨e, e2⟩)
theorem ph_U_D {a b c : PH} : ph_D (ph_U a b) c ↔ ph_D a c ∧ ph_D b c := by
  constructor
  · intro h
    have := ph_D_U.mp h.symm
    exact ⟨this.1.symm, this.2.symm⟩
  · intro ⟨h1, h2⟩
    exact (ph_D_U.mpr ⟨h1.symm, h2.symm⟩).symm
theorem ph_S_l {a b : PH} {H : Heap} (h : ph_S (ph_U a b) H) : ph_S a H := fun q c e => h q c (by simp [ph_U, e])
theorem ph_S_r {a b : PH} {H : Heap} (hd : ph_D a b) (h : ph_S (ph_U a b) H) : ph_S b H := fun q c e => h q c (by
  rcases hd q with e1 | e1
  · simp [ph_U, e1, e]
  · rw [e] at e1; cases e1)
theorem ph_S_U {a b : PH} {H : Heap} (h1 : ph_S a H) (h2 : ph_S b H) : ph_S (ph_U a b) H := by
  intro q c e
  unfold ph_U at e
  cases ha : a q with
  | some c1 => rw [ha] at e; simp at e; subst e; exact h1 q _ ha
  | none => rw [ha] at e; simp at e; exact h2 q _ e
theorem ph_S_keep {a : PH} {H H1 : Heap} (h : ph_S a H) (hk : ∀ q, a q ≠ none → H1[q]? = H[q]?) : ph_S a H1 := fun q c e => by
  rw [hk q (by rw [e]; simp)]; exact h q c e
theorem ph_S_lt {a : PH} {H : Heap} (h : ph_S a H) {q : Nat} (hq : a q ≠ none) : q < H.size := by
  obtain ⟨c, e⟩ := Option.ne_none_iff_exists'.mp hq
  exact (Array.getElem?_eq_some_iff.mp (h q c e)).1
/-- a world holds of a partial heap -/
def sl : List HP → HP
  | [] => fun h => h = ph_E
  | P :: Ps => fun h => ∃ a b : PH, ph_D a b ∧ h = ph_U a b ∧ P a ∧ sl Ps b
theorem sl_perm {Ps Qs : List HP} (hp : Ps.Perm Qs) : ∀ h, sl Ps h → sl Qs h := by
  induction hp with
  | nil => exact fun h k => k
  | cons x _ ih => exact fun h ⟨a, b, h1, h2, h3, h4⟩ => ⟨a, b, h1, h2, h3, ih b h4⟩
  | swap x y l =>
    intro h ⟨a, b, h1, h2, h3, c, d, h4, h5, h6, h7⟩
    subst h5
    obtain ⟨q1, q2⟩ := ph_D_U.mp h1
    refine ⟨c, ph_U a d, ph_D_U.mpr ⟨q1.symm, h4⟩, ?_, h6, a, d, q2, rfl, h3, h7⟩
    rw [h2, ← ph_U_assoc, ph_U_comm q1, ph_U_assoc]
  | trans _ _ ih1 ih2 => exact fun h k => ih2 h (ih1 h k)
theorem sl_app {Ps Qs : List HP} : ∀ h, sl (Ps ++ Qs) h ↔ ∃ a b : PH, ph_D a b ∧ h = ph_U a b ∧ sl Ps a ∧ sl Qs b := by
  induction Ps with
  | nil =>
    intro h
    constructor
    · intro k; exact ⟨ph_E, h, fun q => Or.inl rfl, ph_E_U.symm, rfl, k⟩
    · rintro ⟨a, b, -, rfl, rfl, k⟩; rw [ph_E_U]; exact k
  | cons P Ps ih =>
    intro h
    constructor
    · rintro ⟨a, b, h1, rfl, h3, h4⟩
      obtain ⟨c, d, k1, rfl, k3, k4⟩ := (ih b).mp h4
      obtain ⟨q1, q2⟩ := ph_D_U.mp h1
      exact ⟨ph_U a c, d, ph_U_D.mpr ⟨q2, k1⟩, ph_U_assoc.symm, ⟨a, c, q1, rfl, h3, k3⟩, k4⟩
    · rintro ⟨a, b, h1, rfl, ⟨c, d, k1, rfl, k3, k4⟩, h4⟩
      obtain ⟨q1, q2⟩ := ph_U_D.mp h1
      exact ⟨c, ph_U d b, ph_D_U.mpr ⟨k1, q1⟩, ph_U_assoc, k3, (ih _).mpr ⟨d, b, q2, rfl, k4, h4⟩⟩
/-- one of a world: what it says, and what may stand in its place -/
theorem sl_at {Ps : List HP} : ∀ {i : Nat} {P : HP} {h : PH}, Ps[i]? = some P → sl Ps h → ∃ a b : PH, ph_D a b ∧ h = ph_U a b ∧ P a ∧ ∀ (P' : HP) (a' : PH), P' a' → ph_D a' b → sl (Ps.set i P') (ph_U a' b) := by
  induction Ps with
  | nil => intro i P h e; simp at e
  | cons Q Qs ih =>
    intro i P h e hs
    obtain ⟨a, b, h1, rfl, h3, h4⟩ := hs
    cases i with
    | zero =>
      simp at e; subst e
      exact ⟨a, b, h1, rfl, h3, fun P' a' k1 k2 => ⟨a', b, k2, rfl, k1, h4⟩⟩
    | succ i =>
      rw [List.getElem?_cons_succ] at e
      obtain ⟨c, d, k1, rfl, k3, k4⟩ := ih e h4
      obtain ⟨q1, q2⟩ := ph_D_U.mp h1
      refine ⟨c, ph_U a d, ph_D_U.mpr ⟨q1.symm, k1⟩, ?_, k3, fun P' a' m1 m2 => ?_⟩
      · rw [← ph_U_assoc, ← ph_U_assoc, ph_U_comm q1]
      · obtain ⟨n1, n2⟩ := ph_D_U.mp m2
        refine ⟨a, ph_U a' d, ph_D_U.mpr ⟨n1.symm, q2⟩, ?_, h3, k4 P' a' m1 n2⟩
        rw [← ph_U_assoc, ← ph_U_assoc, ph_U_comm n1]
/-- places of a list -/
def sl_pick (Ps : List HP) (is : List Nat) : List HP := is.filterMap (fun i => Ps[i]?)
theorem sl_pick_range (Ps : List HP) : sl_pick Ps (List.range Ps.length) = Ps := by
  unfold sl_pick
  induction Ps with
  | nil => rfl
  | cons P Ps ih =>
    rw [List.length_cons, List.range_succ_eq_map, List.filterMap_cons]
    simp only [List.getElem?_cons_zero, List.filterMap_map]
    congr 1
theorem sl_pick_perm {Ps : List HP} (is : List Nat) (h : is.isPerm (List.range Ps.length) = true) : Ps.Perm (sl_pick Ps is) := by
  have h1 : is.Perm (List.range Ps.length) := List.isPerm_iff.mp h
  have h2 := h1.symm.filterMap (fun i => Ps[i]?)
  have h3 := sl_pick_range Ps
  unfold sl_pick at h3 ⊢
  rw [h3] at h2
  exact h2
