/-! worlds that open and close: a predicate that unfolds, any number of alike ones -/
section STAR
variable {x : EX} {Ps : List HP} {bc bs pc : Nat} {L : List (Nat × Value)} {st : List Value}
theorem sw_unf {α : Type} {P : HP} {Rs : List HP} (Qs : α → List HP) (C : α → Prop) (hP : ∀ h, P h → ∃ a, C a ∧ sl (Qs a) h) (kk : ∀ a, C a → SW x (Qs a ++ Rs) bc bs pc L st) : SW x (P :: Rs) bc bs pc L st := by
  intro H locs h uc us ls I hL
  obtain ⟨hs, hS, hA, hV, i1, i2⟩ := I
  obtain ⟨a, b, hd, rfl, hPa, hR⟩ := hs
  obtain ⟨w, hC, hQ⟩ := hP a hPa
  exact kk w hC H locs _ uc us ls ⟨(sl_app _).mpr ⟨a, b, hd, rfl, hQ, hR⟩, hS, hA, hV, i1, i2⟩ hL
theorem sw_fold {P : HP} {Qs Rs : List HP} (hP : ∀ h, sl Qs h → P h) (kk : SW x (P :: Rs) bc bs pc L st) : SW x (Qs ++ Rs) bc bs pc L st := by
  intro H locs h uc us ls I hL
  obtain ⟨hs, hS, hA, hV, i1, i2⟩ := I
  obtain ⟨a, b, hd, rfl, hQ, hR⟩ := (sl_app _).mp hs
  exact kk H locs _ uc us ls ⟨⟨a, b, hd, rfl, hP a hQ, hR⟩, hS, hA, hV, i1, i2⟩ hL
theorem sx_fold {E : String} {P : HP} {Qs Rs : List HP} (hP : ∀ h, sl Qs h → P h) (kk : SX x (P :: Rs) bc bs pc L E) : SX x (Qs ++ Rs) bc bs pc L E := by
  intro H locs h uc us ls rest q ce I hL
  obtain ⟨hs, hS, hA, hV, i1, i2⟩ := I
  obtain ⟨a, b, hd, rfl, hQ, hR⟩ := (sl_app _).mp hs
  exact kk H locs _ uc us ls rest q ce ⟨⟨a, b, hd, rfl, hP a hQ, hR⟩, hS, hA, hV, i1, i2⟩ hL
/-- a predicate in place of a like one -/
theorem sw_eqv {P Q : HP} {Rs : List HP} (hP : ∀ h, P h → Q h) (kk : SW x (Q :: Rs) bc bs pc L st) : SW x (P :: Rs) bc bs pc L st := by
  intro H locs h uc us ls I hL
  obtain ⟨hs, hS, hA, hV, i1, i2⟩ := I
  obtain ⟨a, b, hd, rfl, hQ, hR⟩ := hs
  exact kk H locs _ uc us ls ⟨⟨a, b, hd, rfl, hP a hQ, hR⟩, hS, hA, hV, i1, i2⟩ hL
end STAR
theorem sl_1 {P : HP} {h : PH} : sl [P] h ↔ P h := by
  constructor
  · rintro ⟨a, b, hd, rfl, hp, rfl⟩; rw [ph_U_E]; exact hp
  · intro k; exact ⟨h, ph_E, fun q => Or.inr rfl, ph_U_E.symm, k, rfl⟩
/-- n alike -/
def stH (n : Nat) (P : Nat → HP) : HP := sl ((List.range n).map P)
/-- n alike but the one of number k -/
def stX (n k : Nat) (P : Nat → HP) : HP := sl (((List.range n).erase k).map P)
theorem stX_cong {n k : Nat} {P P' : Nat → HP} (h : ∀ j, j < n → j ≠ k → P' j = P j) : stX n k P' = stX n k P := by
  unfold stX
  congr 1
  apply List.map_congr_left
  intro j hj
  have h1 := List.mem_range.mp (List.mem_of_mem_erase hj)
  refine h j h1 ?_
  intro e
  subst e
  exact (List.Nodup.not_mem_erase List.nodup_range) hj
theorem stH_cong {n : Nat} {P P' : Nat → HP} (h : ∀ j, j < n → P' j = P j) : stH n P' = stH n P := by
  unfold stH
  congr 1
  exact List.map_congr_left fun j hj => h j (List.mem_range.mp hj)
theorem stH_open {n k : Nat} {P : Nat → HP} (hk : k < n) (h : PH) : stH n P h ↔ sl [P k, stX n k P] h := by
  have hp : ((List.range n).map P).Perm (P k :: ((List.range n).erase k).map P) := by
    have h1 := List.perm_cons_erase (List.mem_range.mpr hk)
    exact h1.map P
  have e : sl [P k, stX n k P] h ↔ sl (P k :: ((List.range n).erase k).map P) h := by
    constructor
    · rintro ⟨a, b, hd, rfl, hPa, hb⟩
      exact ⟨a, b, hd, rfl, hPa, sl_1.mp hb⟩
    · rintro ⟨a, b, hd, rfl, hPa, hb⟩
      exact ⟨a, b, hd, rfl, hPa, sl_1.mpr hb⟩
  rw [e]
  exact ⟨sl_perm hp h, sl_perm hp.symm h⟩
theorem stH_s {n : Nat} {P : Nat → HP} (h : PH) : stH (n + 1) P h ↔ sl [P n, stH n P] h := by
  have hp : ((List.range (n + 1)).map P).Perm (P n :: (List.range n).map P) := by
    rw [List.range_succ, List.map_append]
    exact List.perm_append_comm
  have e : sl [P n, stH n P] h ↔ sl (P n :: (List.range n).map P) h := by
    constructor
    · rintro ⟨a, b, hd, rfl, hPa, hb⟩
      exact ⟨a, b, hd, rfl, hPa, sl_1.mp hb⟩
    · rintro ⟨a, b, hd, rfl, hPa, hb⟩
      exact ⟨a, b, hd, rfl, hPa, sl_1.mpr hb⟩
  rw [e]
  exact ⟨sl_perm hp h, sl_perm hp.symm h⟩
section STAR2
variable {x : EX} {Ps : List HP} {bc bs pc : Nat} {L : List (Nat × Value)} {st : List Value}
theorem sw_stOpen {n k : Nat} {P : Nat → HP} {Rs : List HP} (hk : k < n) (kk : SW x (P k :: stX n k P :: Rs) bc bs pc L st) : SW x (stH n P :: Rs) bc bs pc L st :=
  sw_unf (fun _ : Unit => [P k, stX n k P]) (fun _ => True) (fun h q => ⟨(), trivial, (stH_open hk h).mp q⟩) fun _ _ => kk
theorem sw_stClose {n k : Nat} {P : Nat → HP} {Q : HP} {Rs : List HP} (P' : Nat → HP) (hk : k < n) (hQ : P' k = Q) (hP : ∀ j, j < n → j ≠ k → P' j = P j) (kk : SW x (stH n P' :: Rs) bc bs pc L st) : SW x (Q :: stX n k P :: Rs) bc bs pc L st :=
  sw_fold (Qs := [Q, stX n k P]) (fun h q => (stH_open hk h).mpr (by rw [hQ, stX_cong hP]; exact q)) kk
theorem sx_stClose {n k : Nat} {E : String} {P : Nat → HP} {Q : HP} {Rs : List HP} (P' : Nat → HP) (hk : k < n) (hQ : P' k = Q) (hP : ∀ j, j < n → j ≠ k → P' j = P j) (kk : SX x (stH n P' :: Rs) bc bs pc L E) : SX x (Q :: stX n k P :: Rs) bc bs pc L E :=
  sx_fold (Qs := [Q, stX n k P]) (fun h q => (stH_open hk h).mpr (by rw [hQ, stX_cong hP]; exact q)) kk
theorem sw_stPush {n : Nat} {P : Nat → HP} {Q : HP} {Rs : List HP} (P' : Nat → HP) (hQ : P' n = Q) (hP : ∀ j, j < n → P' j = P j) (kk : SW x (stH (n + 1) P' :: Rs) bc bs pc L st) : SW x (Q :: stH n P :: Rs) bc bs pc L st :=
  sw_fold (Qs := [Q, stH n P]) (fun h q => (stH_s h).mpr (by rw [hQ, stH_cong hP]; exact q)) kk
theorem sw_stPop {n : Nat} {P : Nat → HP} {Rs : List HP} (kk : SW x (P n :: stH n P :: Rs) bc bs pc L st) : SW x (stH (n + 1) P :: Rs) bc bs pc L st :=
  sw_unf (fun _ : Unit => [P n, stH n P]) (fun _ => True) (fun h q => ⟨(), trivial, (stH_s h).mp q⟩) fun _ _ => kk
theorem sw_stNil {P : Nat → HP} {Rs : List HP} (kk : SW x (stH 0 P :: Rs) bc bs pc L st) : SW x Rs bc bs pc L st :=
  sw_fold (Qs := []) (P := stH 0 P) (fun h q => q) kk
end STAR2
