/-! search trees by their nodes' addresses: the plain law -/
abbrev OP : Type := Nat → Option Nat
/-- the shape: ranks rk within the intervals (lo, hi) -/
def TrI (Ks : List Nat) (L R P : OP) (rk lo hi : Nat → Int) (rt : Option Nat) : Prop :=
  ((rt = none → ∀ x, ¬ x ∈ Ks) ∧ (∀ r, rt = some r → r ∈ Ks ∧ P r = none ∧ lo r = -2147483649 ∧ hi r = 2147483648)) ∧
  (∀ x, x ∈ Ks → lo x < rk x ∧ rk x < hi x ∧ -2147483649 ≤ lo x ∧ hi x ≤ 2147483648) ∧
  (∀ x j, x ∈ Ks → L x = some j → j ∈ Ks ∧ P j = some x ∧ lo j = lo x ∧ hi j = rk x) ∧
  (∀ x j, x ∈ Ks → R x = some j → j ∈ Ks ∧ P j = some x ∧ lo j = rk x ∧ hi j = hi x) ∧
  (∀ x t, x ∈ Ks → L x = none → t ∈ Ks → lo x < rk t → rk t < rk x → False) ∧
  (∀ x t, x ∈ Ks → R x = none → t ∈ Ks → rk x < rk t → rk t < hi x → False) ∧
  (∀ x, x ∈ Ks → P x = none → rt = some x) ∧
  (∀ x p, x ∈ Ks → P x = some p → p ∈ Ks ∧ (L p = some x ∨ R p = some x)) ∧
  (∀ x t, x ∈ Ks → t ∈ Ks → rk x = rk t → x = t)
section TREE
variable {Ks : List Nat} {L R P : OP} {rk lo hi : Nat → Int} {rt : Option Nat}
theorem TrI.root (h : TrI Ks L R P rk lo hi rt) {r : Nat} (hr : rt = some r) : r ∈ Ks ∧ P r = none ∧ lo r = -2147483649 ∧ hi r = 2147483648 := h.1.2 r hr
theorem TrI.no (h : TrI Ks L R P rk lo hi rt) (hr : rt = none) : ∀ x, ¬ x ∈ Ks := h.1.1 hr
theorem TrI.rng (h : TrI Ks L R P rk lo hi rt) {x : Nat} (hx : x ∈ Ks) : lo x < rk x ∧ rk x < hi x ∧ -2147483649 ≤ lo x ∧ hi x ≤ 2147483648 := h.2.1 x hx
theorem TrI.l (h : TrI Ks L R P rk lo hi rt) {x j : Nat} (hx : x ∈ Ks) (hj : L x = some j) : j ∈ Ks ∧ P j = some x ∧ lo j = lo x ∧ hi j = rk x := h.2.2.1 x j hx hj
theorem TrI.r (h : TrI Ks L R P rk lo hi rt) {x j : Nat} (hx : x ∈ Ks) (hj : R x = some j) : j ∈ Ks ∧ P j = some x ∧ lo j = rk x ∧ hi j = hi x := h.2.2.2.1 x j hx hj
theorem TrI.gl (h : TrI Ks L R P rk lo hi rt) {x t : Nat} (hx : x ∈ Ks) (hj : L x = none) (ht : t ∈ Ks) (h1 : lo x < rk t) (h2 : rk t < rk x) : False := h.2.2.2.2.1 x t hx hj ht h1 h2
theorem TrI.gr (h : TrI Ks L R P rk lo hi rt) {x t : Nat} (hx : x ∈ Ks) (hj : R x = none) (ht : t ∈ Ks) (h1 : rk x < rk t) (h2 : rk t < hi x) : False := h.2.2.2.2.2.1 x t hx hj ht h1 h2
theorem TrI.pn (h : TrI Ks L R P rk lo hi rt) {x : Nat} (hx : x ∈ Ks) (hp : P x = none) : rt = some x := h.2.2.2.2.2.2.1 x hx hp
theorem TrI.p (h : TrI Ks L R P rk lo hi rt) {x p : Nat} (hx : x ∈ Ks) (hp : P x = some p) : p ∈ Ks ∧ (L p = some x ∨ R p = some x) := h.2.2.2.2.2.2.2.1 x p hx hp
theorem TrI.inj (h : TrI Ks L R P rk lo hi rt) {x t : Nat} (hx : x ∈ Ks) (ht : t ∈ Ks) (e : rk x = rk t) : x = t := h.2.2.2.2.2.2.2.2 x t hx ht e
/-- x's child r, to its right, takes its place -/
def RotL (L R P : OP) (rt : Option Nat) (x r : Nat) (L' R' P' : OP) (rt' : Option Nat) : Prop :=
  (∀ t, R' t = if t = x then L r else if P x = some t ∧ L t ≠ some x then some r else R t) ∧
  (∀ t, L' t = if t = r then some x else if P x = some t ∧ L t = some x then some r else L t) ∧
  (∀ t, P' t = if t = x then some r else if t = r then P x else if L r = some t then some x else P t) ∧
  rt' = if P x = none then some r else rt
def RotR (L R P : OP) (rt : Option Nat) (x l : Nat) (L' R' P' : OP) (rt' : Option Nat) : Prop :=
  (∀ t, L' t = if t = x then R l else if P x = some t ∧ R t ≠ some x then some l else L t) ∧
  (∀ t, R' t = if t = l then some x else if P x = some t ∧ R t = some x then some l else R t) ∧
  (∀ t, P' t = if t = x then some l else if t = l then P x else if R l = some t then some x else P t) ∧
  rt' = if P x = none then some l else rt
theorem TrI.rotL (h : TrI Ks L R P rk lo hi rt) {x r : Nat} (hx : x ∈ Ks) (hr : R x = some r) {L' R' P' : OP} {rt' : Option Nat} (hR : RotL L R P rt x r L' R' P' rt') : TrI Ks L' R' P' rk (fun t => if t = r then lo x else lo t) (fun t => if t = x then rk r else hi t) rt' := by
  obtain ⟨⟨a0, a1⟩, a2, a3, a4, a5, a6, a7, a8, a9⟩ := h
  obtain ⟨e1, e2, e3, e4⟩ := hR
  obtain ⟨b1, b2, b3, b4⟩ := a4 x r hx hr
  have b5 := a3 r
  have b6 := a4 r
  have b7 := a2 x hx
  have b8 := a2 r b1
  have b9 := a8 x
  refine ⟨⟨?_, ?_⟩, ?_, ?_, ?_, ?_, ?_, ?_, ?_, ?_⟩ <;> grind (splits := 30)
theorem TrI.rotR (h : TrI Ks L R P rk lo hi rt) {x l : Nat} (hx : x ∈ Ks) (hl : L x = some l) {L' R' P' : OP} {rt' : Option Nat} (hR : RotR L R P rt x l L' R' P' rt') : TrI Ks L' R' P' rk (fun t => if t = x then rk l else lo t) (fun t => if t = l then hi x else hi t) rt' := by
  obtain ⟨⟨a0, a1⟩, a2, a3, a4, a5, a6, a7, a8, a9⟩ := h
  obtain ⟨e1, e2, e3, e4⟩ := hR
  obtain ⟨b1, b2, b3, b4⟩ := a3 x l hx hl
  have b5 := a4 l
  have b6 := a3 l
  have b7 := a2 x hx
  have b8 := a2 l b1
  have b9 := a8 x
  refine ⟨⟨?_, ?_⟩, ?_, ?_, ?_, ?_, ?_, ?_, ?_, ?_⟩ <;> grind (splits := 30)
/-- up from a node to the root -/
theorem TrI.ind (h : TrI Ks L R P rk lo hi rt) {Q : Nat → Prop} (h0 : ∀ x, x ∈ Ks → P x = none → Q x) (h1 : ∀ x p, x ∈ Ks → p ∈ Ks → P x = some p → Q p → Q x) : ∀ x, x ∈ Ks → Q x := by
  have key : ∀ n : Nat, ∀ x, x ∈ Ks → (4294967298 - (hi x - lo x)).toNat < n → Q x := by
    intro n
    induction n with
    | zero => intro x _ h9; omega
    | succ n ih =>
      intro x hx hn
      cases hp : P x with
      | none => exact h0 x hx hp
      | some p =>
        obtain ⟨hp1, hp2⟩ := h.p hx hp
        have g1 := h.rng hp1
        have g2 := h.rng hx
        refine h1 x p hx hp1 hp (ih p hp1 ?_)
        rcases hp2 with e | e
        · have := h.l hp1 e; omega
        · have := h.r hp1 e; omega
  exact fun x hx => key _ x hx (Nat.lt_succ_self _)
theorem TrI.hiL (h : TrI Ks L R P rk lo hi rt) {s : Nat} (hs : s ∈ Ks) : ∀ x, x ∈ Ks → hi x = rk s → L s ≠ none := by
  have hr := h.rng hs
  refine h.ind (Q := fun x => hi x = rk s → L s ≠ none) (fun x hx hp e => ?_) (fun x p hx hp hxp ih e => ?_)
  · have := h.root (h.pn hx hp); omega
  · rcases (h.p hx hxp).2 with k | k
    · have h2 := h.l hp k
      have e2 : p = s := h.inj hp hs (by omega)
      subst e2; rw [k]; simp
    · exact ih (by have := h.r hp k; omega)
theorem TrI.loR (h : TrI Ks L R P rk lo hi rt) {s : Nat} (hs : s ∈ Ks) : ∀ x, x ∈ Ks → lo x = rk s → R s ≠ none := by
  have hr := h.rng hs
  refine h.ind (Q := fun x => lo x = rk s → R s ≠ none) (fun x hx hp e => ?_) (fun x p hx hp hxp ih e => ?_)
  · have := h.root (h.pn hx hp); omega
  · rcases (h.p hx hxp).2 with k | k
    · exact ih (by have := h.l hp k; omega)
    · have h2 := h.r hp k
      have e2 : p = s := h.inj hp hs (by omega)
      subst e2; rw [k]; simp
theorem TrI.hiX (h : TrI Ks L R P rk lo hi rt) : ∀ x, x ∈ Ks → hi x = 2147483648 ∨ ∃ t, t ∈ Ks ∧ hi x = rk t := by
  refine h.ind (fun x hx hp => Or.inl (h.root (h.pn hx hp)).2.2.2) (fun x p hx hp hxp ih => ?_)
  rcases (h.p hx hxp).2 with k | k
  · exact Or.inr ⟨p, hp, (h.l hp k).2.2.2⟩
  · rw [(h.r hp k).2.2.2]; exact ih
theorem TrI.loX (h : TrI Ks L R P rk lo hi rt) : ∀ x, x ∈ Ks → lo x = -2147483649 ∨ ∃ t, t ∈ Ks ∧ lo x = rk t := by
  refine h.ind (fun x hx hp => Or.inl (h.root (h.pn hx hp)).2.2.1) (fun x p hx hp hxp ih => ?_)
  rcases (h.p hx hxp).2 with k | k
  · rw [(h.l hp k).2.2.1]; exact ih
  · exact Or.inr ⟨p, hp, (h.r hp k).2.2.1⟩
/-- the way down to a number -/
def pth (L R : OP) (rk : Nat → Int) (rt : Option Nat) (k : Int) : Nat → Option Nat
  | 0 => rt
  | n + 1 => (pth L R rk rt k n).bind fun x => if k < rk x then L x else R x
theorem TrI.hasP (h : TrI Ks L R P rk lo hi rt) {k : Int} : ∀ x, x ∈ Ks → lo x < k → k < hi x → ∃ n, pth L R rk rt k n = some x := by
  refine h.ind (Q := fun x => lo x < k → k < hi x → ∃ n, pth L R rk rt k n = some x) (fun x hx hp _ _ => ⟨0, h.pn hx hp⟩) (fun x p hx hp hxp ih h1 h2 => ?_)
  have g := h.rng hp
  rcases (h.p hx hxp).2 with e | e
  · have h3 := h.l hp e
    obtain ⟨n, hn⟩ := ih (by omega) (by omega)
    exact ⟨n + 1, by show (pth L R rk rt k n).bind _ = _; rw [hn]; show (if k < rk p then L p else R p) = _; rw [if_pos (by omega)]; exact e⟩
  · have h3 := h.r hp e
    obtain ⟨n, hn⟩ := ih (by omega) (by omega)
    exact ⟨n + 1, by show (pth L R rk rt k n).bind _ = _; rw [hn]; show (if k < rk p then L p else R p) = _; rw [if_neg (by omega)]; exact e⟩
theorem pth_none {k : Int} {n : Nat} (h : pth L R rk rt k n = none) : ∀ m, pth L R rk rt k (n + m) = none := by
  intro m
  induction m with
  | zero => exact h
  | succ m ih => show (pth L R rk rt k (n + m)).bind _ = none; rw [ih]; rfl
theorem TrI.gap (h : TrI Ks L R P rk lo hi rt) {k : Int} {x y : Nat} (hx : x ∈ Ks) (hy : y ∈ Ks) (h1 : lo x < k) (h2 : k < hi x) (h3 : lo y < k) (h4 : k < hi y) (e1 : (if k < rk x then L x else R x) = none) (e2 : (if k < rk y then L y else R y) = none) : x = y := by
  obtain ⟨n, hn⟩ := h.hasP x hx h1 h2
  obtain ⟨m, hm⟩ := h.hasP y hy h3 h4
  have n1 : pth L R rk rt k (n + 1) = none := by show (pth L R rk rt k n).bind _ = none; rw [hn]; exact e1
  have m1 : pth L R rk rt k (m + 1) = none := by show (pth L R rk rt k m).bind _ = none; rw [hm]; exact e2
  rcases Nat.lt_trichotomy n m with c | c | c
  · have := pth_none n1 (m - n - 1)
    rw [show n + 1 + (m - n - 1) = m by omega, hm] at this; cases this
  · subst c; rw [hn] at hm; exact Option.some.inj hm
  · have := pth_none m1 (n - m - 1)
    rw [show m + 1 + (n - m - 1) = n by omega, hn] at this; cases this
/-- where a number is sought -/
def sIn (Ks : List Nat) (rk lo hi : Nat → Int) (k : Int) (p : Option Nat) : Prop := (∀ x, p = some x → x ∈ Ks ∧ lo x < k ∧ k < hi x) ∧ (p = none → ∀ t, t ∈ Ks → rk t ≠ k)
theorem TrI.s0 (h : TrI Ks L R P rk lo hi rt) {k : Int} (hk : -2147483648 ≤ k ∧ k ≤ 2147483647) : sIn Ks rk lo hi k rt := by
  refine ⟨fun x e => ?_, fun e t ht => absurd ht (h.no e t)⟩
  obtain ⟨a, -, b, c⟩ := h.root e
  exact ⟨a, by omega, by omega⟩
theorem TrI.sL (h : TrI Ks L R P rk lo hi rt) {k : Int} {x : Nat} (hx : x ∈ Ks ∧ lo x < k ∧ k < hi x) (hk : k < rk x) : sIn Ks rk lo hi k (L x) := by
  refine ⟨fun j e => ?_, fun e t ht e2 => ?_⟩
  · obtain ⟨a, -, b, c⟩ := h.l hx.1 e
    exact ⟨a, by omega, by omega⟩
  · exact h.gl hx.1 e ht (by omega) (by omega)
theorem TrI.sR (h : TrI Ks L R P rk lo hi rt) {k : Int} {x : Nat} (hx : x ∈ Ks ∧ lo x < k ∧ k < hi x) (hk : rk x < k) : sIn Ks rk lo hi k (R x) := by
  refine ⟨fun j e => ?_, fun e t ht e2 => ?_⟩
  · obtain ⟨a, -, b, c⟩ := h.r hx.1 e
    exact ⟨a, by omega, by omega⟩
  · exact h.gr hx.1 e ht (by omega) (by omega)
/-- a new leaf to the left of x -/
theorem TrI.addL (h : TrI Ks L R P rk lo hi rt) {x e : Nat} {k : Int} (hx : x ∈ Ks ∧ lo x < k ∧ k < hi x) (hk : k < rk x) (he : ¬ e ∈ Ks) (hl : L x = none) {L' R' P' : OP} {rk' : Nat → Int}
    (e1 : ∀ t, L' t = if t = x then some e else if t = e then none else L t) (e2 : ∀ t, R' t = if t = e then none else R t) (e3 : ∀ t, P' t = if t = e then some x else P t) (e4 : ∀ t, rk' t = if t = e then k else rk t) : TrI (e :: Ks) L' R' P' rk' (fun t => if t = e then lo x else lo t) (fun t => if t = e then rk x else hi t) rt := by
  have g1 : ∀ y, y ∈ Ks → L y = none → lo y < k → k < rk y → y = x := fun y hy h1 h2 h3 => h.gap hy hx.1 h2 (by have := h.rng hy; omega) hx.2.1 hx.2.2 (by rw [if_pos h3]; exact h1) (by rw [if_pos hk]; exact hl)
  have g2 : ∀ y, y ∈ Ks → R y = none → rk y < k → k < hi y → False := fun y hy h1 h2 h3 => by
    have e := h.gap hy hx.1 (by have := h.rng hy; omega) h3 hx.2.1 hx.2.2 (by rw [if_neg (by omega)]; exact h1) (by rw [if_pos hk]; exact hl)
    subst e; omega
  have g3 : ∀ y, y ∈ Ks → rk y ≠ k := fun y hy e => h.gl hx.1 hl hy (by omega) (by omega)
  obtain ⟨⟨a0, a1⟩, a2, a3, a4, a5, a6, a7, a8, a9⟩ := h
  refine ⟨⟨?_, ?_⟩, ?_, ?_, ?_, ?_, ?_, ?_, ?_, ?_⟩ <;> grind (splits := 30)
theorem TrI.addR (h : TrI Ks L R P rk lo hi rt) {x e : Nat} {k : Int} (hx : x ∈ Ks ∧ lo x < k ∧ k < hi x) (hk : rk x < k) (he : ¬ e ∈ Ks) (hl : R x = none) {L' R' P' : OP} {rk' : Nat → Int}
    (e1 : ∀ t, R' t = if t = x then some e else if t = e then none else R t) (e2 : ∀ t, L' t = if t = e then none else L t) (e3 : ∀ t, P' t = if t = e then some x else P t) (e4 : ∀ t, rk' t = if t = e then k else rk t) : TrI (e :: Ks) L' R' P' rk' (fun t => if t = e then rk x else lo t) (fun t => if t = e then hi x else hi t) rt := by
  have g1 : ∀ y, y ∈ Ks → R y = none → rk y < k → k < hi y → y = x := fun y hy h1 h2 h3 => h.gap hy hx.1 (by have := h.rng hy; omega) h3 hx.2.1 hx.2.2 (by rw [if_neg (by omega)]; exact h1) (by rw [if_neg (by omega)]; exact hl)
  have g2 : ∀ y, y ∈ Ks → L y = none → lo y < k → k < rk y → False := fun y hy h1 h2 h3 => by
    have e := h.gap hy hx.1 h2 (by have := h.rng hy; omega) hx.2.1 hx.2.2 (by rw [if_pos h3]; exact h1) (by rw [if_neg (by omega)]; exact hl)
    subst e; omega
  have g3 : ∀ y, y ∈ Ks → rk y ≠ k := fun y hy e => h.gr hx.1 hl hy (by omega) (by omega)
  obtain ⟨⟨a0, a1⟩, a2, a3, a4, a5, a6, a7, a8, a9⟩ := h
  refine ⟨⟨?_, ?_⟩, ?_, ?_, ?_, ?_, ?_, ?_, ?_, ?_⟩ <;> grind (splits := 30)
theorem TrI.add0 {e : Nat} {L' R' P' : OP} {rk' : Nat → Int} (hk : -2147483648 ≤ rk' e ∧ rk' e ≤ 2147483647) (e1 : L' e = none) (e2 : R' e = none) (e3 : P' e = none) : TrI [e] L' R' P' rk' (fun _ => -2147483649) (fun _ => 2147483648) (some e) := by
  refine ⟨⟨?_, ?_⟩, ?_, ?_, ?_, ?_, ?_, ?_, ?_, ?_⟩ <;> grind (splits := 30)
end TREE
/-! what the walks ask of the shape -/
section TREE2
variable {Ks : List Nat} {L R P L' R' P' : OP} {rk lo hi : Nat → Int} {rt rt' : Option Nat}
theorem TrI.wid (h : TrI Ks L R P rk lo hi rt) {x p : Nat} (hx : x ∈ Ks) (hp : P x = some p) : hi x - lo x < hi p - lo p := by
  obtain ⟨h1, h2⟩ := h.p hx hp
  have g1 := h.rng h1
  rcases h2 with e | e
  · have := h.l h1 e; omega
  · have := h.r h1 e; omega
theorem TrI.neP (h : TrI Ks L R P rk lo hi rt) {x p : Nat} (hx : x ∈ Ks) (hp : P x = some p) : x ≠ p := by
  intro e; subst e; have := h.wid hx hp; omega
theorem TrI.neG (h : TrI Ks L R P rk lo hi rt) {x p q : Nat} (hx : x ∈ Ks) (hp : P x = some p) (hq : P p = some q) : x ≠ q := by
  intro e; subst e; have := h.wid hx hp; have := h.wid (h.p hx hp).1 hq; omega
theorem TrI.neL (h : TrI Ks L R P rk lo hi rt) {x j : Nat} (hx : x ∈ Ks) (hj : L x = some j) : x ≠ j := by
  intro e; subst e; exact h.neP hx (h.l hx hj).2.1 rfl
theorem TrI.neR (h : TrI Ks L R P rk lo hi rt) {x j : Nat} (hx : x ∈ Ks) (hj : R x = some j) : x ≠ j := by
  intro e; subst e; exact h.neP hx (h.r hx hj).2.1 rfl
theorem TrI.lr (h : TrI Ks L R P rk lo hi rt) {x j : Nat} (hx : x ∈ Ks) (h1 : L x = some j) (h2 : R x = some j) : False := by
  have := h.l hx h1; have := h.r hx h2; have := h.rng hx; omega
theorem TrI.par (h : TrI Ks L R P rk lo hi rt) {x : Nat} (hx : x ∈ Ks) (hn : some x ≠ rt) : ∃ p, P x = some p ∧ p ∈ Ks := by
  cases e : P x with
  | none => exact absurd (h.pn hx e).symm hn
  | some p => exact ⟨p, rfl, (h.p hx e).1⟩
theorem TrI.rt1 (h : TrI Ks L R P rk lo hi rt) {x : Nat} (hx : x ∈ Ks) : ∃ r, rt = some r ∧ r ∈ Ks := by
  cases e : rt with
  | none => exact absurd hx (h.no e x)
  | some r => exact ⟨r, rfl, (h.root e).1⟩
def wd (lo hi : Nat → Int) (x : Nat) : Nat := (4294967298 - (hi x - lo x)).toNat
def fiM (P : OP) (c lo hi : Nat → Int) (x : Nat) : Nat := match P x with | none => 0 | some p => if c p = 0 then 1 + wd lo hi x else 0
theorem fiM_1 {c : Nat → Int} {x p : Nat} (hp : P x = some p) (hc : c p = 0) : fiM P c lo hi x = 1 + wd lo hi x := by unfold fiM; rw [hp]; simp [hc]
theorem fiM_0 {c : Nat → Int} {x p : Nat} (hp : P x = some p) (hc : c p = 1) : fiM P c lo hi x = 0 := by unfold fiM; rw [hp]; simp [hc]
theorem fiM_le {c : Nat → Int} {x : Nat} : fiM P c lo hi x ≤ 1 + wd lo hi x := by unfold fiM; split; exact Nat.zero_le _; split; exact Nat.le_refl _; exact Nat.zero_le _
theorem TrI.wdl (h : TrI Ks L R P rk lo hi rt) {x p : Nat} (hx : x ∈ Ks) (hp : P x = some p) : wd lo hi p < wd lo hi x := by
  have := h.wid hx hp; have := h.rng hx; have := h.rng (h.p hx hp).1; unfold wd; omega
theorem TrI.fiU (h : TrI Ks L R P rk lo hi rt) {c c' : Nat → Int} {x p q : Nat} (hx : x ∈ Ks) (hp : P x = some p) (hq : P p = some q) (hc : c p = 0) : fiM P c' lo hi q < fiM P c lo hi x := by
  have h1 := h.wdl hx hp; have h2 := h.wdl (h.p hx hp).1 hq; have h3 := fiM_le (P := P) (c := c') (lo := lo) (hi := hi) (x := q); have h4 := fiM_1 (lo := lo) (hi := hi) hp hc; omega
theorem TrI.fiAR (h : TrI Ks L R P rk lo hi rt) {q p x : Nat} (hx : x ∈ Ks) (hp : P x = some p) (hq : P p = some q) (hn : some x ≠ R p) (hR : RotR L R P rt q p L' R' P' rt') : P' x = some p := by
  rw [hR.2.2.1, if_neg (h.neG hx hp hq), if_neg (h.neP hx hp), if_neg (fun e => hn e.symm)]; exact hp
theorem TrI.fiAL (h : TrI Ks L R P rk lo hi rt) {q p x : Nat} (hx : x ∈ Ks) (hp : P x = some p) (hq : P p = some q) (hn : some x ≠ L p) (hR : RotL L R P rt q p L' R' P' rt') : P' x = some p := by
  rw [hR.2.2.1, if_neg (h.neG hx hp hq), if_neg (h.neP hx hp), if_neg (fun e => hn e.symm)]; exact hp
theorem TrI.fiBL (h : TrI Ks L R P rk lo hi rt) {p x : Nat} (hx : x ∈ Ks) (hp : P x = some p) (hr : R p = some x) (hR : RotL L R P rt p x L' R' P' rt') : P' p = some x ∧ P' x = P p ∧ L' x = some p ∧ ∀ q, P p = some q → (L q = some p → L' q = some x) ∧ (L q ≠ some p → R' q = some x) := by
  have hpK := (h.p hx hp).1
  refine ⟨by rw [hR.2.2.1, if_pos rfl], by rw [hR.2.2.1, if_neg (h.neP hx hp), if_pos rfl], by rw [hR.2.1, if_pos rfl], fun q hq => ⟨fun e => ?_, fun e => ?_⟩⟩
  · rw [hR.2.1, if_neg (fun z => h.neG hx hp hq z.symm), if_pos ⟨hq, e⟩]
  · rw [hR.1, if_neg (fun z => h.neP hpK hq z.symm), if_pos ⟨hq, e⟩]
theorem TrI.fiBR (h : TrI Ks L R P rk lo hi rt) {p x : Nat} (hx : x ∈ Ks) (hp : P x = some p) (hr : L p = some x) (hR : RotR L R P rt p x L' R' P' rt') : P' p = some x ∧ P' x = P p ∧ R' x = some p ∧ ∀ q, P p = some q → (R q = some p → R' q = some x) ∧ (R q ≠ some p → L' q = some x) := by
  have hpK := (h.p hx hp).1
  refine ⟨by rw [hR.2.2.1, if_pos rfl], by rw [hR.2.2.1, if_neg (h.neP hx hp), if_pos rfl], by rw [hR.2.1, if_pos rfl], fun q hq => ⟨fun e => ?_, fun e => ?_⟩⟩
  · rw [hR.2.1, if_neg (fun z => h.neG hx hp hq z.symm), if_pos ⟨hq, e⟩]
  · rw [hR.1, if_neg (fun z => h.neP hpK hq z.symm), if_pos ⟨hq, e⟩]
/-- deletion: the brother b is rotated up over p -/
theorem TrI.fdL (h : TrI Ks L R P rk lo hi rt) {p x b : Nat} (hx : x ∈ Ks) (hp : P x = some p) (hl : L p = some x) (hr : R p = some b) (hR : RotL L R P rt p b L' R' P' rt') : P' x = some p ∧ L' p = some x ∧ x ≠ p ∧ x ≠ b := by
  have hpK := (h.p hx hp).1
  have h1 : x ≠ b := fun e => h.lr hpK hl (e ▸ hr)
  refine ⟨?_, ?_, h.neP hx hp, h1⟩
  · rw [hR.2.2.1, if_neg (h.neP hx hp), if_neg h1]; split; rfl; exact hp
  · rw [hR.2.1, if_neg (h.neR hpK hr), if_neg (fun z => h.neP hpK z.1 rfl)]; exact hl
theorem TrI.fdR (h : TrI Ks L R P rk lo hi rt) {p x b : Nat} (hx : x ∈ Ks) (hp : P x = some p) (hl : R p = some x) (hr : L p = some b) (hR : RotR L R P rt p b L' R' P' rt') : P' x = some p ∧ R' p = some x ∧ x ≠ p ∧ x ≠ b := by
  have hpK := (h.p hx hp).1
  have h1 : x ≠ b := fun e => h.lr hpK (e ▸ hr) hl
  refine ⟨?_, ?_, h.neP hx hp, h1⟩
  · rw [hR.2.2.1, if_neg (h.neP hx hp), if_neg h1]; split; rfl; exact hp
  · rw [hR.2.1, if_neg (h.neL hpK hr), if_neg (fun z => h.neP hpK z.1 rfl)]; exact hl
/-- deletion: the brother's inner child j is rotated up over the brother b -/
theorem TrI.feL (h : TrI Ks L R P rk lo hi rt) {p x b j : Nat} (hx : x ∈ Ks) (hp : P x = some p) (hl : L p = some x) (hr : R p = some b) (hj : L b = some j) (hR : RotR L R P rt b j L' R' P' rt') : P' x = some p ∧ L' p = some x ∧ R' p = some j ∧ x ≠ b ∧ x ≠ j := by
  have hpK := (h.p hx hp).1
  have a1 := h.l hpK hl; have a2 := h.r hpK hr; have a3 := h.l a2.1 hj; have a4 := h.rng hx; have a5 := h.rng hpK; have a6 := h.rng a2.1; have a7 := h.rng a3.1
  have h1 : x ≠ b := fun e => by subst e; omega
  have h2 : x ≠ j := fun e => by subst e; omega
  have h3 : R j ≠ some x := fun e => by have := h.r a3.1 e; omega
  have h4 : p ≠ j := fun e => by subst e; omega
  refine ⟨?_, ?_, ?_, h1, h2⟩
  · rw [hR.2.2.1, if_neg h1, if_neg h2, if_neg h3]; exact hp
  · rw [hR.1, if_neg (h.neR hpK hr), if_neg (fun z => z.2 hr)]; exact hl
  · rw [hR.2.1, if_neg h4, if_pos ⟨a2.2.1, hr⟩]
theorem TrI.feR (h : TrI Ks L R P rk lo hi rt) {p x b j : Nat} (hx : x ∈ Ks) (hp : P x = some p) (hl : R p = some x) (hr : L p = some b) (hj : R b = some j) (hR : RotL L R P rt b j L' R' P' rt') : P' x = some p ∧ R' p = some x ∧ L' p = some j ∧ x ≠ b ∧ x ≠ j := by
  have hpK := (h.p hx hp).1
  have a1 := h.r hpK hl; have a2 := h.l hpK hr; have a3 := h.r a2.1 hj; have a4 := h.rng hx; have a5 := h.rng hpK; have a6 := h.rng a2.1; have a7 := h.rng a3.1
  have h1 : x ≠ b := fun e => by subst e; omega
  have h2 : x ≠ j := fun e => by subst e; omega
  have h3 : L j ≠ some x := fun e => by have := h.l a3.1 e; omega
  have h4 : p ≠ j := fun e => by subst e; omega
  refine ⟨?_, ?_, ?_, h1, h2⟩
  · rw [hR.2.2.1, if_neg h1, if_neg h2, if_neg h3]; exact hp
  · rw [hR.1, if_neg (h.neL hpK hr), if_neg (fun z => z.2 hr)]; exact hl
  · rw [hR.2.1, if_neg h4, if_pos ⟨a2.2.1, hr⟩]
/-- a leaf stays one -/
theorem TrI.lfL (h : TrI Ks L R P rk lo hi rt) {x r s : Nat} (hx : x ∈ Ks) (hr : R x = some r) (hR : RotL L R P rt x r L' R' P' rt') (h1 : L s = none) (h2 : R s = none) (h3 : s ≠ r) : L' s = none ∧ R' s = none := by
  have h4 : s ≠ x := fun e => by subst e; rw [hr] at h2; cases h2
  have h5 : P x ≠ some s := fun e => by rcases (h.p hx e).2 with z | z; rw [h1] at z; cases z; rw [h2] at z; cases z
  refine ⟨?_, ?_⟩
  · rw [hR.2.1, if_neg h3, if_neg (fun z => h5 z.1)]; exact h1
  · rw [hR.1, if_neg h4, if_neg (fun z => h5 z.1)]; exact h2
theorem TrI.lfR (h : TrI Ks L R P rk lo hi rt) {x r s : Nat} (hx : x ∈ Ks) (hr : L x = some r) (hR : RotR L R P rt x r L' R' P' rt') (h1 : L s = none) (h2 : R s = none) (h3 : s ≠ r) : L' s = none ∧ R' s = none := by
  have h4 : s ≠ x := fun e => by subst e; rw [hr] at h1; cases h1
  have h5 : P x ≠ some s := fun e => by rcases (h.p hx e).2 with z | z; rw [h1] at z; cases z; rw [h2] at z; cases z
  refine ⟨?_, ?_⟩
  · rw [hR.1, if_neg h4, if_neg (fun z => h5 z.1)]; exact h1
  · rw [hR.2.1, if_neg h3, if_neg (fun z => h5 z.1)]; exact h2
/-- a node with at most one child is taken out -/
theorem TrI.del (h : TrI Ks L R P rk lo hi rt) {s : Nat} (hs : s ∈ Ks) {Kt : List Nat} (hK : ∀ t, t ∈ Kt ↔ t ∈ Ks ∧ t ≠ s) {c : Option Nat} (hc : (L s = none ∧ R s = c) ∨ (R s = none ∧ L s = c))
    (e1 : ∀ t, t ≠ s → L' t = if P s = some t ∧ L t = some s then c else L t) (e2 : ∀ t, t ≠ s → R' t = if P s = some t ∧ L t ≠ some s then c else R t) (e3 : ∀ t, t ≠ s → P' t = if c = some t then P s else P t) (e4 : rt' = if P s = none then c else rt) :
    TrI Kt L' R' P' rk (fun t => if lo t = rk s then lo s else lo t) (fun t => if hi t = rk s then hi s else hi t) rt' := by
  have g1 := h.hiL hs
  have g2 := h.loR hs
  have g3 := h.rng hs
  have g4 : ∀ t, t ∈ Ks → t ≠ s → rk t ≠ rk s := fun t ht hn e => hn (h.inj ht hs e)
  have g5 : P s ≠ some s := fun e => h.neP hs e rfl
  obtain ⟨⟨a0, a1⟩, a2, a3, a4, a5, a6, a7, a8, a9⟩ := h
  refine ⟨⟨?_, ?_⟩, ?_, ?_, ?_, ?_, ?_, ?_, ?_, ?_⟩ <;> grind (splits := 30)
/-- a node takes the number of the next one, which is gone -/
theorem TrI.relab (h : TrI Ks L R P rk lo hi rt) {p : Nat} {k : Int} (hp : p ∈ Ks) (h1 : rk p < k) (h2 : k ≤ 2147483647) (h3 : ∀ t, t ∈ Ks → rk p < rk t → k < rk t) {rk' : Nat → Int} (e : ∀ t, t ≠ p → rk' t = rk t) (ep : rk' p = k) :
    TrI Ks L R P rk' (fun t => if lo t = rk p then k else lo t) (fun t => if hi t = rk p then k else hi t) rt := by
  have g1 := h.hiX
  have g2 := h.loX
  have g4 : ∀ t, t ∈ Ks → t ≠ p → rk t ≠ rk p := fun t ht hn e => hn (h.inj ht hp e)
  obtain ⟨⟨a0, a1⟩, a2, a3, a4, a5, a6, a7, a8, a9⟩ := h
  refine ⟨⟨?_, ?_⟩, ?_, ?_, ?_, ?_, ?_, ?_, ?_, ?_⟩ <;> grind (splits := 30)
end TREE2
/-! neighbours of a number -/
def isHi (Ks : List Nat) (rk : Nat → Int) (k : Int) (o : Option Nat) : Prop := (∀ x, o = some x → x ∈ Ks ∧ k < rk x ∧ ∀ t, t ∈ Ks → k < rk t → rk x ≤ rk t) ∧ (o = none → ∀ t, t ∈ Ks → rk t ≤ k)
def isGe (Ks : List Nat) (rk : Nat → Int) (k : Int) (o : Option Nat) : Prop := (∀ x, o = some x → x ∈ Ks ∧ k ≤ rk x ∧ ∀ t, t ∈ Ks → k ≤ rk t → rk x ≤ rk t) ∧ (o = none → ∀ t, t ∈ Ks → rk t < k)
def isLe (Ks : List Nat) (rk : Nat → Int) (k : Int) (o : Option Nat) : Prop := (∀ x, o = some x → x ∈ Ks ∧ rk x ≤ k ∧ ∀ t, t ∈ Ks → rk t ≤ k → rk t ≤ rk x) ∧ (o = none → ∀ t, t ∈ Ks → k < rk t)
section TREE3
variable {Ks : List Nat} {L R P : OP} {rk lo hi : Nat → Int} {rt : Option Nat}
theorem TrI.hiNone (h : TrI Ks L R P rk lo hi rt) {k : Int} {x c : Nat} (hx : x ∈ Ks) (hR : R x = none) (h1 : rk x ≤ k) (hc : c ∈ Ks) (hcp : P c = none) (hch : hi c = hi x) : isHi Ks rk k none := by
  refine ⟨fun y e => (by cases e), fun _ t ht => ?_⟩
  have g := h.root (h.pn hc hcp)
  have g2 := h.rng ht
  by_cases e : rk t ≤ k
  · exact e
  · exact (h.gr hx hR ht (by omega) (by omega)).elim
theorem TrI.hiSome (h : TrI Ks L R P rk lo hi rt) {k : Int} {x c p : Nat} (hx : x ∈ Ks) (hR : R x = none) (h1 : rk x ≤ k) (h2 : k < hi x) (hc : c ∈ Ks) (hcp : P c = some p) (hch : hi c = hi x) (hn : some c ≠ R p) : isHi Ks rk k (some p) := by
  obtain ⟨hp, e⟩ := h.p hc hcp
  have e2 : L p = some c := e.resolve_right (fun z => hn z.symm)
  have g := h.l hp e2
  refine ⟨fun y e => ?_, fun e => by cases e⟩
  cases e
  refine ⟨hp, by omega, fun t ht h3 => ?_⟩
  by_cases e4 : rk p ≤ rk t
  · exact e4
  · exact (h.gr hx hR ht (by omega) (by omega)).elim
theorem TrI.hiL0 (h : TrI Ks L R P rk lo hi rt) {k : Int} {x : Nat} (hx : x ∈ Ks) (hL : L x = none) (h1 : lo x ≤ k) (h2 : k < rk x) : isHi Ks rk k (some x) := by
  refine ⟨fun y e => ?_, fun e => by cases e⟩
  cases e
  refine ⟨hx, h2, fun t ht h3 => ?_⟩
  by_cases e4 : rk x ≤ rk t
  · exact e4
  · exact (h.gl hx hL ht (by omega) (by omega)).elim
theorem TrI.geNone (h : TrI Ks L R P rk lo hi rt) {k : Int} {x c : Nat} (hx : x ∈ Ks) (hR : R x = none) (h1 : rk x < k) (hc : c ∈ Ks) (hcp : P c = none) (hch : hi c = hi x) : isGe Ks rk k none := by
  refine ⟨fun y e => (by cases e), fun _ t ht => ?_⟩
  have g := h.root (h.pn hc hcp)
  have g2 := h.rng ht
  by_cases e : rk t < k
  · exact e
  · exact (h.gr hx hR ht (by omega) (by omega)).elim
theorem TrI.geSome (h : TrI Ks L R P rk lo hi rt) {k : Int} {x c p : Nat} (hx : x ∈ Ks) (hR : R x = none) (h1 : rk x < k) (h2 : k < hi x) (hc : c ∈ Ks) (hcp : P c = some p) (hch : hi c = hi x) (hn : some c ≠ R p) : isGe Ks rk k (some p) := by
  obtain ⟨hp, e⟩ := h.p hc hcp
  have e2 : L p = some c := e.resolve_right (fun z => hn z.symm)
  have g := h.l hp e2
  refine ⟨fun y e => ?_, fun e => by cases e⟩
  cases e
  refine ⟨hp, by omega, fun t ht h3 => ?_⟩
  by_cases e4 : rk p ≤ rk t
  · exact e4
  · exact (h.gr hx hR ht (by omega) (by omega)).elim
theorem TrI.geL0 (h : TrI Ks L R P rk lo hi rt) {k : Int} {x : Nat} (hx : x ∈ Ks) (hL : L x = none) (h1 : lo x < k) (h2 : k < rk x) : isGe Ks rk k (some x) := by
  refine ⟨fun y e => ?_, fun e => by cases e⟩
  cases e
  refine ⟨hx, by omega, fun t ht h3 => ?_⟩
  by_cases e4 : rk x ≤ rk t
  · exact e4
  · exact (h.gl hx hL ht (by omega) (by omega)).elim
theorem isGe_eq {k : Int} {x : Nat} (hx : x ∈ Ks) (e : rk x = k) : isGe Ks rk k (some x) := ⟨fun y h => by cases h; exact ⟨hx, by omega, fun t ht h3 => by omega⟩, fun e => by cases e⟩
theorem isLe_eq {k : Int} {x : Nat} (hx : x ∈ Ks) (e : rk x = k) : isLe Ks rk k (some x) := ⟨fun y h => by cases h; exact ⟨hx, by omega, fun t ht h3 => by omega⟩, fun e => by cases e⟩
theorem TrI.leNone (h : TrI Ks L R P rk lo hi rt) {k : Int} {x c : Nat} (hx : x ∈ Ks) (hL : L x = none) (h1 : k < rk x) (hc : c ∈ Ks) (hcp : P c = none) (hch : lo c = lo x) : isLe Ks rk k none := by
  refine ⟨fun y e => (by cases e), fun _ t ht => ?_⟩
  have g := h.root (h.pn hc hcp)
  have g2 := h.rng ht
  by_cases e : k < rk t
  · exact e
  · exact (h.gl hx hL ht (by omega) (by omega)).elim
theorem TrI.leSome (h : TrI Ks L R P rk lo hi rt) {k : Int} {x c p : Nat} (hx : x ∈ Ks) (hL : L x = none) (h1 : k < rk x) (h2 : lo x < k) (hc : c ∈ Ks) (hcp : P c = some p) (hch : lo c = lo x) (hn : some c ≠ L p) : isLe Ks rk k (some p) := by
  obtain ⟨hp, e⟩ := h.p hc hcp
  have e2 : R p = some c := e.resolve_left (fun z => hn z.symm)
  have g := h.r hp e2
  refine ⟨fun y e => ?_, fun e => by cases e⟩
  cases e
  refine ⟨hp, by omega, fun t ht h3 => ?_⟩
  by_cases e4 : rk t ≤ rk p
  · exact e4
  · exact (h.gl hx hL ht (by omega) (by omega)).elim
theorem TrI.leR0 (h : TrI Ks L R P rk lo hi rt) {k : Int} {x : Nat} (hx : x ∈ Ks) (hR : R x = none) (h1 : rk x < k) (h2 : k < hi x) : isLe Ks rk k (some x) := by
  refine ⟨fun y e => ?_, fun e => by cases e⟩
  cases e
  refine ⟨hx, by omega, fun t ht h3 => ?_⟩
  by_cases e4 : rk t ≤ rk x
  · exact e4
  · exact (h.gr hx hR ht (by omega) (by omega)).elim
/-- the first one -/
theorem TrI.fst0 (h : TrI Ks L R P rk lo hi rt) {x : Nat} (hx : x ∈ Ks) (h1 : lo x = -2147483649) (hL : L x = none) : isHi Ks rk (-2147483649) (some x) := h.hiL0 hx hL (by omega) (by have := h.rng hx; omega)
theorem TrI.fstN (h : TrI Ks L R P rk lo hi rt) (hr : rt = none) {k : Int} : isHi Ks rk k none := ⟨fun y e => (by cases e), fun _ t ht => absurd ht (h.no hr t)⟩
theorem TrI.one (h : TrI Ks L R P rk lo hi rt) {s t : Nat} (hr : rt = some s) (h1 : L s = none) (h2 : R s = none) (ht : t ∈ Ks) : t = s := by
  have g := h.root hr
  have g2 := h.rng ht
  rcases Int.lt_trichotomy (rk t) (rk s) with c | c | c
  · exact (h.gl g.1 h1 ht (by omega) c).elim
  · exact h.inj ht g.1 c
  · exact (h.gr g.1 h2 ht c (by omega)).elim
/-- behind a deletion -/
theorem TrI.fin {L0 R0 P0 : OP} {lo0 hi0 : Nat → Int} {rt0 : Option Nat} (h0 : TrI Ks L0 R0 P0 rk lo0 hi0 rt0) {Kt : List Nat} {s x : Nat} (h : TrI Kt L R P rk lo hi rt) (hK : ∀ t, t ∈ Kt ↔ t ∈ Ks ∧ t ≠ s) (hx : x ∈ Ks) (hs : s ∈ Ks) {ka va ka2 va2 : Nat → Nat}
    (hrel : (s = x ∧ ka2 = ka ∧ va2 = va) ∨ (s ≠ x ∧ (rk x < rk s ∧ ∀ t, t ∈ Ks → rk x < rk t → rk s ≤ rk t) ∧ (∀ t, ka2 t = if t = x then ka s else ka t) ∧ ∀ t, va2 t = if t = x then va s else va t)) :
    ∃ rk1 lo1 hi1, TrI Kt L R P rk1 lo1 hi1 rt ∧ (∀ t, t ∈ Kt → ∃ u, u ∈ Ks ∧ u ≠ x ∧ rk1 t = rk u ∧ ka2 t = ka u ∧ va2 t = va u) ∧ ∀ u, u ∈ Ks → u ≠ x → ∃ t, t ∈ Kt ∧ rk1 t = rk u ∧ ka2 t = ka u ∧ va2 t = va u := by
  rcases hrel with ⟨rfl, rfl, rfl⟩ | ⟨hne, ⟨h1, h2⟩, h3, h4⟩
  · exact ⟨rk, lo, hi, h, fun t ht => ⟨t, ((hK t).mp ht).1, ((hK t).mp ht).2, rfl, rfl, rfl⟩, fun u hu hn => ⟨u, (hK u).mpr ⟨hu, hn⟩, rfl, rfl, rfl⟩⟩
  · have hrs := h0.rng hs
    have hxK : x ∈ Kt := (hK x).mpr ⟨hx, fun e => hne e.symm⟩
    have hr := h.relab (k := rk s) (rk' := fun t => if t = x then rk s else rk t) hxK h1 (by omega) (fun t ht h5 => by
      have h6 := h2 t ((hK t).mp ht).1 h5
      rcases Int.lt_or_eq_of_le h6 with e | e
      · exact e
      · exact absurd (h0.inj hs ((hK t).mp ht).1 e).symm ((hK t).mp ht).2) (fun t hn => if_neg hn) (if_pos rfl)
    refine ⟨_, _, _, hr, fun t ht => ?_, fun u hu hn => ?_⟩
    · by_cases e : t = x
      · subst e; exact ⟨s, hs, hne, if_pos rfl, by rw [h3, if_pos rfl], by rw [h4, if_pos rfl]⟩
      · exact ⟨t, ((hK t).mp ht).1, e, if_neg e, by rw [h3, if_neg e], by rw [h4, if_neg e]⟩
    · by_cases e : u = s
      · subst e; exact ⟨x, hxK, if_pos rfl, by rw [h3, if_pos rfl], by rw [h4, if_pos rfl]⟩
      · exact ⟨u, (hK u).mpr ⟨hu, e⟩, if_neg hn, by rw [h3, if_neg hn], by rw [h4, if_neg hn]⟩
end TREE3
/-! a map by its nodes -/
def mF (Ks : List Nat) (rk : Nat → Int) (va : Nat → Nat) (f : Int → Option Nat) : Prop := ∀ k v, f k = some v ↔ ∃ t, t ∈ Ks ∧ rk t = k ∧ va t = v
def mU (f : Int → Option Nat) (z : Int) (v : Option Nat) : Int → Option Nat := fun k => if k = z then v else f k
section MF
variable {Ks : List Nat} {L R P : OP} {rk lo hi : Nat → Int} {rt : Option Nat} {va : Nat → Nat} {f : Int → Option Nat}
theorem mF.sm (h : mF Ks rk va f) {t : Nat} (ht : t ∈ Ks) : f (rk t) = some (va t) := (h _ _).mpr ⟨t, ht, rfl, rfl⟩
theorem mF.nn (h : mF Ks rk va f) {k : Int} (hn : ∀ t, t ∈ Ks → rk t ≠ k) : f k = none := by
  cases e : f k with
  | none => rfl
  | some v => obtain ⟨t, h1, h2, -⟩ := (h k v).mp e; exact absurd h2 (hn t h1)
theorem mF.ex (h : mF Ks rk va f) {k : Int} (hn : f k ≠ none) : ∃ t, t ∈ Ks ∧ rk t = k := by
  cases e : f k with
  | none => exact absurd e hn
  | some v => obtain ⟨t, h1, h2, -⟩ := (h k v).mp e; exact ⟨t, h1, h2⟩
theorem mF.upd (h : mF Ks rk va f) (hI : TrI Ks L R P rk lo hi rt) {t v : Nat} (ht : t ∈ Ks) {va' : Nat → Nat} (e : ∀ u, va' u = if u = t then v else va u) : mF Ks rk va' (mU f (rk t) (some v)) := by
  intro k w
  unfold mU
  by_cases c : k = rk t
  · subst c
    rw [if_pos rfl]
    constructor
    · intro z; cases z; exact ⟨t, ht, rfl, by rw [e, if_pos rfl]⟩
    · rintro ⟨u, h1, h2, h3⟩
      have := hI.inj h1 ht h2
      subst this; rw [e, if_pos rfl] at h3; rw [h3]
  · rw [if_neg c, h k w]
    constructor
    · rintro ⟨u, h1, h2, h3⟩; exact ⟨u, h1, h2, by rw [e, if_neg (fun z => c (by rw [← h2, z]))]; exact h3⟩
    · rintro ⟨u, h1, h2, h3⟩; rw [e, if_neg (fun z => c (by rw [← h2, z]))] at h3; exact ⟨u, h1, h2, h3⟩
theorem mF.add (h : mF Ks rk va f) {q v : Nat} {k : Int} (hq : ¬ q ∈ Ks) (hk : ∀ t, t ∈ Ks → rk t ≠ k) {va' : Nat → Nat} {rk' : Nat → Int} (e1 : ∀ u, va' u = if u = q then v else va u) (e2 : ∀ u, rk' u = if u = q then k else rk u) : mF (q :: Ks) rk' va' (mU f k (some v)) := by
  have hne : ∀ u, u ∈ Ks → u ≠ q := fun u hu z => hq (z ▸ hu)
  intro j w
  unfold mU
  by_cases c : j = k
  · subst c
    rw [if_pos rfl]
    constructor
    · intro z; cases z; exact ⟨q, List.mem_cons_self .., by rw [e2, if_pos rfl], by rw [e1, if_pos rfl]⟩
    · rintro ⟨u, h1, h2, h3⟩
      rcases List.mem_cons.mp h1 with z | z
      · subst z; rw [e1, if_pos rfl] at h3; rw [h3]
      · rw [e2, if_neg (hne u z)] at h2; exact absurd h2 (hk u z)
  · rw [if_neg c, h j w]
    constructor
    · rintro ⟨u, h1, h2, h3⟩; exact ⟨u, List.mem_cons_of_mem _ h1, by rw [e2, if_neg (hne u h1)]; exact h2, by rw [e1, if_neg (hne u h1)]; exact h3⟩
    · rintro ⟨u, h1, h2, h3⟩
      rcases List.mem_cons.mp h1 with z | z
      · subst z; rw [e2, if_pos rfl] at h2; exact absurd h2.symm c
      · rw [e2, if_neg (hne u z)] at h2; rw [e1, if_neg (hne u z)] at h3; exact ⟨u, z, h2, h3⟩
theorem mF.del (h : mF Ks rk va f) (hI : TrI Ks L R P rk lo hi rt) {x : Nat} (hx : x ∈ Ks) {Kt : List Nat} {rk1 : Nat → Int} {va1 ka ka1 : Nat → Nat} (h1 : ∀ t, t ∈ Kt → ∃ u, u ∈ Ks ∧ u ≠ x ∧ rk1 t = rk u ∧ ka1 t = ka u ∧ va1 t = va u) (h2 : ∀ u, u ∈ Ks → u ≠ x → ∃ t, t ∈ Kt ∧ rk1 t = rk u ∧ ka1 t = ka u ∧ va1 t = va u) : mF Kt rk1 va1 (mU f (rk x) none) := by
  intro k w
  unfold mU
  by_cases c : k = rk x
  · rw [if_pos c]
    constructor
    · intro z; cases z
    · rintro ⟨t, h3, h4, h5⟩
      obtain ⟨u, a, b, e, -⟩ := h1 t h3
      exact absurd (hI.inj a hx (by rw [← e, h4, c])) b
  · rw [if_neg c, h k w]
    constructor
    · rintro ⟨u, h3, h4, h5⟩
      obtain ⟨t, a, b, -, e⟩ := h2 u h3 (fun z => c (by rw [← h4, z]))
      exact ⟨t, a, by rw [b]; exact h4, by rw [e]; exact h5⟩
    · rintro ⟨t, h3, h4, h5⟩
      obtain ⟨u, a, b, e, -, e2⟩ := h1 t h3
      exact ⟨u, a, by rw [← e]; exact h4, by rw [← e2]; exact h5⟩
end MF
/-- the next key of a map -/
def hiK (f : Int → Option Nat) (z : Int) (o : Option Nat) (y : Int) : Prop := (o = none ∧ ∀ k, z < k → f k = none) ∨ ((∃ a, o = some a) ∧ z < y ∧ f y ≠ none ∧ ∀ k, z < k → k < y → f k = none)
def geK (f : Int → Option Nat) (z : Int) (o : Option Nat) (y : Int) : Prop := (o = none ∧ ∀ k, z ≤ k → f k = none) ∨ ((∃ a, o = some a) ∧ z ≤ y ∧ f y ≠ none ∧ ∀ k, z ≤ k → k < y → f k = none)
def leK (f : Int → Option Nat) (z : Int) (o : Option Nat) (y : Int) : Prop := (o = none ∧ ∀ k, k ≤ z → f k = none) ∨ ((∃ a, o = some a) ∧ y ≤ z ∧ f y ≠ none ∧ ∀ k, y < k → k ≤ z → f k = none)
section NB
variable {Ks : List Nat} {rk : Nat → Int} {va ka : Nat → Nat} {f : Int → Option Nat} {z : Int} {o : Option Nat}
def rkO (rk : Nat → Int) (o : Option Nat) : Int := match o with | none => 0 | some t => rk t
theorem mF.hi (h : mF Ks rk va f) (hn : isHi Ks rk z o) : hiK f z (o.map ka) (rkO rk o) := by
  cases o with
  | none => exact Or.inl ⟨rfl, fun k hk => h.nn fun t ht e => by have := hn.2 rfl t ht; omega⟩
  | some t =>
    obtain ⟨a, b, c⟩ := hn.1 t rfl
    refine Or.inr ⟨⟨_, rfl⟩, b, by show f (rk t) ≠ none; rw [h.sm a]; simp, fun k h1 h2 => h.nn fun u hu e => ?_⟩
    have h2 : k < rk t := h2
    have := c u hu (by omega); omega
theorem mF.ge (h : mF Ks rk va f) (hn : isGe Ks rk z o) : geK f z (o.map ka) (rkO rk o) := by
  cases o with
  | none => exact Or.inl ⟨rfl, fun k hk => h.nn fun t ht e => by have := hn.2 rfl t ht; omega⟩
  | some t =>
    obtain ⟨a, b, c⟩ := hn.1 t rfl
    refine Or.inr ⟨⟨_, rfl⟩, b, by show f (rk t) ≠ none; rw [h.sm a]; simp, fun k h1 h2 => h.nn fun u hu e => ?_⟩
    have h2 : k < rk t := h2
    have := c u hu (by omega); omega
theorem mF.le (h : mF Ks rk va f) (hn : isLe Ks rk z o) : leK f z (o.map ka) (rkO rk o) := by
  cases o with
  | none => exact Or.inl ⟨rfl, fun k hk => h.nn fun t ht e => by have := hn.2 rfl t ht; omega⟩
  | some t =>
    obtain ⟨a, b, c⟩ := hn.1 t rfl
    refine Or.inr ⟨⟨_, rfl⟩, b, by show f (rk t) ≠ none; rw [h.sm a]; simp, fun k h1 h2 => h.nn fun u hu e => ?_⟩
    have h1 : rk t < k := h1
    have := c u hu (by omega); omega
end NB
/-- how wide a place of a search is -/
def gM (lo hi : Nat → Int) (o : Option Nat) : Nat := match o with | none => 0 | some t => (hi t - lo t).toNat
theorem TrI.gML {Ks : List Nat} {L R P : OP} {rk lo hi : Nat → Int} {rt : Option Nat} (h : TrI Ks L R P rk lo hi rt) {x : Nat} (hx : x ∈ Ks) : gM lo hi (L x) < gM lo hi (some x) := by
  have g := h.rng hx
  cases e : L x with
  | none => show 0 < (hi x - lo x).toNat; omega
  | some j => have g2 := h.l hx e; have g3 := h.rng g2.1; show (hi j - lo j).toNat < (hi x - lo x).toNat; omega
theorem TrI.gMR {Ks : List Nat} {L R P : OP} {rk lo hi : Nat → Int} {rt : Option Nat} (h : TrI Ks L R P rk lo hi rt) {x : Nat} (hx : x ∈ Ks) : gM lo hi (R x) < gM lo hi (some x) := by
  have g := h.rng hx
  cases e : R x with
  | none => show 0 < (hi x - lo x).toNat; omega
  | some j => have g2 := h.r hx e; have g3 := h.rng g2.1; show (hi j - lo j).toNat < (hi x - lo x).toNat; omega
