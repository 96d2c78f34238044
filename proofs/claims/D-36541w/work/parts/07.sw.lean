/-! the machine's state as a world, a room left, a place in the code, locals, stack -/
abbrev GG : Type := va_G × (Nat → ClassId) × State × Addr
abbrev vwCl : List vw_C := [(RX1, TX1, 14), (RX2, TX2, 4), (RX3, TX3, 2), (RX4, TX4, 50), (RX5, TX5, 6), (RX6, TX6, 2), (RX7, TX7, 3), (RX8, TX8, 4), (RX9, TX9, 3), (RX10, TX10, 3), (RJ1, TJ1, 4), (RJ2, TJ2, 4), (RJ6, TJ6, 3), (RJ8, TJ8, 5), (RJ10, TJ10, 9), (RJ11, TJ11, 3), (RJ19, TJ19, 6), (RJ22, TJ22, 1), (RJ30, TJ30, 2), (RJ35, TJ35, 3), (RJ41, TJ41, 6), (RJ43, TJ43, 4), (RJ45, TJ45, 1), (RJ49, TJ49, 4)]
abbrev tysG (dA : Nat → ClassId) : List (ClassId × FieldType) := [(dA 0, .int), (dA 1, .byte), (dA 2, .char), (dA 3, .long), (dA 4, .boolean), (dA 5, .object "java/lang/Object"), (dA 6, .object "java/math/BigDecimal"), (dA 7, .object "Tillhouse$Currency"), (dA 8, .object "Tillhouse$Kind"), (dA 9, .object "java/math/BigInteger")]
def gS (g : GG) : State := g.2.2.1
def gB (g : GG) : Nat := (gS g).heap.size
def ST (g : GG) (l : Launch) : Prop := va_K g.1 vwCl (tysG g.2.1) (gS g) ∧ (∀ w ∈ lw_tbl, w.before #[Value.ref g.2.2.2] (gS g) = true) ∧ (Jvm.Cond.and given_1 narrow_1).before #[Value.ref g.2.2.2] (gS g) = true ∧ l.stackTraces = false
def GX (g : GG) (l : Launch) (U : State) : Prop := ST g l ∧ (gS g).WarmedH U.vm ∧ gB g ≤ U.heap.size ∧ ∀ q : Nat, q < gB g → U.heap[q]? = (gS g).heap[q]?
theorem GX.K {g : GG} {l : Launch} {U : State} (h : GX g l U) : va_K g.1 vwCl (tysG g.2.1) U := va_K.moved h.2.1.alike h.1.1
/-- cells -/
def obC (g : GG) (ci : Nat) (fs : List Value) (c : Cell) : Prop := ∃ r : vw_C, vwCl[ci]? = some r ∧ c.cls = g.1.1 ci ∧ c.vm = .none ∧ ∀ k, k < r.2.2 → c.slots[g.1.2 ci k]? = some (vp_V fs k)
def ob (g : GG) (x ci : Nat) (fs : List Value) : HP := fun h => ∃ c : Cell, h = ph_1 x c ∧ obC g ci fs c
def ar (g : GG) (k x n : Nat) (f : Nat → Value) : HP := fun h => h = ph_1 x (arrV (g.2.1 k) n f)
def aI (g : GG) (k x n : Nat) (d : Nat → Int) : HP := ar g k x n (fun j => .int (jI (d j)))
def aL (g : GG) (x n : Nat) (d : Nat → Int) : HP := ar g 3 x n (fun j => .long (jL (d j)))
def aQ (g : GG) (k x n : Nat) (o : Nat → Option Nat) : HP := ar g k x n (fun j => va_rf (o j))
/-- what a method may change -/
def ctA (h : PH) (sz : Nat) : Nat → Prop := fun q => h q ≠ none ∨ sz ≤ q
def ctQ (h : PH) (sz : Nat) (Po : Option Value → List HP → Prop) : Array Value → State → Outcome → State → Prop := fun _ st o t =>
  (∃ (v : Option Value) (Ws : List HP) (h' : PH), o = .returned v ∧ Po v Ws ∧ sl Ws h' ∧ ph_S h' t.heap ∧ ∀ q, h' q ≠ none → ctA h sz q) ∧ va_F (ctA h sz) st t
def ctX (h : PH) (sz : Nat) (Px : String → List HP → Prop) : String → State → State → Prop := fun E st t =>
  (∃ (Ws : List HP) (h' : PH), Px E Ws ∧ sl Ws h' ∧ ph_S h' t.heap ∧ ∀ q, h' q ≠ none → ctA h sz q) ∧ va_F (ctA h sz) st t
/-- a method's contract: arguments, the world before, the answer and the world behind, the class thrown and the world behind -/
def Ct (g : GG) (l : Launch) (y : MethodName) (ws : List Cond) (fr lo mc ms : Nat) (As : List Value) (Ps : List HP) (Po : Option Value → List HP → Prop) (Px : String → List HP → Prop) : Prop :=
  ∀ (h : PH) (sz : Nat), sl Ps h → (∀ q, h q ≠ none → gB g ≤ q) →
    vx_Met l y ws ({ frames := fr, cells := mc, slots := ms, locals := lo } : Room) (va_Pc As (fun U => U.heap.size = sz ∧ ph_S h U.heap ∧ GX g l U)) (ctQ h sz Po) (ctX h sz Px) mc ms (ctA h sz)
def nox : String → List HP → Prop := fun _ _ => False
abbrev EX : Type := GG × Program × Launch × Env × State × MethodId × Array Value × List Frame × Method × Code × PH × (Option Value → List HP → Prop) × (String → List HP → Prop) × (Nat × Nat × Nat × Nat × Nat)
abbrev xg (x : EX) : GG := x.1
abbrev xp (x : EX) : Program := x.2.1
abbrev xl (x : EX) : Launch := x.2.2.1
abbrev xe (x : EX) : Env := x.2.2.2.1
abbrev xs (x : EX) : State := x.2.2.2.2.1
abbrev xm (x : EX) : MethodId := x.2.2.2.2.2.1
abbrev xa (x : EX) : Array Value := x.2.2.2.2.2.2.1
abbrev xb (x : EX) : List Frame := x.2.2.2.2.2.2.2.1
abbrev xt (x : EX) : Method := x.2.2.2.2.2.2.2.2.1
abbrev xc (x : EX) : Code := x.2.2.2.2.2.2.2.2.2.1
abbrev xh (x : EX) : PH := x.2.2.2.2.2.2.2.2.2.2.1
abbrev xPo (x : EX) : Option Value → List HP → Prop := x.2.2.2.2.2.2.2.2.2.2.2.1
abbrev xPx (x : EX) : String → List HP → Prop := x.2.2.2.2.2.2.2.2.2.2.2.2.1
abbrev xn (x : EX) : Nat × Nat × Nat × Nat × Nat := x.2.2.2.2.2.2.2.2.2.2.2.2.2
abbrev xR (x : EX) : Room := { frames := (xn x).1, cells := (xn x).2.2.1, slots := (xn x).2.2.2.1, locals := (xn x).2.1 }
abbrev xA (x : EX) : Nat → Prop := ctA (xh x) (xs x).heap.size
abbrev xQ (x : EX) : State → Prop := vx_MQ (xb x) (ctQ (xh x) (xs x).heap.size (xPo x)) (ctX (xh x) (xs x).heap.size (xPx x)) (xa x) (xs x) (xn x).2.2.1 (xn x).2.2.2.1 (xA x)
abbrev xW (x : EX) (H : Heap) (locs : List Loc) (uc us : Nat) (pc : Nat) (ls : Array Slot) (st : List Value) : Prop :=
  W (xp x) (xl x) (xe x) (xR x) (xs x) (xm x) (xa x) (xb x) (xt x) (xc x) H locs uc us (xQ x) (F0 (xm x) pc ls st)
/-- the world holds here -/
def xI (x : EX) (Ps : List HP) (bc bs : Nat) (H : Heap) (locs : List Loc) (h : PH) (uc us : Nat) : Prop :=
  sl Ps h ∧ ph_S h H ∧ (∀ q, h q ≠ none → xA x q) ∧ va_S (xA x) (xs x).heap H locs ∧ uc + bc ≤ (xn x).2.2.1 ∧ us + bs ≤ (xn x).2.2.2.1
def SW (x : EX) (Ps : List HP) (bc bs pc : Nat) (L : List (Nat × Value)) (st : List Value) : Prop :=
  ∀ (H : Heap) (locs : List Loc) (h : PH) (uc us : Nat) (ls : Array Slot), xI x Ps bc bs H locs h uc us → lv_has ls (xn x).2.2.2.2 L → xW x H locs uc us pc ls st
/-- an exception of class E is under way over the frame -/
def SX (x : EX) (Ps : List HP) (bc bs pc : Nat) (L : List (Nat × Value)) (E : String) : Prop :=
  ∀ (H : Heap) (locs : List Loc) (h : PH) (uc us : Nat) (ls : Array Slot) (rest : List Value) (q : Addr) (ce : Cell), xI x Ps bc bs H locs h uc us → lv_has ls (xn x).2.2.2.2 L → H[q]? = some ce → ce.vm = .none → (xs x).vm.findClass E = some ce.cls →
    vx_W (xp x) (xl x) (xe x) (xR x) (xs x) (xm x) (xa x) (xb x) (xt x) (xc x) H locs uc us (xQ x) (F0 (xm x) pc ls rest) q
/-- what holds all through a method's run -/
def Fx (x : EX) (y : MethodName) (cc : ByteArray) (ret : Option FieldType) (nL fr lo : Nat) (tab : List ExceptionTableEntry) : Prop :=
  (xp x).tables.exec = Jvm.exec ∧ (xc x).code = cc ∧ (xc x).maxLocals = nL ∧ (xs x).vm.findClass y.cls = some (xm x).cls ∧ (∀ w ∈ lw_all, w.before (xa x) (xs x) = true) ∧ (xt x).sig.returnType = ret ∧ (xt x).locks = false ∧ (xt x).name = y.name ∧
  GX (xg x) (xl x) (xs x) ∧ (∀ q, xh x q ≠ none → gB (xg x) ≤ q) ∧ (xn x).1 = fr ∧ (xn x).2.1 = lo ∧ (xn x).2.2.2.2 = nL ∧ (xc x).exceptionTable.toList = tab
section FX
variable {x : EX} {y : MethodName} {cc : ByteArray} {ret : Option FieldType} {nL fr lo : Nat} {tab : List ExceptionTableEntry}
theorem Fx.exec (F : Fx x y cc ret nL fr lo tab) : (xp x).tables.exec = Jvm.exec := F.1
theorem Fx.code (F : Fx x y cc ret nL fr lo tab) : (xc x).code = cc := F.2.1
theorem Fx.mL (F : Fx x y cc ret nL fr lo tab) : (xc x).maxLocals = nL := F.2.2.1
theorem Fx.own (F : Fx x y cc ret nL fr lo tab) : (xs x).vm.findClass y.cls = some (xm x).cls := F.2.2.2.1
theorem Fx.wd (F : Fx x y cc ret nL fr lo tab) : ∀ w ∈ lw_all, w.before (xa x) (xs x) = true := F.2.2.2.2.1
theorem Fx.rt (F : Fx x y cc ret nL fr lo tab) : (xt x).sig.returnType = ret := F.2.2.2.2.2.1
theorem Fx.lk (F : Fx x y cc ret nL fr lo tab) : (xt x).locks = false := F.2.2.2.2.2.2.1
theorem Fx.nm (F : Fx x y cc ret nL fr lo tab) : (xt x).name = y.name := F.2.2.2.2.2.2.2.1
theorem Fx.gx (F : Fx x y cc ret nL fr lo tab) : GX (xg x) (xl x) (xs x) := F.2.2.2.2.2.2.2.2.1
theorem Fx.ow (F : Fx x y cc ret nL fr lo tab) : ∀ q, xh x q ≠ none → gB (xg x) ≤ q := F.2.2.2.2.2.2.2.2.2.1
theorem Fx.fR (F : Fx x y cc ret nL fr lo tab) : (xn x).1 = fr := F.2.2.2.2.2.2.2.2.2.2.1
theorem Fx.lO (F : Fx x y cc ret nL fr lo tab) : (xn x).2.1 = lo := F.2.2.2.2.2.2.2.2.2.2.2.1
theorem Fx.nl (F : Fx x y cc ret nL fr lo tab) : (xn x).2.2.2.2 = nL := F.2.2.2.2.2.2.2.2.2.2.2.2.1
theorem Fx.tb (F : Fx x y cc ret nL fr lo tab) : (xc x).exceptionTable.toList = tab := F.2.2.2.2.2.2.2.2.2.2.2.2.2
theorem Fx.K (F : Fx x y cc ret nL fr lo tab) : va_K (xg x).1 vwCl (tysG (xg x).2.1) (xs x) := F.gx.K
theorem Fx.A1 (_ : Fx x y cc ret nL fr lo tab) : ∀ q, (xs x).heap.size ≤ q → xA x q := fun _ h => Or.inr h
theorem Fx.A0 (F : Fx x y cc ret nL fr lo tab) : ∀ q, xA x q → gB (xg x) ≤ q := fun q h => h.elim (F.ow q) (fun k => Nat.le_trans F.gx.2.2.1 k)
end FX
theorem ct_blind {g : GG} {l : Launch} {As : List Value} {h : PH} {sz : Nat} : FrameBlind (va_Pc As (fun U => U.heap.size = sz ∧ ph_S h U.heap ∧ GX g l U)) := fun _ _ _ _ q => q
/-- a contract by the walk of its body (no handlers) -/
theorem Ct.of {g : GG} {l : Launch} {y : MethodName} {ws' : List Cond} {cc : ByteArray} {nL : Nat} {ret : Option FieldType} {fr lo mc ms : Nat} {As : List Value} {Ps : List HP} {Po : Option Value → List HP → Prop} {Px : String → List HP → Prop}
    (hy : plainName y.cls = true) (hw : ws' = ws_ y cc nL ret) (hsz : (lg_sl As).length ≤ nL)
    (body : ∀ x : EX, xg x = g → xl x = l → xPo x = Po → xPx x = Px → (xn x).2.2.1 = mc → (xn x).2.2.2.1 = ms → Fx x y cc ret nL fr lo [] → SW x Ps mc ms 0 (lv_args 0 As) []) : Ct g l y ws' fr lo mc ms As Ps Po Px := by
  subst hw
  intro h sz hs hB
  refine vx_ofW (cc := cc) (maxL := nL) (ret := ret) hy rfl ?_
  intro p e s m args below meth c s₁ B hml htab hv
  obtain ⟨rfl, hz, hS, hG⟩ := hv
  subst hz
  have hts := atoms_spec (ws := ws_ y cc nL ret) B.pre
  have hts : ∀ w ∈ lw_all, w.before As.toArray s = true := fun w h => hts w (List.mem_cons_of_mem _ h)
  rw [lg_entry_eq]
  have hl := lv_entry As hsz
  have F : Fx (g, p, l, e, s, m, As.toArray, below, meth, c, h, Po, Px, fr, lo, mc, ms, nL) y cc ret nL fr lo [] :=
    ⟨B.exec, B.bytes, hml, findClass_of_methodNamed B.named, hts, B.returns, B.notSynchronized, (name_of_methodNamed B.named B.method).1, hG, hB, rfl, rfl, rfl, by
      cases e : c.exceptionTable.toList with
      | nil => rfl
      | cons a b => exact (htab a (by rw [e]; exact List.mem_cons_self)).elim⟩
  exact body (g, p, l, e, s, m, As.toArray, below, meth, c, h, Po, Px, fr, lo, mc, ms, nL) rfl rfl rfl rfl rfl rfl F s.heap [] h 0 0 _ ⟨hs, hS, fun q hq => Or.inl hq, va_S.rf, by show 0 + mc ≤ mc; omega, by show 0 + ms ≤ ms; omega⟩ hl
