/-! ends, calls, exceptions over SW -/
section CALL
variable {x : EX} {y : MethodName} {cc : ByteArray} {ret : Option FieldType} {nL fr lo : Nat} {tab : List ExceptionTableEntry} {Ps : List HP} {bc bs pc n : Nat} {L : List (Nat × Value)} {st : List Value}
theorem sw_iret (F : Fx x y cc ret nL fr lo tab) {v : Int} (ty : FieldType) (hr : ret = some ty) (hn : narrow ty (.int (jI v)) = .int (jI v)) (hd : decode cc pc = .ok (.ireturn, 1)) (hpo : xPo x (some (.int (jI v))) Ps) : SW x Ps bc bs pc L [.int (jI v)] := by
  intro H locs h uc us ls I hl
  obtain ⟨hs, hS, hA, hV, i1, i2⟩ := I
  exact vx_ret (W.widen (k := (xn x).2.2.1) (n := (xn x).2.2.2.1) (by omega) (by omega) (W.zret F.exec F.code (F.rt.trans hr) hn (fun t ht hW => ⟨⟨_, Ps, h, rfl, hpo, hs, by rw [ht]; exact hS, hA⟩, hV.F ht⟩) hV.2.2 hd F.lk))
theorem sw_lret (F : Fx x y cc ret nL fr lo tab) {v : Int} (hr : ret = some .long) (hd : decode cc pc = .ok (.lreturn, 1)) (hpo : xPo x (some (.long (jL v))) Ps) : SW x Ps bc bs pc L [.long (jL v)] := by
  intro H locs h uc us ls I hl
  obtain ⟨hs, hS, hA, hV, i1, i2⟩ := I
  exact vx_ret (W.widen (k := (xn x).2.2.1) (n := (xn x).2.2.2.1) (by omega) (by omega) (W.lret F.exec F.code (F.rt.trans hr) (fun t ht hW => ⟨⟨_, Ps, h, rfl, hpo, hs, by rw [ht]; exact hS, hA⟩, hV.F ht⟩) hV.2.2 hd F.lk))
theorem sw_aret (F : Fx x y cc ret nL fr lo tab) {v : Value} (o : Option Nat) (ty : FieldType) (hv : v = va_rf o) (hr : ret = some ty) (hrt : (∃ n, ty = .object n) ∨ ∃ t, ty = .array t) (hd : decode cc pc = .ok (.areturn, 1)) (hpo : xPo x (some v) Ps) : SW x Ps bc bs pc L [v] := by
  intro H locs h uc us ls I hl
  obtain ⟨hs, hS, hA, hV, i1, i2⟩ := I
  subst hv
  exact vx_ret (W.widen (k := (xn x).2.2.1) (n := (xn x).2.2.2.1) (by omega) (by omega) (W.aret F.exec F.code (F.rt.trans hr) hrt (by cases o with
    | none => exact Or.inl rfl
    | some a => exact Or.inr ⟨a, rfl⟩) (fun t ht hW => ⟨⟨_, Ps, h, rfl, hpo, hs, by rw [ht]; exact hS, hA⟩, hV.F ht⟩) hV.2.2 hd F.lk))
theorem sw_vret (F : Fx x y cc ret nL fr lo tab) (hr : ret = none) (hd : decode cc pc = .ok (.return_, 1)) (hpo : xPo x none Ps) : SW x Ps bc bs pc L [] := by
  intro H locs h uc us ls I hl
  obtain ⟨hs, hS, hA, hV, i1, i2⟩ := I
  exact vx_ret (W.widen (k := (xn x).2.2.1) (n := (xn x).2.2.2.1) (by omega) (by omega) (W.vret F.exec F.code (F.rt.trans hr) (fun t ht hW => ⟨⟨_, Ps, h, rfl, hpo, hs, by rw [ht]; exact hS, hA⟩, hV.F ht⟩) hV.2.2 hd F.lk))
/-- less room is asked -/
theorem sw_room {bc2 bs2 : Nat} (hb : bc2 ≤ bc ∧ bs2 ≤ bs) (k : SW x Ps bc2 bs2 pc L st) : SW x Ps bc bs pc L st := fun H locs h uc us ls I hl => k H locs h uc us ls ⟨I.1, I.2.1, I.2.2.1, I.2.2.2.1, by have := I.2.2.2.2.1; omega, by have := I.2.2.2.2.2; omega⟩ hl
/-- the world in another order -/
theorem sw_perm (is : List Nat) (hp : is.isPerm (List.range Ps.length) = true) (Qs : List HP) (hq : sl_pick Ps is = Qs) (k : SW x Qs bc bs pc L st) : SW x Ps bc bs pc L st := fun H locs h uc us ls I hl => k H locs h uc us ls ⟨by subst hq; exact sl_perm (sl_pick_perm is hp) _ I.1, I.2⟩ hl
/-- the world's meaning changed, cell for cell -/
theorem sw_imp (Qs : List HP) (hq : ∀ h, sl Ps h → sl Qs h) (k : SW x Qs bc bs pc L st) : SW x Ps bc bs pc L st := fun H locs h uc us ls I hl => k H locs h uc us ls ⟨hq h I.1, I.2⟩ hl
/-- a fact that the world gives -/
theorem sw_fact {φ : Prop} (hq : ∀ h, sl Ps h → φ) (k : φ → SW x Ps bc bs pc L st) : SW x Ps bc bs pc L st := fun H locs h uc us ls I hl => k (hq h I.1) H locs h uc us ls I hl
/-- fewer locals are known -/
theorem sw_loc (ks : List Nat) {L2 : List (Nat × Value)} (hL : lv_pick L ks = L2) (k : SW x Ps bc bs pc L2 st) : SW x Ps bc bs pc L st := fun H locs h uc us ls I hl => k H locs h uc us ls I (lv_sub hl ks hL)
theorem xI_gx (F : Fx x y cc ret nL fr lo tab) {H : Heap} {locs : List Loc} {h : PH} {uc us : Nat} (I : xI x Ps bc bs H locs h uc us) {U : State} (hU : U.heap = H) (hW : (xs x).WarmedH U.vm) : GX (xg x) (xl x) U := by
  obtain ⟨g1, g2, g3, g4⟩ := F.gx
  refine ⟨g1, State.WarmedH.trans g2 hW, by rw [hU]; exact Nat.le_trans g3 I.2.2.2.1.1, fun q hq => ?_⟩
  rw [hU, ← g4 q hq]
  exact I.2.2.2.1.2.1 q (Nat.lt_of_lt_of_le hq g3) (fun hA => absurd (F.A0 q hA) (by omega))
theorem xI_back {H H1 : Heap} {locs LL : List Loc} {a b h' : PH} {uc us mc2 ms2 bc2 bs2 : Nat} {Rs Ws : List HP} (I : xI x Ps bc bs H locs (ph_U a b) uc us) (hD : ph_D a b) (hR : sl Rs b) (hW : sl Ws h') (hS' : ph_S h' H1) (hdom : ∀ q, h' q ≠ none → ctA a H.size q)
    (hsz : H.size ≤ H1.size) (hfr : ∀ q : Nat, q < H.size → ¬ ctA a H.size q → H1[q]? = H[q]?) (hLL : ∀ z ∈ LL, ctA a H.size z.base) (hb : mc2 + bc2 ≤ bc ∧ ms2 + bs2 ≤ bs) : xI x (Ws ++ Rs) bc2 bs2 H1 (locs ++ LL) (ph_U h' b) (uc + mc2) (us + ms2) := by
  obtain ⟨hs, hS, hA, hV, i1, i2⟩ := I
  have hbS := ph_S_r hD hS
  have hAA : ∀ q, ctA a H.size q → xA x q := fun q hq => hq.elim (fun e => hA q (fun z => e (ph_U_none.mp z).1)) (fun e => Or.inr (Nat.le_trans hV.1 e))
  have hDb : ph_D h' b := fun q => by
    cases e : b q with
    | none => exact Or.inr rfl
    | some c =>
      refine Or.inl (Decidable.byContradiction fun z => ?_)
      have hlt : q < H.size := ph_S_lt hbS (q := q) (by rw [e]; simp)
      rcases hdom q z with k | k
      · rcases hD q with k2 | k2
        · exact k k2
        · rw [e] at k2; cases k2
      · omega
  refine ⟨(sl_app _).mpr ⟨h', b, hDb, rfl, hW, hR⟩, ph_S_U hS' (ph_S_keep hbS fun q hq => hfr q (ph_S_lt hbS hq) fun k => ?_), fun q hq => ?_, ⟨Nat.le_trans hV.1 hsz, fun q h1 h2 => ?_, fun z hz => ?_⟩, by omega, by omega⟩
  · rcases k with k | k
    · exact k ((hD q).resolve_right hq)
    · have := ph_S_lt hbS hq; omega
  · by_cases e : h' q = none
    · exact hA q (fun z => hq (ph_U_none.mpr ⟨e, (ph_U_none.mp z).2⟩))
    · exact hAA q (hdom q e)
  · rw [hfr q (Nat.lt_of_lt_of_le h1 hV.1) (fun k => h2 (hAA q k))]
    exact hV.2.1 q h1 h2
  · rcases List.mem_append.mp hz with k | k
    · exact hV.2.2 z k
    · exact hAA _ (hLL z k)
/-- the receiver stands in the heap -/
def Rcv (x : EX) (Ps : List HP) (bc bs : Nat) (b : Nat) (C : String) : Prop := ∀ (H : Heap) (locs : List Loc) (h : PH) (uc us : Nat), xI x Ps bc bs H locs h uc us → ∃ cell : Cell, H[b]? = some cell ∧ cell.vm.isStatics = false ∧ (xs x).vm.findClass C = some cell.cls
theorem rcv_ob (F : Fx x y cc ret nL fr lo tab) (i : Nat) {b ci : Nat} {fs : List Value} {C : String} {T : u_T} {N : Nat} (hat : Ps[i]? = some (ob (xg x) b ci fs)) (hc : vwCl[ci]? = some (C, T, N)) : Rcv x Ps bc bs b C := fun _ _ _ _ _ I => va_recv F.K (ob_P hat I.1 I.2.1) (q0 := 0) hc rfl
/-- the core of a call -/
theorem sw_go (F : Fx x y cc ret nL fr lo tab) {y2 : MethodName} {ws2 : List Cond} {fr2 lo2 mc2 ms2 : Nat} {As : List Value} {Ps2 : List HP} {Po2 : Option Value → List HP → Prop} {Px2 : String → List HP → Prop} (C : Ct (xg x) (xl x) y2 ws2 fr2 lo2 mc2 ms2 As Ps2 Po2 Px2)
    (is : List Nat) (hp : is.isPerm (List.range Ps.length) = true) (Rs : List HP) (hpk : sl_pick Ps is = Ps2 ++ Rs) {bc2 bs2 : Nat} (hb : mc2 + bc2 ≤ bc ∧ ms2 + bs2 ≤ bs) {rest : List Value}
    (run : ∀ (H : Heap) (locs : List Loc) (h a : PH) (uc us : Nat) (ls : Array Slot), xI x Ps bc bs H locs h uc us → ls.size = nL → uc + mc2 ≤ (xn x).2.2.1 ∧ us + ms2 ≤ (xn x).2.2.2.1 →
      vx_Met (xl x) y2 ws2 ({ frames := fr2, cells := mc2, slots := ms2, locals := lo2 } : Room) (va_Pc As (fun U => U.heap.size = H.size ∧ ph_S a U.heap ∧ GX (xg x) (xl x) U)) (ctQ a H.size Po2) (ctX a H.size Px2) mc2 ms2 (ctA a H.size) →
      (∀ U : State, U.heap = H → (xs x).WarmedH U.vm → va_Pc As (fun U => U.heap.size = H.size ∧ ph_S a U.heap ∧ GX (xg x) (xl x) U) As.toArray U) →
      vx_Run (xp x) (xl x) (xe x) (xR x) (xs x) (xm x) (xa x) (xb x) (xt x) (xc x) H locs uc us mc2 ms2 (F0 (xm x) pc ls st) rest (ctQ a H.size Po2 As.toArray) (ctX a H.size Px2) (ctA a H.size))
    (hn : pc + 3 = n) (kx : ∀ (E : String) (Ws : List HP), Px2 E Ws → SX x (Ws ++ Rs) bc2 bs2 pc L E) (kk : ∀ (v : Option Value) (Ws : List HP), Po2 v Ws → SW x (Ws ++ Rs) bc2 bs2 n L (v.toList ++ rest)) : SW x Ps bc bs pc L st := by
  subst hn
  intro H locs h uc us ls I hL T hT X
  have I0 := I
  obtain ⟨hs, hS, hA, hV, i1, i2⟩ := I
  have hs2 := sl_perm (sl_pick_perm is hp) _ hs
  rw [hpk] at hs2
  obtain ⟨a, b, hD, rfl, ha, hbR⟩ := (sl_app _).mp hs2
  have haS := ph_S_l hS
  have hM := C a H.size ha (fun q hq => F.A0 q (hA q (fun z => hq (ph_U_none.mp z).1)))
  have hPre : ∀ U : State, U.heap = H → (xs x).WarmedH U.vm → va_Pc As (fun U => U.heap.size = H.size ∧ ph_S a U.heap ∧ GX (xg x) (xl x) U) As.toArray U := fun U hU hW => ⟨rfl, by rw [hU], by rw [hU]; exact haS, xI_gx F I0 hU hW⟩
  rcases run H locs (ph_U a b) a uc us ls I0 (hL.1.trans F.nl) ⟨by omega, by omega⟩ hM hPre T hT X with ⟨v, st₀, t, T', LL, e0, X', hLL, e1, -, hq, st⟩ | ⟨q, st₀, t, T', LL, E, ce, e0, X', hLL, e1, -, hx, g1, g2, g3, st⟩
  · obtain ⟨⟨v', Ws, h', ev, hpo, hW, hS', hdom⟩, hF⟩ := hq
    cases ev
    have I2 := xI_back (H1 := T'.heap) (LL := LL) (mc2 := mc2) (ms2 := ms2) (bc2 := bc2) (bs2 := bs2) I0 hD hbR hW (by rw [e1]; exact hS') hdom (by rw [e1, ← e0]; exact hF.1) (fun q h1 h2 => by rw [e1, ← e0]; exact hF.2 q (by rw [e0]; exact h1) h2) hLL hb
    obtain ⟨u, s1, s2⟩ := kk v Ws hpo T'.heap (locs ++ LL) _ _ _ ls I2 hL T' rfl X'
    exact ⟨u, st u s1, s2⟩
  · obtain ⟨⟨Ws, h', hpx, hW, hS', hdom⟩, hF⟩ := hx
    have I2 := xI_back (H1 := T'.heap) (LL := LL) (mc2 := mc2) (ms2 := ms2) (bc2 := bc2) (bs2 := bs2) I0 hD hbR hW (by rw [e1]; exact hS') hdom (by rw [e1, ← e0]; exact hF.1) (fun q h1 h2 => by rw [e1, ← e0]; exact hF.2 q (by rw [e0]; exact h1) h2) hLL hb
    obtain ⟨u, s1, s2⟩ := kx E Ws hpx T'.heap (locs ++ LL) _ _ _ ls rest q ce I2 hL (by rw [e1]; exact g1) g2 g3 T' rfl X'
    exact ⟨u, st.trans s1, s2⟩
/-- a static method -/
theorem sw_callS (F : Fx x y cc ret nL fr lo tab) {y2 : MethodName} {cc2 : ByteArray} {nL2 : Nat} {ret2 : Option FieldType} {fr2 lo2 mc2 ms2 : Nat} {As : List Value} {Ps2 : List HP} {Po2 : Option Value → List HP → Prop} {Px2 : String → List HP → Prop} (C : Ct (xg x) (xl x) y2 (ws_ y2 cc2 nL2 ret2) fr2 lo2 mc2 ms2 As Ps2 Po2 Px2)
    {idx k : Nat} (q1 : Cond.methodLink y.cls idx y2 ∈ lw_all) (q2 : Cond.static y2 ∈ lw_all) (q3 : Cond.initialized y2.cls ∈ lw_all) (q4 : Cond.code y2 cc2 nL2 ret2 ∈ lw_all) (hy : y2.cls ≠ "java/lang/invoke/MethodHandle" ∧ y2.cls ≠ "java/lang/invoke/VarHandle" ∧ (parseMethodDescriptor y2.desc).map (fun d => d.parameters.length) = some k) (hk : As.length = k) (hR : fr2 + 1 ≤ fr ∧ 8 + (nL2 + 11) + lo2 ≤ lo)
    (is : List Nat) (hp : is.isPerm (List.range Ps.length) = true) (Rs : List HP) (hpk : sl_pick Ps is = Ps2 ++ Rs) (bc2 bs2 : Nat) (hb : mc2 + bc2 ≤ bc ∧ ms2 + bs2 ≤ bs) (rest : List Value) (hst : st = As.reverse ++ rest) (hcat : (rest.map fun v => v.category).sum ≤ 8) (hd : decode cc pc = .ok (.invokestatic idx, 3))
    (hn : pc + 3 = n) (kx : ∀ (E : String) (Ws : List HP), Px2 E Ws → SX x (Ws ++ Rs) bc2 bs2 pc L E) (kk : ∀ (v : Option Value) (Ws : List HP), Po2 v Ws → SW x (Ws ++ Rs) bc2 bs2 n L (v.toList ++ rest)) : SW x Ps bc bs pc L st := by
  refine sw_go F C is hp Rs hpk hb (fun H locs h a uc us ls I hsz hf hM hPre => ?_) hn kx kk
  exact vx_runS (rm := { frames := fr2, cells := mc2, slots := ms2, locals := lo2 }) ⟨F.exec, F.code, F.mL, F.own, F.wd⟩ hM (va_cwS k F.wd (lw_S q1 q2 q3 q4) rfl rfl rfl hy ⟨by show fr2 + 1 ≤ (xn x).1; rw [F.fR]; exact hR.1, by show _ ≤ (xn x).2.1; rw [F.lO]; exact hR.2⟩) ⟨ct_blind, hPre⟩ rfl hk hsz hst (lv_room hcat) hd hf
/-- an instance method of the receiver's own class -/
theorem sw_callV (F : Fx x y cc ret nL fr lo tab) {y2 : MethodName} {cc2 : ByteArray} {nL2 : Nat} {ret2 : Option FieldType} {fr2 lo2 mc2 ms2 b : Nat} {As : List Value} {Ps2 : List HP} {Po2 : Option Value → List HP → Prop} {Px2 : String → List HP → Prop} (C : Ct (xg x) (xl x) y2 (ws_ y2 cc2 nL2 ret2) fr2 lo2 mc2 ms2 (.ref b :: As) Ps2 Po2 Px2)
    (hrec : Rcv x Ps bc bs b y2.cls) {idx k : Nat} (q1 : Cond.methodLink y.cls idx y2 ∈ lw_all) (q2 : Cond.instanceMethod y2 ∈ lw_all) (q3 : Cond.selects y2.cls y2 y2 ∈ lw_all) (q4 : Cond.initialized y2.cls ∈ lw_all) (q5 : Cond.code y2 cc2 nL2 ret2 ∈ lw_all) (hy : y2.cls ≠ "java/lang/invoke/MethodHandle" ∧ y2.cls ≠ "java/lang/invoke/VarHandle" ∧ (parseMethodDescriptor y2.desc).map (fun d => d.parameters.length) = some k) (hk : As.length = k) (hR : fr2 + 1 ≤ fr ∧ 8 + (nL2 + 11) + lo2 ≤ lo)
    (is : List Nat) (hp : is.isPerm (List.range Ps.length) = true) (Rs : List HP) (hpk : sl_pick Ps is = Ps2 ++ Rs) (bc2 bs2 : Nat) (hb : mc2 + bc2 ≤ bc ∧ ms2 + bs2 ≤ bs) (rest : List Value) (hst : st = As.reverse ++ .ref b :: rest) (hcat : (rest.map fun v => v.category).sum ≤ 8) (hd : decode cc pc = .ok (.invokevirtual idx, 3))
    (hn : pc + 3 = n) (kx : ∀ (E : String) (Ws : List HP), Px2 E Ws → SX x (Ws ++ Rs) bc2 bs2 pc L E) (kk : ∀ (v : Option Value) (Ws : List HP), Po2 v Ws → SW x (Ws ++ Rs) bc2 bs2 n L (v.toList ++ rest)) : SW x Ps bc bs pc L st := by
  refine sw_go F C is hp Rs hpk hb (fun H locs h a uc us ls I hsz hf hM hPre => ?_) hn kx kk
  exact vx_runV (rm := { frames := fr2, cells := mc2, slots := ms2, locals := lo2 }) (C := y2.cls) ⟨F.exec, F.code, F.mL, F.own, F.wd⟩ hM (cwV k F.wd (lw_V q1 q2 q3 q4 q5) rfl rfl rfl ⟨rfl, hy.1, hy.2.1, hy.2.2⟩ ⟨by show fr2 + 1 ≤ (xn x).1; rw [F.fR]; exact hR.1, by show _ ≤ (xn x).2.1; rw [F.lO]; exact hR.2⟩) ⟨ct_blind, hrec H locs h uc us I, hPre⟩ rfl hk hsz hst (lv_room hcat) hd hf
/-- a constructor -/
theorem sw_callI (F : Fx x y cc ret nL fr lo tab) {y2 : MethodName} {cc2 : ByteArray} {nL2 : Nat} {fr2 lo2 mc2 ms2 b : Nat} {As : List Value} {Ps2 : List HP} {Po2 : Option Value → List HP → Prop} {Px2 : String → List HP → Prop} (C : Ct (xg x) (xl x) y2 (ws_ y2 cc2 nL2 none) fr2 lo2 mc2 ms2 (.ref b :: As) Ps2 Po2 Px2)
    {idx k : Nat} (q1 : Cond.methodLink y.cls idx y2 ∈ lw_all) (q2 : Cond.instanceMethod y2 ∈ lw_all) (q3 : Cond.initialized y2.cls ∈ lw_all) (q5 : Cond.code y2 cc2 nL2 none ∈ lw_all) (hin : y2.name = "<init>") (hy : y2.cls ≠ "java/lang/invoke/MethodHandle" ∧ y2.cls ≠ "java/lang/invoke/VarHandle" ∧ (parseMethodDescriptor y2.desc).map (fun d => d.parameters.length) = some k) (hk : As.length = k) (hR : fr2 + 1 ≤ fr ∧ 8 + (nL2 + 11) + lo2 ≤ lo)
    (is : List Nat) (hp : is.isPerm (List.range Ps.length) = true) (Rs : List HP) (hpk : sl_pick Ps is = Ps2 ++ Rs) (bc2 bs2 : Nat) (hb : mc2 + bc2 ≤ bc ∧ ms2 + bs2 ≤ bs) (rest : List Value) (hst : st = As.reverse ++ .ref b :: rest) (hcat : (rest.map fun v => v.category).sum ≤ 8) (hd : decode cc pc = .ok (.invokespecial idx, 3))
    (hn : pc + 3 = n) (kx : ∀ (E : String) (Ws : List HP), Px2 E Ws → SX x (Ws ++ Rs) bc2 bs2 pc L E) (kk : ∀ (v : Option Value) (Ws : List HP), Po2 v Ws → SW x (Ws ++ Rs) bc2 bs2 n L (v.toList ++ rest)) : SW x Ps bc bs pc L st := by
  refine sw_go F C is hp Rs hpk hb (fun H locs h a uc us ls I hsz hf hM hPre => ?_) hn kx kk
  exact vx_runI (rm := { frames := fr2, cells := mc2, slots := ms2, locals := lo2 }) ⟨F.exec, F.code, F.mL, F.own, F.wd⟩ hM (cwI k F.wd (lw_meth q5) rfl rfl rfl (F.wd _ q3) (F.wd _ q1) (F.wd _ q2) hin hy ⟨by show fr2 + 1 ≤ (xn x).1; rw [F.fR]; exact hR.1, by show _ ≤ (xn x).2.1; rw [F.lO]; exact hR.2⟩) ⟨ct_blind, hPre⟩ rfl hk hsz hst (lv_room hcat) hd hf
/-- Object's constructor -/
theorem sw_objInit (F : Fx x y cc ret nL fr lo tab) {idx a : Nat} (q1 : Cond.methodLink y.cls idx Lib.objectInit ∈ lw_all) (q2 : Cond.instanceMethod Lib.objectInit ∈ lw_all) (q3 : Cond.code Lib.objectInit ⟨#[0xb1]⟩ 1 none ∈ lw_all) (hR : 1 ≤ fr ∧ (st.map fun v => v.category).sum + 12 ≤ lo) (hd : decode cc pc = .ok (.invokespecial idx, 3)) (hn : pc + 3 = n) (k : SW x Ps bc bs n L st) : SW x Ps bc bs pc L (.ref a :: st) := by
  subst hn
  intro H locs h uc us ls I hL
  refine W.objInit F.exec F.code F.own (F.wd _ q1) (F.wd _ q2) (F.wd _ q3) rfl ((hL.1.trans F.nl).trans F.mL.symm) rfl hd (by show 1 ≤ (xn x).1; rw [F.fR]; exact hR.1) (by show 2 * 0 + _ + 12 ≤ (xn x).2.1; rw [F.lO]; omega) (k H locs h uc us ls I hL)
/-- nothing catches it here -/
theorem sx_out (F : Fx x y cc ret nL fr lo []) {E : String} (hpx : xPx x E Ps) : SX x Ps bc bs pc L E := by
  intro H locs h uc us ls rest q ce I hL g1 g2 g3
  obtain ⟨hs, hS, hA, hV, i1, i2⟩ := I
  exact vx_out (by rw [F.tb]; simp) F.lk g1 g2 g3 (fun t ht hW => ⟨⟨Ps, h, hpx, hs, by rw [ht]; exact hS, hA⟩, hV.F ht⟩) hV.2.2 (by omega) (by omega)
end CALL
theorem q_oi : Cond.instanceMethod Lib.objectInit ∈ lw_all := q175
theorem q_oc : Cond.code Lib.objectInit ⟨#[0xb1]⟩ 1 none ∈ lw_all := q176
