/-! java.util.ArrayList: n elements, none of them null -/
abbrev sDEF : Term := (Jvm.Term.static "java/util/ArrayList" "DEFAULTCAPACITY_EMPTY_ELEMENTDATA" "[Ljava/lang/Object;")
set_option maxRecDepth 100000 in
theorem kDEF {g : GG} {l : Launch} (h : ST g l) : zS g "java/util/ArrayList" "DEFAULTCAPACITY_EMPTY_ELEMENTDATA" "[Ljava/lang/Object;" (.ref (tR g sDEF)) ∧ cA g (.object "java/lang/Object") (tR g sDEF) 0 (fun _ => .null) := by
  obtain ⟨a1, a2⟩ := cA_of (g := g) (tm := sDEF) (ty := .object "java/lang/Object") (N := 0) (f := fun _ => .null) (by decide) (nw h [true, false, false, false, false, false, false, false, false, false, true, true, false] rfl) (va_eqt (nw h [true, false, false, false, false, false, false, false, false, true, false, false] rfl)) (fun j hj => by omega)
  exact ⟨zS_of (h.2.1 _ q229) (h.2.1 _ (lw_all_tbl q110)) a1, a2⟩
set_option maxRecDepth 100000 in
theorem kMOA {g : GG} {l : Launch} (h : ST g l) : ∃ mi : Nat, va_Mi "[Ljava/lang/Object;" mi (gS g) := va_Mi.of (nw h [true, true, false, true, false, false, true, true, false, true, true, true, true, false] rfl)
/-- a list at q, changed mc times, with the elements e 0 .. e (n - 1) -/
def al (g : GG) (q : Nat) (mc : Int) (n : Nat) (e : Nat → Nat) : HP := fun h =>
  (∃ (a N : Nat) (f : Nat → Option Nat), sl [ob g q 12 [.int (jI mc), .ref a, .int (jI (n : Int))], aQ g 5 a N f] h ∧ n ≤ N ∧ 10 ≤ N ∧ N ≤ 300 ∧ ∀ k, k < n → f k = some (e k)) ∨
  (n = 0 ∧ sl [ob g q 12 [.int (jI mc), .ref (tR g sDEF), .int (jI (n : Int))]] h)
theorem al_ob {g : GG} {q n : Nat} {mc : Int} {e : Nat → Nat} {h : PH} (hp : al g q mc n e h) : ∃ (d : Nat) (a b : PH), ph_D a b ∧ h = ph_U a b ∧ ob g q 12 [.int (jI mc), .ref d, .int (jI (n : Int))] a := by
  rcases hp with ⟨a, N, f, ⟨h1, h2, hd, e1, hq, -⟩, -⟩ | ⟨-, h1, h2, hd, e1, hq, -⟩
  · exact ⟨a, h1, h2, hd, e1, hq⟩
  · exact ⟨_, h1, h2, hd, e1, hq⟩
theorem kn_al {g : GG} {q n : Nat} {mc : Int} {e : Nat → Nat} : kn g (al g q mc n e) q 12 := Or.inl fun h hp => by
  obtain ⟨d, a, b, hd, rfl, c, rfl, r, -, h1, h2, -⟩ := al_ob hp
  exact ⟨c, by simp [ph_U, ph_1], h1, by rw [h2]; rfl⟩
theorem al_cong {g : GG} {q n : Nat} {mc : Int} {e e' : Nat → Nat} (he : ∀ k, k < n → e' k = e k) : ∀ h, al g q mc n e h → al g q mc n e' h := by
  intro h hp
  rcases hp with ⟨a, N, f, h1, h2, h3, h4, h5⟩ | hp
  · exact Or.inl ⟨a, N, f, h1, h2, h3, h4, fun k hk => by rw [he k hk]; exact h5 k hk⟩
  · exact Or.inr hp
section ALIST
variable {x : EX} {y : MethodName} {cc : ByteArray} {ret : Option FieldType} {nL fr lo : Nat} {tab : List ExceptionTableEntry} {Ps : List HP} {bc bs pc n' : Nat} {L : List (Nat × Value)} {st : List Value} {q n : Nat} {mc : Int} {e : Nat → Nat}
/-- a field that is told without opening the list -/
theorem al_hO (i : Nat) (hat : Ps[i]? = some (al (xg x) q mc n e)) {H : Heap} {locs : List Loc} {h : PH} {uc us : Nat} (I : xI x Ps bc bs H locs h uc us) : ∃ (d : Nat) (c : Cell), H[q]? = some c ∧ obR (xg x) 12 [.int (jI mc), .ref d, .int (jI (n : Int))] c := by
  obtain ⟨a, b, hd, rfl, hp, -⟩ := sl_at hat I.1
  obtain ⟨d, a1, b1, hd1, rfl, c, rfl, hc⟩ := al_ob hp
  exact ⟨d, c, ph_S_l (ph_S_l I.2.1) q c ph_1_self, hc.R⟩
theorem sw_getA {sz : Nat} (F : Fx x y cc ret nL fr lo tab) (i : Nat) (hat : Ps[i]? = some (al (xg x) q mc sz e)) {idx k : Nat} {ref : String} (hl : FL y.cls idx 12 k ref) (v : Value) (hv : ∀ d : Nat, ([.int (jI mc), .ref d, .int (jI (sz : Int))] : List Value)[k]? = some v) (hd : decode cc pc = .ok (.getfield idx, 3)) (hn : pc + 3 = n) (kk : SW x Ps bc bs n L (v :: st)) : SW x Ps bc bs pc L (.ref q :: st) := by
  subst hn
  intro H locs h uc us ls I hL
  obtain ⟨d, c, h1, h2⟩ := al_hO i hat I
  exact getR_W F h1 h2 hl (hv d) hd (kk H locs h uc us ls I hL)
theorem sw_getAN {sz : Nat} (F : Fx x y cc ret nL fr lo tab) (i : Nat) (hat : Ps[i]? = some (al (xg x) q mc sz e)) {idx k : Nat} {ref : String} (hl : FLN y.cls idx 12 k ref) (v : Value) (hv : ∀ d : Nat, ([.int (jI mc), .ref d, .int (jI (sz : Int))] : List Value)[k]? = some v) (hd : decode cc pc = .ok (.getfield idx, 3)) (hn : pc + 3 = n) (kk : SW x Ps bc bs n L (v :: st)) : SW x Ps bc bs pc L (.ref q :: st) := by
  subst hn
  intro H locs h uc us ls I hL
  obtain ⟨d, c, h1, h2⟩ := al_hO i hat I
  exact getR_WN F h1 h2 hl (hv d) hd (kk H locs h uc us ls I hL)
theorem sw_alOpen {Rs : List HP} (kA : ∀ (a N : Nat) (f : Nat → Option Nat), n ≤ N → 10 ≤ N ∧ N ≤ 300 → (∀ k, k < n → f k = some (e k)) → SW x (ob (xg x) q 12 [.int (jI mc), .ref a, .int (jI (n : Int))] :: aQ (xg x) 5 a N f :: Rs) bc bs pc L st) (k0 : n = 0 → SW x (ob (xg x) q 12 [.int (jI mc), .ref (tR (xg x) sDEF), .int (jI (n : Int))] :: Rs) bc bs pc L st) : SW x (al (xg x) q mc n e :: Rs) bc bs pc L st := by
  intro H locs h uc us ls I hL
  obtain ⟨hs, hS, hA, hV, i1, i2⟩ := I
  obtain ⟨a, b, hd, rfl, hp, hR⟩ := hs
  rcases hp with ⟨a2, N, f, h1, h2, h3, h4, h5⟩ | ⟨hn, h1⟩
  · exact kA a2 N f h2 ⟨h3, h4⟩ h5 H locs _ uc us ls ⟨(sl_app (Ps := [_, _]) _).mpr ⟨a, b, hd, rfl, h1, hR⟩, hS, hA, hV, i1, i2⟩ hL
  · exact k0 hn H locs _ uc us ls ⟨(sl_app (Ps := [_]) _).mpr ⟨a, b, hd, rfl, h1, hR⟩, hS, hA, hV, i1, i2⟩ hL
theorem sw_alClose {Rs : List HP} {a N : Nat} {f : Nat → Option Nat} (e : Nat → Nat) (h1 : n ≤ N) (h2 : 10 ≤ N ∧ N ≤ 300) (h3 : ∀ k, k < n → f k = some (e k)) (kk : SW x (al (xg x) q mc n e :: Rs) bc bs pc L st) : SW x (ob (xg x) q 12 [.int (jI mc), .ref a, .int (jI (n : Int))] :: aQ (xg x) 5 a N f :: Rs) bc bs pc L st :=
  sw_fold (Qs := [_, _]) (fun h hq => Or.inl ⟨a, N, f, hq, h1, h2.1, h2.2, h3⟩) kk
theorem sw_alClose0 {Rs : List HP} (e : Nat → Nat) (h1 : n = 0) (kk : SW x (al (xg x) q mc n e :: Rs) bc bs pc L st) : SW x (ob (xg x) q 12 [.int (jI mc), .ref (tR (xg x) sDEF), .int (jI (n : Int))] :: Rs) bc bs pc L st :=
  sw_fold (Qs := [_]) (fun h hq => Or.inr ⟨h1, hq⟩) kk
end ALIST
set_option maxRecDepth 100000
theorem dJ4_init_0 : decode cJ4_init 0 = .ok (.aload_n 0, 1) := by decide +kernel
theorem dJ4_init_1 : decode cJ4_init 1 = .ok (.invokespecial 1, 3) := by decide +kernel
theorem dJ4_init_4 : decode cJ4_init 4 = .ok (.return_, 1) := by decide +kernel
def dkwJ5_init_0 : List UInt8 := [42, 183, 0, 1, 42, 3, 181, 0, 7, 177]
abbrev dktJ5_init_0 : List UInt8 := dkwJ5_init_0 ++ []
theorem dksJ5_init_0 : cJ5_init.data.toList.drop 0 = dktJ5_init_0 := by decide +kernel
theorem dJ5_init_0 : decode cJ5_init 0 = .ok (.aload_n 0, 1) := dk_42 (dk_at dksJ5_init_0 0 rfl rfl)
theorem dJ5_init_1 : decode cJ5_init 1 = .ok (.invokespecial 1, 3) := dk_183 0 1 (dk_at dksJ5_init_0 1 rfl rfl)
theorem dJ5_init_4 : decode cJ5_init 4 = .ok (.aload_n 0, 1) := dk_42 (dk_at dksJ5_init_0 4 rfl rfl)
theorem dJ5_init_5 : decode cJ5_init 5 = .ok (.iconst 0, 1) := dk_3 (dk_at dksJ5_init_0 5 rfl rfl)
theorem dJ5_init_6 : decode cJ5_init 6 = .ok (.putfield 7, 3) := dk_181 0 7 (dk_at dksJ5_init_0 6 rfl rfl)
theorem dJ5_init_9 : decode cJ5_init 9 = .ok (.return_, 1) := dk_177 (dk_at dksJ5_init_0 9 rfl rfl)
def dkwJ6_init_0 : List UInt8 := [42, 183, 0, 1, 42, 178, 0, 39, 181, 0, 9, 177]
abbrev dktJ6_init_0 : List UInt8 := dkwJ6_init_0 ++ []
theorem dksJ6_init_0 : cJ6_init.data.toList.drop 0 = dktJ6_init_0 := by decide +kernel
theorem dJ6_init_0 : decode cJ6_init 0 = .ok (.aload_n 0, 1) := dk_42 (dk_at dksJ6_init_0 0 rfl rfl)
theorem dJ6_init_1 : decode cJ6_init 1 = .ok (.invokespecial 1, 3) := dk_183 0 1 (dk_at dksJ6_init_0 1 rfl rfl)
theorem dJ6_init_4 : decode cJ6_init 4 = .ok (.aload_n 0, 1) := dk_42 (dk_at dksJ6_init_0 4 rfl rfl)
theorem dJ6_init_5 : decode cJ6_init 5 = .ok (.getstatic 39, 3) := dk_178 0 39 (dk_at dksJ6_init_0 5 rfl rfl)
theorem dJ6_init_8 : decode cJ6_init 8 = .ok (.putfield 9, 3) := dk_181 0 9 (dk_at dksJ6_init_0 8 rfl rfl)
theorem dJ6_init_11 : decode cJ6_init 11 = .ok (.return_, 1) := dk_177 (dk_at dksJ6_init_0 11 rfl rfl)
def dkwJ6_iterator_0 : List UInt8 := [187, 1, 11, 89, 42, 183, 1, 13, 176]
abbrev dktJ6_iterator_0 : List UInt8 := dkwJ6_iterator_0 ++ []
theorem dksJ6_iterator_0 : cJ6_iterator.data.toList.drop 0 = dktJ6_iterator_0 := by decide +kernel
theorem dJ6_iterator_0 : decode cJ6_iterator 0 = .ok (.new 267, 3) := dk_187 1 11 (dk_at dksJ6_iterator_0 0 rfl rfl)
theorem dJ6_iterator_3 : decode cJ6_iterator 3 = .ok (.dup, 1) := dk_89 (dk_at dksJ6_iterator_0 3 rfl rfl)
theorem dJ6_iterator_4 : decode cJ6_iterator 4 = .ok (.aload_n 0, 1) := dk_42 (dk_at dksJ6_iterator_0 4 rfl rfl)
theorem dJ6_iterator_5 : decode cJ6_iterator 5 = .ok (.invokespecial 269, 3) := dk_183 1 13 (dk_at dksJ6_iterator_0 5 rfl rfl)
theorem dJ6_iterator_8 : decode cJ6_iterator 8 = .ok (.areturn, 1) := dk_176 (dk_at dksJ6_iterator_0 8 rfl rfl)
theorem dJ6_size_0 : decode cJ6_size 0 = .ok (.aload_n 0, 1) := by decide +kernel
theorem dJ6_size_1 : decode cJ6_size 1 = .ok (.getfield 48, 3) := by decide +kernel
theorem dJ6_size_4 : decode cJ6_size 4 = .ok (.ireturn, 1) := by decide +kernel
def dkwJ6_add_1 : List UInt8 := [172]
abbrev dktJ6_add_1 : List UInt8 := dkwJ6_add_1 ++ []
def dkwJ6_add_0 : List UInt8 := [42, 89, 180, 0, 63, 4, 96, 181, 0, 63, 42, 43, 42, 180, 0, 9, 42, 180, 0, 48, 182, 0, 131, 4]
abbrev dktJ6_add_0 : List UInt8 := dkwJ6_add_0 ++ dktJ6_add_1
theorem dksJ6_add_0 : cJ6_add.data.toList.drop 0 = dktJ6_add_0 := by decide +kernel
theorem dksJ6_add_1 : cJ6_add.data.toList.drop 24 = dktJ6_add_1 := dk_seg dksJ6_add_0 24 rfl rfl
theorem dJ6_add_0 : decode cJ6_add 0 = .ok (.aload_n 0, 1) := dk_42 (dk_at dksJ6_add_0 0 rfl rfl)
theorem dJ6_add_1 : decode cJ6_add 1 = .ok (.dup, 1) := dk_89 (dk_at dksJ6_add_0 1 rfl rfl)
theorem dJ6_add_2 : decode cJ6_add 2 = .ok (.getfield 63, 3) := dk_180 0 63 (dk_at dksJ6_add_0 2 rfl rfl)
theorem dJ6_add_5 : decode cJ6_add 5 = .ok (.iconst 1, 1) := dk_4 (dk_at dksJ6_add_0 5 rfl rfl)
theorem dJ6_add_6 : decode cJ6_add 6 = .ok (.iadd, 1) := dk_96 (dk_at dksJ6_add_0 6 rfl rfl)
theorem dJ6_add_7 : decode cJ6_add 7 = .ok (.putfield 63, 3) := dk_181 0 63 (dk_at dksJ6_add_0 7 rfl rfl)
theorem dJ6_add_10 : decode cJ6_add 10 = .ok (.aload_n 0, 1) := dk_42 (dk_at dksJ6_add_0 10 rfl rfl)
theorem dJ6_add_11 : decode cJ6_add 11 = .ok (.aload_n 1, 1) := dk_43 (dk_at dksJ6_add_0 11 rfl rfl)
theorem dJ6_add_12 : decode cJ6_add 12 = .ok (.aload_n 0, 1) := dk_42 (dk_at dksJ6_add_0 12 rfl rfl)
theorem dJ6_add_13 : decode cJ6_add 13 = .ok (.getfield 9, 3) := dk_180 0 9 (dk_at dksJ6_add_0 13 rfl rfl)
theorem dJ6_add_16 : decode cJ6_add 16 = .ok (.aload_n 0, 1) := dk_42 (dk_at dksJ6_add_0 16 rfl rfl)
theorem dJ6_add_17 : decode cJ6_add 17 = .ok (.getfield 48, 3) := dk_180 0 48 (dk_at dksJ6_add_0 17 rfl rfl)
theorem dJ6_add_20 : decode cJ6_add 20 = .ok (.invokevirtual 131, 3) := dk_182 0 131 (dk_at dksJ6_add_0 20 rfl rfl)
theorem dJ6_add_23 : decode cJ6_add 23 = .ok (.iconst 1, 1) := dk_4 (dk_at dksJ6_add_0 23 rfl rfl)
theorem dJ6_add_24 : decode cJ6_add 24 = .ok (.ireturn, 1) := dk_172 (dk_at dksJ6_add_1 0 rfl rfl)
def dkwJ6_add_2_0 : List UInt8 := [29, 44, 190, 160, 0, 8, 42, 182, 0, 129, 77, 44, 29, 43, 83, 42, 29, 4, 96, 181, 0, 48, 177]
abbrev dktJ6_add_2_0 : List UInt8 := dkwJ6_add_2_0 ++ []
theorem dksJ6_add_2_0 : cJ6_add_2.data.toList.drop 0 = dktJ6_add_2_0 := by decide +kernel
theorem dJ6_add_2_0 : decode cJ6_add_2 0 = .ok (.iload_n 3, 1) := dk_29 (dk_at dksJ6_add_2_0 0 rfl rfl)
theorem dJ6_add_2_1 : decode cJ6_add_2 1 = .ok (.aload_n 2, 1) := dk_44 (dk_at dksJ6_add_2_0 1 rfl rfl)
theorem dJ6_add_2_2 : decode cJ6_add_2 2 = .ok (.arraylength, 1) := dk_190 (dk_at dksJ6_add_2_0 2 rfl rfl)
theorem dJ6_add_2_3 : decode cJ6_add_2 3 = .ok (.if_icmp .ne 8, 3) := dk_160 0 8 (dk_at dksJ6_add_2_0 3 rfl rfl)
theorem dJ6_add_2_6 : decode cJ6_add_2 6 = .ok (.aload_n 0, 1) := dk_42 (dk_at dksJ6_add_2_0 6 rfl rfl)
theorem dJ6_add_2_7 : decode cJ6_add_2 7 = .ok (.invokevirtual 129, 3) := dk_182 0 129 (dk_at dksJ6_add_2_0 7 rfl rfl)
theorem dJ6_add_2_10 : decode cJ6_add_2 10 = .ok (.astore_n 2, 1) := dk_77 (dk_at dksJ6_add_2_0 10 rfl rfl)
theorem dJ6_add_2_11 : decode cJ6_add_2 11 = .ok (.aload_n 2, 1) := dk_44 (dk_at dksJ6_add_2_0 11 rfl rfl)
theorem dJ6_add_2_12 : decode cJ6_add_2 12 = .ok (.iload_n 3, 1) := dk_29 (dk_at dksJ6_add_2_0 12 rfl rfl)
theorem dJ6_add_2_13 : decode cJ6_add_2 13 = .ok (.aload_n 1, 1) := dk_43 (dk_at dksJ6_add_2_0 13 rfl rfl)
theorem dJ6_add_2_14 : decode cJ6_add_2 14 = .ok (.aastore, 1) := dk_83 (dk_at dksJ6_add_2_0 14 rfl rfl)
theorem dJ6_add_2_15 : decode cJ6_add_2 15 = .ok (.aload_n 0, 1) := dk_42 (dk_at dksJ6_add_2_0 15 rfl rfl)
theorem dJ6_add_2_16 : decode cJ6_add_2 16 = .ok (.iload_n 3, 1) := dk_29 (dk_at dksJ6_add_2_0 16 rfl rfl)
theorem dJ6_add_2_17 : decode cJ6_add_2 17 = .ok (.iconst 1, 1) := dk_4 (dk_at dksJ6_add_2_0 17 rfl rfl)
theorem dJ6_add_2_18 : decode cJ6_add_2 18 = .ok (.iadd, 1) := dk_96 (dk_at dksJ6_add_2_0 18 rfl rfl)
theorem dJ6_add_2_19 : decode cJ6_add_2 19 = .ok (.putfield 48, 3) := dk_181 0 48 (dk_at dksJ6_add_2_0 19 rfl rfl)
theorem dJ6_add_2_22 : decode cJ6_add_2 22 = .ok (.return_, 1) := dk_177 (dk_at dksJ6_add_2_0 22 rfl rfl)
def dkwJ6_grow_0 : List UInt8 := [42, 42, 180, 0, 48, 4, 96, 182, 0, 69, 176]
abbrev dktJ6_grow_0 : List UInt8 := dkwJ6_grow_0 ++ []
theorem dksJ6_grow_0 : cJ6_grow.data.toList.drop 0 = dktJ6_grow_0 := by decide +kernel
theorem dJ6_grow_0 : decode cJ6_grow 0 = .ok (.aload_n 0, 1) := dk_42 (dk_at dksJ6_grow_0 0 rfl rfl)
theorem dJ6_grow_1 : decode cJ6_grow 1 = .ok (.aload_n 0, 1) := dk_42 (dk_at dksJ6_grow_0 1 rfl rfl)
theorem dJ6_grow_2 : decode cJ6_grow 2 = .ok (.getfield 48, 3) := dk_180 0 48 (dk_at dksJ6_grow_0 2 rfl rfl)
theorem dJ6_grow_5 : decode cJ6_grow 5 = .ok (.iconst 1, 1) := dk_4 (dk_at dksJ6_grow_0 5 rfl rfl)
theorem dJ6_grow_6 : decode cJ6_grow 6 = .ok (.iadd, 1) := dk_96 (dk_at dksJ6_grow_0 6 rfl rfl)
theorem dJ6_grow_7 : decode cJ6_grow 7 = .ok (.invokevirtual 69, 3) := dk_182 0 69 (dk_at dksJ6_grow_0 7 rfl rfl)
theorem dJ6_grow_10 : decode cJ6_grow 10 = .ok (.areturn, 1) := dk_176 (dk_at dksJ6_grow_0 10 rfl rfl)
def dkwJ6_grow_2_2 : List UInt8 := [27, 184, 0, 79, 189, 0, 7, 90, 181, 0, 9, 176]
abbrev dktJ6_grow_2_2 : List UInt8 := dkwJ6_grow_2_2 ++ []
def dkwJ6_grow_2_1 : List UInt8 := [28, 4, 122, 184, 0, 73, 62, 42, 42, 180, 0, 9, 29, 184, 0, 66, 90, 181, 0, 9, 176, 42, 16, 10]
abbrev dktJ6_grow_2_1 : List UInt8 := dkwJ6_grow_2_1 ++ dktJ6_grow_2_2
def dkwJ6_grow_2_0 : List UInt8 := [42, 180, 0, 9, 190, 61, 28, 157, 0, 13, 42, 180, 0, 9, 178, 0, 39, 165, 0, 28, 28, 27, 28, 100]
abbrev dktJ6_grow_2_0 : List UInt8 := dkwJ6_grow_2_0 ++ dktJ6_grow_2_1
theorem dksJ6_grow_2_0 : cJ6_grow_2.data.toList.drop 0 = dktJ6_grow_2_0 := by decide +kernel
theorem dksJ6_grow_2_1 : cJ6_grow_2.data.toList.drop 24 = dktJ6_grow_2_1 := dk_seg dksJ6_grow_2_0 24 rfl rfl
theorem dksJ6_grow_2_2 : cJ6_grow_2.data.toList.drop 48 = dktJ6_grow_2_2 := dk_seg dksJ6_grow_2_1 24 rfl rfl
theorem dJ6_grow_2_0 : decode cJ6_grow_2 0 = .ok (.aload_n 0, 1) := dk_42 (dk_at dksJ6_grow_2_0 0 rfl rfl)
theorem dJ6_grow_2_1 : decode cJ6_grow_2 1 = .ok (.getfield 9, 3) := dk_180 0 9 (dk_at dksJ6_grow_2_0 1 rfl rfl)
theorem dJ6_grow_2_4 : decode cJ6_grow_2 4 = .ok (.arraylength, 1) := dk_190 (dk_at dksJ6_grow_2_0 4 rfl rfl)
theorem dJ6_grow_2_5 : decode cJ6_grow_2 5 = .ok (.istore_n 2, 1) := dk_61 (dk_at dksJ6_grow_2_0 5 rfl rfl)
theorem dJ6_grow_2_6 : decode cJ6_grow_2 6 = .ok (.iload_n 2, 1) := dk_28 (dk_at dksJ6_grow_2_0 6 rfl rfl)
theorem dJ6_grow_2_7 : decode cJ6_grow_2 7 = .ok (.ifCond .gt 13, 3) := dk_157 0 13 (dk_at dksJ6_grow_2_0 7 rfl rfl)
theorem dJ6_grow_2_10 : decode cJ6_grow_2 10 = .ok (.aload_n 0, 1) := dk_42 (dk_at dksJ6_grow_2_0 10 rfl rfl)
theorem dJ6_grow_2_11 : decode cJ6_grow_2 11 = .ok (.getfield 9, 3) := dk_180 0 9 (dk_at dksJ6_grow_2_0 11 rfl rfl)
theorem dJ6_grow_2_14 : decode cJ6_grow_2 14 = .ok (.getstatic 39, 3) := dk_178 0 39 (dk_at dksJ6_grow_2_0 14 rfl rfl)
theorem dJ6_grow_2_17 : decode cJ6_grow_2 17 = .ok (.if_acmp .eq 28, 3) := dk_165 0 28 (dk_at dksJ6_grow_2_0 17 rfl rfl)
theorem dJ6_grow_2_20 : decode cJ6_grow_2 20 = .ok (.iload_n 2, 1) := dk_28 (dk_at dksJ6_grow_2_0 20 rfl rfl)
theorem dJ6_grow_2_21 : decode cJ6_grow_2 21 = .ok (.iload_n 1, 1) := dk_27 (dk_at dksJ6_grow_2_0 21 rfl rfl)
theorem dJ6_grow_2_22 : decode cJ6_grow_2 22 = .ok (.iload_n 2, 1) := dk_28 (dk_at dksJ6_grow_2_0 22 rfl rfl)
theorem dJ6_grow_2_23 : decode cJ6_grow_2 23 = .ok (.isub, 1) := dk_100 (dk_at dksJ6_grow_2_0 23 rfl rfl)
theorem dJ6_grow_2_24 : decode cJ6_grow_2 24 = .ok (.iload_n 2, 1) := dk_28 (dk_at dksJ6_grow_2_1 0 rfl rfl)
theorem dJ6_grow_2_25 : decode cJ6_grow_2 25 = .ok (.iconst 1, 1) := dk_4 (dk_at dksJ6_grow_2_1 1 rfl rfl)
theorem dJ6_grow_2_26 : decode cJ6_grow_2 26 = .ok (.ishr, 1) := dk_122 (dk_at dksJ6_grow_2_1 2 rfl rfl)
theorem dJ6_grow_2_27 : decode cJ6_grow_2 27 = .ok (.invokestatic 73, 3) := dk_184 0 73 (dk_at dksJ6_grow_2_1 3 rfl rfl)
theorem dJ6_grow_2_30 : decode cJ6_grow_2 30 = .ok (.istore_n 3, 1) := dk_62 (dk_at dksJ6_grow_2_1 6 rfl rfl)
theorem dJ6_grow_2_31 : decode cJ6_grow_2 31 = .ok (.aload_n 0, 1) := dk_42 (dk_at dksJ6_grow_2_1 7 rfl rfl)
theorem dJ6_grow_2_32 : decode cJ6_grow_2 32 = .ok (.aload_n 0, 1) := dk_42 (dk_at dksJ6_grow_2_1 8 rfl rfl)
theorem dJ6_grow_2_33 : decode cJ6_grow_2 33 = .ok (.getfield 9, 3) := dk_180 0 9 (dk_at dksJ6_grow_2_1 9 rfl rfl)
theorem dJ6_grow_2_36 : decode cJ6_grow_2 36 = .ok (.iload_n 3, 1) := dk_29 (dk_at dksJ6_grow_2_1 12 rfl rfl)
theorem dJ6_grow_2_37 : decode cJ6_grow_2 37 = .ok (.invokestatic 66, 3) := dk_184 0 66 (dk_at dksJ6_grow_2_1 13 rfl rfl)
theorem dJ6_grow_2_40 : decode cJ6_grow_2 40 = .ok (.dup_x1, 1) := dk_90 (dk_at dksJ6_grow_2_1 16 rfl rfl)
theorem dJ6_grow_2_41 : decode cJ6_grow_2 41 = .ok (.putfield 9, 3) := dk_181 0 9 (dk_at dksJ6_grow_2_1 17 rfl rfl)
theorem dJ6_grow_2_44 : decode cJ6_grow_2 44 = .ok (.areturn, 1) := dk_176 (dk_at dksJ6_grow_2_1 20 rfl rfl)
theorem dJ6_grow_2_45 : decode cJ6_grow_2 45 = .ok (.aload_n 0, 1) := dk_42 (dk_at dksJ6_grow_2_1 21 rfl rfl)
theorem dJ6_grow_2_46 : decode cJ6_grow_2 46 = .ok (.bipush 10, 2) := dk_16 10 (dk_at dksJ6_grow_2_1 22 rfl rfl)
theorem dJ6_grow_2_48 : decode cJ6_grow_2 48 = .ok (.iload_n 1, 1) := dk_27 (dk_at dksJ6_grow_2_2 0 rfl rfl)
theorem dJ6_grow_2_49 : decode cJ6_grow_2 49 = .ok (.invokestatic 79, 3) := dk_184 0 79 (dk_at dksJ6_grow_2_2 1 rfl rfl)
theorem dJ6_grow_2_52 : decode cJ6_grow_2 52 = .ok (.anewarray 7, 3) := dk_189 0 7 (dk_at dksJ6_grow_2_2 4 rfl rfl)
theorem dJ6_grow_2_55 : decode cJ6_grow_2 55 = .ok (.dup_x1, 1) := dk_90 (dk_at dksJ6_grow_2_2 7 rfl rfl)
theorem dJ6_grow_2_56 : decode cJ6_grow_2 56 = .ok (.putfield 9, 3) := dk_181 0 9 (dk_at dksJ6_grow_2_2 8 rfl rfl)
theorem dJ6_grow_2_59 : decode cJ6_grow_2 59 = .ok (.areturn, 1) := dk_176 (dk_at dksJ6_grow_2_2 11 rfl rfl)
def dkwJ6_get_0 : List UInt8 := [27, 42, 180, 0, 48, 184, 0, 118, 87, 42, 27, 182, 0, 123, 176]
abbrev dktJ6_get_0 : List UInt8 := dkwJ6_get_0 ++ []
theorem dksJ6_get_0 : cJ6_get.data.toList.drop 0 = dktJ6_get_0 := by decide +kernel
theorem dJ6_get_0 : decode cJ6_get 0 = .ok (.iload_n 1, 1) := dk_27 (dk_at dksJ6_get_0 0 rfl rfl)
theorem dJ6_get_1 : decode cJ6_get 1 = .ok (.aload_n 0, 1) := dk_42 (dk_at dksJ6_get_0 1 rfl rfl)
theorem dJ6_get_2 : decode cJ6_get 2 = .ok (.getfield 48, 3) := dk_180 0 48 (dk_at dksJ6_get_0 2 rfl rfl)
theorem dJ6_get_5 : decode cJ6_get 5 = .ok (.invokestatic 118, 3) := dk_184 0 118 (dk_at dksJ6_get_0 5 rfl rfl)
theorem dJ6_get_8 : decode cJ6_get 8 = .ok (.pop, 1) := dk_87 (dk_at dksJ6_get_0 8 rfl rfl)
theorem dJ6_get_9 : decode cJ6_get 9 = .ok (.aload_n 0, 1) := dk_42 (dk_at dksJ6_get_0 9 rfl rfl)
theorem dJ6_get_10 : decode cJ6_get 10 = .ok (.iload_n 1, 1) := dk_27 (dk_at dksJ6_get_0 10 rfl rfl)
theorem dJ6_get_11 : decode cJ6_get 11 = .ok (.invokevirtual 123, 3) := dk_182 0 123 (dk_at dksJ6_get_0 11 rfl rfl)
theorem dJ6_get_14 : decode cJ6_get 14 = .ok (.areturn, 1) := dk_176 (dk_at dksJ6_get_0 14 rfl rfl)
def dkwJ6_elementData_0 : List UInt8 := [42, 180, 0, 9, 27, 50, 176]
abbrev dktJ6_elementData_0 : List UInt8 := dkwJ6_elementData_0 ++ []
theorem dksJ6_elementData_0 : cJ6_elementData.data.toList.drop 0 = dktJ6_elementData_0 := by decide +kernel
theorem dJ6_elementData_0 : decode cJ6_elementData 0 = .ok (.aload_n 0, 1) := dk_42 (dk_at dksJ6_elementData_0 0 rfl rfl)
theorem dJ6_elementData_1 : decode cJ6_elementData 1 = .ok (.getfield 9, 3) := dk_180 0 9 (dk_at dksJ6_elementData_0 1 rfl rfl)
theorem dJ6_elementData_4 : decode cJ6_elementData 4 = .ok (.iload_n 1, 1) := dk_27 (dk_at dksJ6_elementData_0 4 rfl rfl)
theorem dJ6_elementData_5 : decode cJ6_elementData 5 = .ok (.aaload, 1) := dk_50 (dk_at dksJ6_elementData_0 5 rfl rfl)
theorem dJ6_elementData_6 : decode cJ6_elementData 6 = .ok (.areturn, 1) := dk_176 (dk_at dksJ6_elementData_0 6 rfl rfl)
def dkwJ6_clear_1 : List UInt8 := [181, 0, 48, 62, 29, 28, 162, 0, 13, 43, 29, 1, 83, 132, 3, 1, 167, 255, 244, 177]
abbrev dktJ6_clear_1 : List UInt8 := dkwJ6_clear_1 ++ []
def dkwJ6_clear_0 : List UInt8 := [42, 89, 180, 0, 63, 4, 96, 181, 0, 63, 42, 180, 0, 9, 76, 42, 180, 0, 48, 61, 42, 3, 90]
abbrev dktJ6_clear_0 : List UInt8 := dkwJ6_clear_0 ++ dktJ6_clear_1
theorem dksJ6_clear_0 : cJ6_clear.data.toList.drop 0 = dktJ6_clear_0 := by decide +kernel
theorem dksJ6_clear_1 : cJ6_clear.data.toList.drop 23 = dktJ6_clear_1 := dk_seg dksJ6_clear_0 23 rfl rfl
theorem dJ6_clear_0 : decode cJ6_clear 0 = .ok (.aload_n 0, 1) := dk_42 (dk_at dksJ6_clear_0 0 rfl rfl)
theorem dJ6_clear_1 : decode cJ6_clear 1 = .ok (.dup, 1) := dk_89 (dk_at dksJ6_clear_0 1 rfl rfl)
theorem dJ6_clear_2 : decode cJ6_clear 2 = .ok (.getfield 63, 3) := dk_180 0 63 (dk_at dksJ6_clear_0 2 rfl rfl)
theorem dJ6_clear_5 : decode cJ6_clear 5 = .ok (.iconst 1, 1) := dk_4 (dk_at dksJ6_clear_0 5 rfl rfl)
theorem dJ6_clear_6 : decode cJ6_clear 6 = .ok (.iadd, 1) := dk_96 (dk_at dksJ6_clear_0 6 rfl rfl)
theorem dJ6_clear_7 : decode cJ6_clear 7 = .ok (.putfield 63, 3) := dk_181 0 63 (dk_at dksJ6_clear_0 7 rfl rfl)
theorem dJ6_clear_10 : decode cJ6_clear 10 = .ok (.aload_n 0, 1) := dk_42 (dk_at dksJ6_clear_0 10 rfl rfl)
theorem dJ6_clear_11 : decode cJ6_clear 11 = .ok (.getfield 9, 3) := dk_180 0 9 (dk_at dksJ6_clear_0 11 rfl rfl)
theorem dJ6_clear_14 : decode cJ6_clear 14 = .ok (.astore_n 1, 1) := dk_76 (dk_at dksJ6_clear_0 14 rfl rfl)
theorem dJ6_clear_15 : decode cJ6_clear 15 = .ok (.aload_n 0, 1) := dk_42 (dk_at dksJ6_clear_0 15 rfl rfl)
theorem dJ6_clear_16 : decode cJ6_clear 16 = .ok (.getfield 48, 3) := dk_180 0 48 (dk_at dksJ6_clear_0 16 rfl rfl)
theorem dJ6_clear_19 : decode cJ6_clear 19 = .ok (.istore_n 2, 1) := dk_61 (dk_at dksJ6_clear_0 19 rfl rfl)
theorem dJ6_clear_20 : decode cJ6_clear 20 = .ok (.aload_n 0, 1) := dk_42 (dk_at dksJ6_clear_0 20 rfl rfl)
theorem dJ6_clear_21 : decode cJ6_clear 21 = .ok (.iconst 0, 1) := dk_3 (dk_at dksJ6_clear_0 21 rfl rfl)
theorem dJ6_clear_22 : decode cJ6_clear 22 = .ok (.dup_x1, 1) := dk_90 (dk_at dksJ6_clear_0 22 rfl rfl)
theorem dJ6_clear_23 : decode cJ6_clear 23 = .ok (.putfield 48, 3) := dk_181 0 48 (dk_at dksJ6_clear_1 0 rfl rfl)
theorem dJ6_clear_26 : decode cJ6_clear 26 = .ok (.istore_n 3, 1) := dk_62 (dk_at dksJ6_clear_1 3 rfl rfl)
theorem dJ6_clear_27 : decode cJ6_clear 27 = .ok (.iload_n 3, 1) := dk_29 (dk_at dksJ6_clear_1 4 rfl rfl)
theorem dJ6_clear_28 : decode cJ6_clear 28 = .ok (.iload_n 2, 1) := dk_28 (dk_at dksJ6_clear_1 5 rfl rfl)
theorem dJ6_clear_29 : decode cJ6_clear 29 = .ok (.if_icmp .ge 13, 3) := dk_162 0 13 (dk_at dksJ6_clear_1 6 rfl rfl)
theorem dJ6_clear_32 : decode cJ6_clear 32 = .ok (.aload_n 1, 1) := dk_43 (dk_at dksJ6_clear_1 9 rfl rfl)
theorem dJ6_clear_33 : decode cJ6_clear 33 = .ok (.iload_n 3, 1) := dk_29 (dk_at dksJ6_clear_1 10 rfl rfl)
theorem dJ6_clear_34 : decode cJ6_clear 34 = .ok (.aconst_null, 1) := dk_1 (dk_at dksJ6_clear_1 11 rfl rfl)
theorem dJ6_clear_35 : decode cJ6_clear 35 = .ok (.aastore, 1) := dk_83 (dk_at dksJ6_clear_1 12 rfl rfl)
theorem dJ6_clear_36 : decode cJ6_clear 36 = .ok (.iinc 3 1, 3) := dk_132 3 1 (dk_at dksJ6_clear_1 13 rfl rfl)
theorem dJ6_clear_39 : decode cJ6_clear 39 = .ok (.goto (-12), 3) := dk_167 255 244 (dk_at dksJ6_clear_1 16 rfl rfl)
theorem dJ6_clear_42 : decode cJ6_clear 42 = .ok (.return_, 1) := dk_177 (dk_at dksJ6_clear_1 19 rfl rfl)
def dkwJ6_set_0 : List UInt8 := [27, 42, 180, 0, 48, 184, 0, 118, 87, 42, 27, 182, 0, 123, 78, 42, 180, 0, 9, 27, 44, 83, 45, 176]
abbrev dktJ6_set_0 : List UInt8 := dkwJ6_set_0 ++ []
theorem dksJ6_set_0 : cJ6_set.data.toList.drop 0 = dktJ6_set_0 := by decide +kernel
theorem dJ6_set_0 : decode cJ6_set 0 = .ok (.iload_n 1, 1) := dk_27 (dk_at dksJ6_set_0 0 rfl rfl)
theorem dJ6_set_1 : decode cJ6_set 1 = .ok (.aload_n 0, 1) := dk_42 (dk_at dksJ6_set_0 1 rfl rfl)
theorem dJ6_set_2 : decode cJ6_set 2 = .ok (.getfield 48, 3) := dk_180 0 48 (dk_at dksJ6_set_0 2 rfl rfl)
theorem dJ6_set_5 : decode cJ6_set 5 = .ok (.invokestatic 118, 3) := dk_184 0 118 (dk_at dksJ6_set_0 5 rfl rfl)
theorem dJ6_set_8 : decode cJ6_set 8 = .ok (.pop, 1) := dk_87 (dk_at dksJ6_set_0 8 rfl rfl)
theorem dJ6_set_9 : decode cJ6_set 9 = .ok (.aload_n 0, 1) := dk_42 (dk_at dksJ6_set_0 9 rfl rfl)
theorem dJ6_set_10 : decode cJ6_set 10 = .ok (.iload_n 1, 1) := dk_27 (dk_at dksJ6_set_0 10 rfl rfl)
theorem dJ6_set_11 : decode cJ6_set 11 = .ok (.invokevirtual 123, 3) := dk_182 0 123 (dk_at dksJ6_set_0 11 rfl rfl)
theorem dJ6_set_14 : decode cJ6_set 14 = .ok (.astore_n 3, 1) := dk_78 (dk_at dksJ6_set_0 14 rfl rfl)
theorem dJ6_set_15 : decode cJ6_set 15 = .ok (.aload_n 0, 1) := dk_42 (dk_at dksJ6_set_0 15 rfl rfl)
theorem dJ6_set_16 : decode cJ6_set 16 = .ok (.getfield 9, 3) := dk_180 0 9 (dk_at dksJ6_set_0 16 rfl rfl)
theorem dJ6_set_19 : decode cJ6_set 19 = .ok (.iload_n 1, 1) := dk_27 (dk_at dksJ6_set_0 19 rfl rfl)
theorem dJ6_set_20 : decode cJ6_set 20 = .ok (.aload_n 2, 1) := dk_44 (dk_at dksJ6_set_0 20 rfl rfl)
theorem dJ6_set_21 : decode cJ6_set 21 = .ok (.aastore, 1) := dk_83 (dk_at dksJ6_set_0 21 rfl rfl)
theorem dJ6_set_22 : decode cJ6_set 22 = .ok (.aload_n 3, 1) := dk_45 (dk_at dksJ6_set_0 22 rfl rfl)
theorem dJ6_set_23 : decode cJ6_set 23 = .ok (.areturn, 1) := dk_176 (dk_at dksJ6_set_0 23 rfl rfl)
def dkwJ6_remove_1 : List UInt8 := [45, 176]
abbrev dktJ6_remove_1 : List UInt8 := dkwJ6_remove_1 ++ []
def dkwJ6_remove_0 : List UInt8 := [27, 42, 180, 0, 48, 184, 0, 118, 87, 42, 180, 0, 9, 77, 44, 27, 50, 78, 42, 44, 27, 182, 0, 144]
abbrev dktJ6_remove_0 : List UInt8 := dkwJ6_remove_0 ++ dktJ6_remove_1
theorem dksJ6_remove_0 : cJ6_remove.data.toList.drop 0 = dktJ6_remove_0 := by decide +kernel
theorem dksJ6_remove_1 : cJ6_remove.data.toList.drop 24 = dktJ6_remove_1 := dk_seg dksJ6_remove_0 24 rfl rfl
theorem dJ6_remove_0 : decode cJ6_remove 0 = .ok (.iload_n 1, 1) := dk_27 (dk_at dksJ6_remove_0 0 rfl rfl)
theorem dJ6_remove_1 : decode cJ6_remove 1 = .ok (.aload_n 0, 1) := dk_42 (dk_at dksJ6_remove_0 1 rfl rfl)
theorem dJ6_remove_2 : decode cJ6_remove 2 = .ok (.getfield 48, 3) := dk_180 0 48 (dk_at dksJ6_remove_0 2 rfl rfl)
theorem dJ6_remove_5 : decode cJ6_remove 5 = .ok (.invokestatic 118, 3) := dk_184 0 118 (dk_at dksJ6_remove_0 5 rfl rfl)
theorem dJ6_remove_8 : decode cJ6_remove 8 = .ok (.pop, 1) := dk_87 (dk_at dksJ6_remove_0 8 rfl rfl)
theorem dJ6_remove_9 : decode cJ6_remove 9 = .ok (.aload_n 0, 1) := dk_42 (dk_at dksJ6_remove_0 9 rfl rfl)
theorem dJ6_remove_10 : decode cJ6_remove 10 = .ok (.getfield 9, 3) := dk_180 0 9 (dk_at dksJ6_remove_0 10 rfl rfl)
theorem dJ6_remove_13 : decode cJ6_remove 13 = .ok (.astore_n 2, 1) := dk_77 (dk_at dksJ6_remove_0 13 rfl rfl)
theorem dJ6_remove_14 : decode cJ6_remove 14 = .ok (.aload_n 2, 1) := dk_44 (dk_at dksJ6_remove_0 14 rfl rfl)
theorem dJ6_remove_15 : decode cJ6_remove 15 = .ok (.iload_n 1, 1) := dk_27 (dk_at dksJ6_remove_0 15 rfl rfl)
theorem dJ6_remove_16 : decode cJ6_remove 16 = .ok (.aaload, 1) := dk_50 (dk_at dksJ6_remove_0 16 rfl rfl)
theorem dJ6_remove_17 : decode cJ6_remove 17 = .ok (.astore_n 3, 1) := dk_78 (dk_at dksJ6_remove_0 17 rfl rfl)
theorem dJ6_remove_18 : decode cJ6_remove 18 = .ok (.aload_n 0, 1) := dk_42 (dk_at dksJ6_remove_0 18 rfl rfl)
theorem dJ6_remove_19 : decode cJ6_remove 19 = .ok (.aload_n 2, 1) := dk_44 (dk_at dksJ6_remove_0 19 rfl rfl)
theorem dJ6_remove_20 : decode cJ6_remove 20 = .ok (.iload_n 1, 1) := dk_27 (dk_at dksJ6_remove_0 20 rfl rfl)
theorem dJ6_remove_21 : decode cJ6_remove 21 = .ok (.invokevirtual 144, 3) := dk_182 0 144 (dk_at dksJ6_remove_0 21 rfl rfl)
theorem dJ6_remove_24 : decode cJ6_remove 24 = .ok (.aload_n 3, 1) := dk_45 (dk_at dksJ6_remove_1 0 rfl rfl)
theorem dJ6_remove_25 : decode cJ6_remove 25 = .ok (.areturn, 1) := dk_176 (dk_at dksJ6_remove_1 1 rfl rfl)
def dkwJ6_fastRemove_1 : List UInt8 := [4, 96, 43, 28, 29, 28, 100, 184, 0, 112, 43, 42, 29, 90, 181, 0, 48, 1, 83, 177]
abbrev dktJ6_fastRemove_1 : List UInt8 := dkwJ6_fastRemove_1 ++ []
def dkwJ6_fastRemove_0 : List UInt8 := [42, 89, 180, 0, 63, 4, 96, 181, 0, 63, 42, 180, 0, 48, 4, 100, 89, 62, 28, 164, 0, 15, 43, 28]
abbrev dktJ6_fastRemove_0 : List UInt8 := dkwJ6_fastRemove_0 ++ dktJ6_fastRemove_1
theorem dksJ6_fastRemove_0 : cJ6_fastRemove.data.toList.drop 0 = dktJ6_fastRemove_0 := by decide +kernel
theorem dksJ6_fastRemove_1 : cJ6_fastRemove.data.toList.drop 24 = dktJ6_fastRemove_1 := dk_seg dksJ6_fastRemove_0 24 rfl rfl
theorem dJ6_fastRemove_0 : decode cJ6_fastRemove 0 = .ok (.aload_n 0, 1) := dk_42 (dk_at dksJ6_fastRemove_0 0 rfl rfl)
theorem dJ6_fastRemove_1 : decode cJ6_fastRemove 1 = .ok (.dup, 1) := dk_89 (dk_at dksJ6_fastRemove_0 1 rfl rfl)
theorem dJ6_fastRemove_2 : decode cJ6_fastRemove 2 = .ok (.getfield 63, 3) := dk_180 0 63 (dk_at dksJ6_fastRemove_0 2 rfl rfl)
theorem dJ6_fastRemove_5 : decode cJ6_fastRemove 5 = .ok (.iconst 1, 1) := dk_4 (dk_at dksJ6_fastRemove_0 5 rfl rfl)
theorem dJ6_fastRemove_6 : decode cJ6_fastRemove 6 = .ok (.iadd, 1) := dk_96 (dk_at dksJ6_fastRemove_0 6 rfl rfl)
theorem dJ6_fastRemove_7 : decode cJ6_fastRemove 7 = .ok (.putfield 63, 3) := dk_181 0 63 (dk_at dksJ6_fastRemove_0 7 rfl rfl)
theorem dJ6_fastRemove_10 : decode cJ6_fastRemove 10 = .ok (.aload_n 0, 1) := dk_42 (dk_at dksJ6_fastRemove_0 10 rfl rfl)
theorem dJ6_fastRemove_11 : decode cJ6_fastRemove 11 = .ok (.getfield 48, 3) := dk_180 0 48 (dk_at dksJ6_fastRemove_0 11 rfl rfl)
theorem dJ6_fastRemove_14 : decode cJ6_fastRemove 14 = .ok (.iconst 1, 1) := dk_4 (dk_at dksJ6_fastRemove_0 14 rfl rfl)
theorem dJ6_fastRemove_15 : decode cJ6_fastRemove 15 = .ok (.isub, 1) := dk_100 (dk_at dksJ6_fastRemove_0 15 rfl rfl)
theorem dJ6_fastRemove_16 : decode cJ6_fastRemove 16 = .ok (.dup, 1) := dk_89 (dk_at dksJ6_fastRemove_0 16 rfl rfl)
theorem dJ6_fastRemove_17 : decode cJ6_fastRemove 17 = .ok (.istore_n 3, 1) := dk_62 (dk_at dksJ6_fastRemove_0 17 rfl rfl)
theorem dJ6_fastRemove_18 : decode cJ6_fastRemove 18 = .ok (.iload_n 2, 1) := dk_28 (dk_at dksJ6_fastRemove_0 18 rfl rfl)
theorem dJ6_fastRemove_19 : decode cJ6_fastRemove 19 = .ok (.if_icmp .le 15, 3) := dk_164 0 15 (dk_at dksJ6_fastRemove_0 19 rfl rfl)
theorem dJ6_fastRemove_22 : decode cJ6_fastRemove 22 = .ok (.aload_n 1, 1) := dk_43 (dk_at dksJ6_fastRemove_0 22 rfl rfl)
theorem dJ6_fastRemove_23 : decode cJ6_fastRemove 23 = .ok (.iload_n 2, 1) := dk_28 (dk_at dksJ6_fastRemove_0 23 rfl rfl)
theorem dJ6_fastRemove_24 : decode cJ6_fastRemove 24 = .ok (.iconst 1, 1) := dk_4 (dk_at dksJ6_fastRemove_1 0 rfl rfl)
theorem dJ6_fastRemove_25 : decode cJ6_fastRemove 25 = .ok (.iadd, 1) := dk_96 (dk_at dksJ6_fastRemove_1 1 rfl rfl)
theorem dJ6_fastRemove_26 : decode cJ6_fastRemove 26 = .ok (.aload_n 1, 1) := dk_43 (dk_at dksJ6_fastRemove_1 2 rfl rfl)
theorem dJ6_fastRemove_27 : decode cJ6_fastRemove 27 = .ok (.iload_n 2, 1) := dk_28 (dk_at dksJ6_fastRemove_1 3 rfl rfl)
theorem dJ6_fastRemove_28 : decode cJ6_fastRemove 28 = .ok (.iload_n 3, 1) := dk_29 (dk_at dksJ6_fastRemove_1 4 rfl rfl)
theorem dJ6_fastRemove_29 : decode cJ6_fastRemove 29 = .ok (.iload_n 2, 1) := dk_28 (dk_at dksJ6_fastRemove_1 5 rfl rfl)
theorem dJ6_fastRemove_30 : decode cJ6_fastRemove 30 = .ok (.isub, 1) := dk_100 (dk_at dksJ6_fastRemove_1 6 rfl rfl)
theorem dJ6_fastRemove_31 : decode cJ6_fastRemove 31 = .ok (.invokestatic 112, 3) := dk_184 0 112 (dk_at dksJ6_fastRemove_1 7 rfl rfl)
theorem dJ6_fastRemove_34 : decode cJ6_fastRemove 34 = .ok (.aload_n 1, 1) := dk_43 (dk_at dksJ6_fastRemove_1 10 rfl rfl)
theorem dJ6_fastRemove_35 : decode cJ6_fastRemove 35 = .ok (.aload_n 0, 1) := dk_42 (dk_at dksJ6_fastRemove_1 11 rfl rfl)
theorem dJ6_fastRemove_36 : decode cJ6_fastRemove 36 = .ok (.iload_n 3, 1) := dk_29 (dk_at dksJ6_fastRemove_1 12 rfl rfl)
theorem dJ6_fastRemove_37 : decode cJ6_fastRemove 37 = .ok (.dup_x1, 1) := dk_90 (dk_at dksJ6_fastRemove_1 13 rfl rfl)
theorem dJ6_fastRemove_38 : decode cJ6_fastRemove 38 = .ok (.putfield 48, 3) := dk_181 0 48 (dk_at dksJ6_fastRemove_1 14 rfl rfl)
theorem dJ6_fastRemove_41 : decode cJ6_fastRemove 41 = .ok (.aconst_null, 1) := dk_1 (dk_at dksJ6_fastRemove_1 17 rfl rfl)
theorem dJ6_fastRemove_42 : decode cJ6_fastRemove 42 = .ok (.aastore, 1) := dk_83 (dk_at dksJ6_fastRemove_1 18 rfl rfl)
theorem dJ6_fastRemove_43 : decode cJ6_fastRemove 43 = .ok (.return_, 1) := dk_177 (dk_at dksJ6_fastRemove_1 19 rfl rfl)
def dkwJ23_copyOf_3_0 : List UInt8 := [42, 27, 42, 182, 0, 86, 184, 1, 44, 176]
abbrev dktJ23_copyOf_3_0 : List UInt8 := dkwJ23_copyOf_3_0 ++ []
theorem dksJ23_copyOf_3_0 : cJ23_copyOf_3.data.toList.drop 0 = dktJ23_copyOf_3_0 := by decide +kernel
theorem dJ23_copyOf_3_0 : decode cJ23_copyOf_3 0 = .ok (.aload_n 0, 1) := dk_42 (dk_at dksJ23_copyOf_3_0 0 rfl rfl)
theorem dJ23_copyOf_3_1 : decode cJ23_copyOf_3 1 = .ok (.iload_n 1, 1) := dk_27 (dk_at dksJ23_copyOf_3_0 1 rfl rfl)
theorem dJ23_copyOf_3_2 : decode cJ23_copyOf_3 2 = .ok (.aload_n 0, 1) := dk_42 (dk_at dksJ23_copyOf_3_0 2 rfl rfl)
theorem dJ23_copyOf_3_3 : decode cJ23_copyOf_3 3 = .ok (.invokevirtual 86, 3) := dk_182 0 86 (dk_at dksJ23_copyOf_3_0 3 rfl rfl)
theorem dJ23_copyOf_3_6 : decode cJ23_copyOf_3 6 = .ok (.invokestatic 300, 3) := dk_184 1 44 (dk_at dksJ23_copyOf_3_0 6 rfl rfl)
theorem dJ23_copyOf_3_9 : decode cJ23_copyOf_3 9 = .ok (.areturn, 1) := dk_176 (dk_at dksJ23_copyOf_3_0 9 rfl rfl)
def dkwJ23_copyOf_4_1 : List UInt8 := [78, 42, 3, 45, 3, 42, 190, 27, 184, 1, 48, 184, 0, 150, 45, 176]
abbrev dktJ23_copyOf_4_1 : List UInt8 := dkwJ23_copyOf_4_1 ++ []
def dkwJ23_copyOf_4_0 : List UInt8 := [44, 18, 110, 166, 0, 10, 27, 189, 0, 2, 167, 0, 14, 44, 182, 0, 90, 27, 184, 0, 95, 192, 0, 110]
abbrev dktJ23_copyOf_4_0 : List UInt8 := dkwJ23_copyOf_4_0 ++ dktJ23_copyOf_4_1
theorem dksJ23_copyOf_4_0 : cJ23_copyOf_4.data.toList.drop 0 = dktJ23_copyOf_4_0 := by decide +kernel
theorem dksJ23_copyOf_4_1 : cJ23_copyOf_4.data.toList.drop 24 = dktJ23_copyOf_4_1 := dk_seg dksJ23_copyOf_4_0 24 rfl rfl
theorem dJ23_copyOf_4_0 : decode cJ23_copyOf_4 0 = .ok (.aload_n 2, 1) := dk_44 (dk_at dksJ23_copyOf_4_0 0 rfl rfl)
theorem dJ23_copyOf_4_1 : decode cJ23_copyOf_4 1 = .ok (.ldc 110, 2) := dk_18 110 (dk_at dksJ23_copyOf_4_0 1 rfl rfl)
theorem dJ23_copyOf_4_3 : decode cJ23_copyOf_4 3 = .ok (.if_acmp .ne 10, 3) := dk_166 0 10 (dk_at dksJ23_copyOf_4_0 3 rfl rfl)
theorem dJ23_copyOf_4_6 : decode cJ23_copyOf_4 6 = .ok (.iload_n 1, 1) := dk_27 (dk_at dksJ23_copyOf_4_0 6 rfl rfl)
theorem dJ23_copyOf_4_7 : decode cJ23_copyOf_4 7 = .ok (.anewarray 2, 3) := dk_189 0 2 (dk_at dksJ23_copyOf_4_0 7 rfl rfl)
theorem dJ23_copyOf_4_10 : decode cJ23_copyOf_4 10 = .ok (.goto 14, 3) := dk_167 0 14 (dk_at dksJ23_copyOf_4_0 10 rfl rfl)
theorem dJ23_copyOf_4_13 : decode cJ23_copyOf_4 13 = .ok (.aload_n 2, 1) := dk_44 (dk_at dksJ23_copyOf_4_0 13 rfl rfl)
theorem dJ23_copyOf_4_14 : decode cJ23_copyOf_4 14 = .ok (.invokevirtual 90, 3) := dk_182 0 90 (dk_at dksJ23_copyOf_4_0 14 rfl rfl)
theorem dJ23_copyOf_4_17 : decode cJ23_copyOf_4 17 = .ok (.iload_n 1, 1) := dk_27 (dk_at dksJ23_copyOf_4_0 17 rfl rfl)
theorem dJ23_copyOf_4_18 : decode cJ23_copyOf_4 18 = .ok (.invokestatic 95, 3) := dk_184 0 95 (dk_at dksJ23_copyOf_4_0 18 rfl rfl)
theorem dJ23_copyOf_4_21 : decode cJ23_copyOf_4 21 = .ok (.checkcast 110, 3) := dk_192 0 110 (dk_at dksJ23_copyOf_4_0 21 rfl rfl)
theorem dJ23_copyOf_4_24 : decode cJ23_copyOf_4 24 = .ok (.astore_n 3, 1) := dk_78 (dk_at dksJ23_copyOf_4_1 0 rfl rfl)
theorem dJ23_copyOf_4_25 : decode cJ23_copyOf_4 25 = .ok (.aload_n 0, 1) := dk_42 (dk_at dksJ23_copyOf_4_1 1 rfl rfl)
theorem dJ23_copyOf_4_26 : decode cJ23_copyOf_4 26 = .ok (.iconst 0, 1) := dk_3 (dk_at dksJ23_copyOf_4_1 2 rfl rfl)
theorem dJ23_copyOf_4_27 : decode cJ23_copyOf_4 27 = .ok (.aload_n 3, 1) := dk_45 (dk_at dksJ23_copyOf_4_1 3 rfl rfl)
theorem dJ23_copyOf_4_28 : decode cJ23_copyOf_4 28 = .ok (.iconst 0, 1) := dk_3 (dk_at dksJ23_copyOf_4_1 4 rfl rfl)
theorem dJ23_copyOf_4_29 : decode cJ23_copyOf_4 29 = .ok (.aload_n 0, 1) := dk_42 (dk_at dksJ23_copyOf_4_1 5 rfl rfl)
theorem dJ23_copyOf_4_30 : decode cJ23_copyOf_4 30 = .ok (.arraylength, 1) := dk_190 (dk_at dksJ23_copyOf_4_1 6 rfl rfl)
theorem dJ23_copyOf_4_31 : decode cJ23_copyOf_4 31 = .ok (.iload_n 1, 1) := dk_27 (dk_at dksJ23_copyOf_4_1 7 rfl rfl)
theorem dJ23_copyOf_4_32 : decode cJ23_copyOf_4 32 = .ok (.invokestatic 304, 3) := dk_184 1 48 (dk_at dksJ23_copyOf_4_1 8 rfl rfl)
theorem dJ23_copyOf_4_35 : decode cJ23_copyOf_4 35 = .ok (.invokestatic 150, 3) := dk_184 0 150 (dk_at dksJ23_copyOf_4_1 11 rfl rfl)
theorem dJ23_copyOf_4_38 : decode cJ23_copyOf_4 38 = .ok (.aload_n 3, 1) := dk_45 (dk_at dksJ23_copyOf_4_1 14 rfl rfl)
theorem dJ23_copyOf_4_39 : decode cJ23_copyOf_4 39 = .ok (.areturn, 1) := dk_176 (dk_at dksJ23_copyOf_4_1 15 rfl rfl)
def dkwJ25_checkIndex_0 : List UInt8 := [26, 27, 1, 184, 0, 105, 172]
abbrev dktJ25_checkIndex_0 : List UInt8 := dkwJ25_checkIndex_0 ++ []
theorem dksJ25_checkIndex_0 : cJ25_checkIndex.data.toList.drop 0 = dktJ25_checkIndex_0 := by decide +kernel
theorem dJ25_checkIndex_0 : decode cJ25_checkIndex 0 = .ok (.iload_n 0, 1) := dk_26 (dk_at dksJ25_checkIndex_0 0 rfl rfl)
theorem dJ25_checkIndex_1 : decode cJ25_checkIndex 1 = .ok (.iload_n 1, 1) := dk_27 (dk_at dksJ25_checkIndex_0 1 rfl rfl)
theorem dJ25_checkIndex_2 : decode cJ25_checkIndex 2 = .ok (.aconst_null, 1) := dk_1 (dk_at dksJ25_checkIndex_0 2 rfl rfl)
theorem dJ25_checkIndex_3 : decode cJ25_checkIndex 3 = .ok (.invokestatic 105, 3) := dk_184 0 105 (dk_at dksJ25_checkIndex_0 3 rfl rfl)
theorem dJ25_checkIndex_6 : decode cJ25_checkIndex 6 = .ok (.ireturn, 1) := dk_172 (dk_at dksJ25_checkIndex_0 6 rfl rfl)
def dkwJ26_checkIndex_0 : List UInt8 := [26, 155, 0, 8, 26, 27, 161, 0, 10, 44, 26, 27, 184, 0, 95, 191, 26, 172]
abbrev dktJ26_checkIndex_0 : List UInt8 := dkwJ26_checkIndex_0 ++ []
theorem dksJ26_checkIndex_0 : cJ26_checkIndex.data.toList.drop 0 = dktJ26_checkIndex_0 := by decide +kernel
theorem dJ26_checkIndex_0 : decode cJ26_checkIndex 0 = .ok (.iload_n 0, 1) := dk_26 (dk_at dksJ26_checkIndex_0 0 rfl rfl)
theorem dJ26_checkIndex_1 : decode cJ26_checkIndex 1 = .ok (.ifCond .lt 8, 3) := dk_155 0 8 (dk_at dksJ26_checkIndex_0 1 rfl rfl)
theorem dJ26_checkIndex_4 : decode cJ26_checkIndex 4 = .ok (.iload_n 0, 1) := dk_26 (dk_at dksJ26_checkIndex_0 4 rfl rfl)
theorem dJ26_checkIndex_5 : decode cJ26_checkIndex 5 = .ok (.iload_n 1, 1) := dk_27 (dk_at dksJ26_checkIndex_0 5 rfl rfl)
theorem dJ26_checkIndex_6 : decode cJ26_checkIndex 6 = .ok (.if_icmp .lt 10, 3) := dk_161 0 10 (dk_at dksJ26_checkIndex_0 6 rfl rfl)
theorem dJ26_checkIndex_9 : decode cJ26_checkIndex 9 = .ok (.aload_n 2, 1) := dk_44 (dk_at dksJ26_checkIndex_0 9 rfl rfl)
theorem dJ26_checkIndex_10 : decode cJ26_checkIndex 10 = .ok (.iload_n 0, 1) := dk_26 (dk_at dksJ26_checkIndex_0 10 rfl rfl)
theorem dJ26_checkIndex_11 : decode cJ26_checkIndex 11 = .ok (.iload_n 1, 1) := dk_27 (dk_at dksJ26_checkIndex_0 11 rfl rfl)
theorem dJ26_checkIndex_12 : decode cJ26_checkIndex 12 = .ok (.invokestatic 95, 3) := dk_184 0 95 (dk_at dksJ26_checkIndex_0 12 rfl rfl)
theorem dJ26_checkIndex_15 : decode cJ26_checkIndex 15 = .ok (.athrow, 1) := dk_191 (dk_at dksJ26_checkIndex_0 15 rfl rfl)
theorem dJ26_checkIndex_16 : decode cJ26_checkIndex 16 = .ok (.iload_n 0, 1) := dk_26 (dk_at dksJ26_checkIndex_0 16 rfl rfl)
theorem dJ26_checkIndex_17 : decode cJ26_checkIndex 17 = .ok (.ireturn, 1) := dk_172 (dk_at dksJ26_checkIndex_0 17 rfl rfl)
def dkwJ27_newLength_1 : List UInt8 := [184, 0, 201, 172]
abbrev dktJ27_newLength_1 : List UInt8 := dkwJ27_newLength_1 ++ []
def dkwJ27_newLength_0 : List UInt8 := [26, 27, 28, 184, 0, 194, 96, 62, 3, 29, 162, 0, 11, 29, 18, 200, 163, 0, 5, 29, 172, 26, 27]
abbrev dktJ27_newLength_0 : List UInt8 := dkwJ27_newLength_0 ++ dktJ27_newLength_1
theorem dksJ27_newLength_0 : cJ27_newLength.data.toList.drop 0 = dktJ27_newLength_0 := by decide +kernel
theorem dksJ27_newLength_1 : cJ27_newLength.data.toList.drop 23 = dktJ27_newLength_1 := dk_seg dksJ27_newLength_0 23 rfl rfl
theorem dJ27_newLength_0 : decode cJ27_newLength 0 = .ok (.iload_n 0, 1) := dk_26 (dk_at dksJ27_newLength_0 0 rfl rfl)
theorem dJ27_newLength_1 : decode cJ27_newLength 1 = .ok (.iload_n 1, 1) := dk_27 (dk_at dksJ27_newLength_0 1 rfl rfl)
theorem dJ27_newLength_2 : decode cJ27_newLength 2 = .ok (.iload_n 2, 1) := dk_28 (dk_at dksJ27_newLength_0 2 rfl rfl)
theorem dJ27_newLength_3 : decode cJ27_newLength 3 = .ok (.invokestatic 194, 3) := dk_184 0 194 (dk_at dksJ27_newLength_0 3 rfl rfl)
theorem dJ27_newLength_6 : decode cJ27_newLength 6 = .ok (.iadd, 1) := dk_96 (dk_at dksJ27_newLength_0 6 rfl rfl)
theorem dJ27_newLength_7 : decode cJ27_newLength 7 = .ok (.istore_n 3, 1) := dk_62 (dk_at dksJ27_newLength_0 7 rfl rfl)
theorem dJ27_newLength_8 : decode cJ27_newLength 8 = .ok (.iconst 0, 1) := dk_3 (dk_at dksJ27_newLength_0 8 rfl rfl)
theorem dJ27_newLength_9 : decode cJ27_newLength 9 = .ok (.iload_n 3, 1) := dk_29 (dk_at dksJ27_newLength_0 9 rfl rfl)
theorem dJ27_newLength_10 : decode cJ27_newLength 10 = .ok (.if_icmp .ge 11, 3) := dk_162 0 11 (dk_at dksJ27_newLength_0 10 rfl rfl)
theorem dJ27_newLength_13 : decode cJ27_newLength 13 = .ok (.iload_n 3, 1) := dk_29 (dk_at dksJ27_newLength_0 13 rfl rfl)
theorem dJ27_newLength_14 : decode cJ27_newLength 14 = .ok (.ldc 200, 2) := dk_18 200 (dk_at dksJ27_newLength_0 14 rfl rfl)
theorem dJ27_newLength_16 : decode cJ27_newLength 16 = .ok (.if_icmp .gt 5, 3) := dk_163 0 5 (dk_at dksJ27_newLength_0 16 rfl rfl)
theorem dJ27_newLength_19 : decode cJ27_newLength 19 = .ok (.iload_n 3, 1) := dk_29 (dk_at dksJ27_newLength_0 19 rfl rfl)
theorem dJ27_newLength_20 : decode cJ27_newLength 20 = .ok (.ireturn, 1) := dk_172 (dk_at dksJ27_newLength_0 20 rfl rfl)
theorem dJ27_newLength_21 : decode cJ27_newLength 21 = .ok (.iload_n 0, 1) := dk_26 (dk_at dksJ27_newLength_0 21 rfl rfl)
theorem dJ27_newLength_22 : decode cJ27_newLength 22 = .ok (.iload_n 1, 1) := dk_27 (dk_at dksJ27_newLength_0 22 rfl rfl)
theorem dJ27_newLength_23 : decode cJ27_newLength 23 = .ok (.invokestatic 201, 3) := dk_184 0 201 (dk_at dksJ27_newLength_1 0 rfl rfl)
theorem dJ27_newLength_26 : decode cJ27_newLength 26 = .ok (.ireturn, 1) := dk_172 (dk_at dksJ27_newLength_1 3 rfl rfl)
def dkwJ43_init_1 : List UInt8 := [181, 0, 22, 177]
abbrev dktJ43_init_1 : List UInt8 := dkwJ43_init_1 ++ []
def dkwJ43_init_0 : List UInt8 := [42, 43, 181, 0, 1, 42, 183, 0, 7, 42, 2, 181, 0, 13, 42, 42, 180, 0, 1, 180, 0, 17]
abbrev dktJ43_init_0 : List UInt8 := dkwJ43_init_0 ++ dktJ43_init_1
theorem dksJ43_init_0 : cJ43_init.data.toList.drop 0 = dktJ43_init_0 := by decide +kernel
theorem dksJ43_init_1 : cJ43_init.data.toList.drop 22 = dktJ43_init_1 := dk_seg dksJ43_init_0 22 rfl rfl
theorem dJ43_init_0 : decode cJ43_init 0 = .ok (.aload_n 0, 1) := dk_42 (dk_at dksJ43_init_0 0 rfl rfl)
theorem dJ43_init_1 : decode cJ43_init 1 = .ok (.aload_n 1, 1) := dk_43 (dk_at dksJ43_init_0 1 rfl rfl)
theorem dJ43_init_2 : decode cJ43_init 2 = .ok (.putfield 1, 3) := dk_181 0 1 (dk_at dksJ43_init_0 2 rfl rfl)
theorem dJ43_init_5 : decode cJ43_init 5 = .ok (.aload_n 0, 1) := dk_42 (dk_at dksJ43_init_0 5 rfl rfl)
theorem dJ43_init_6 : decode cJ43_init 6 = .ok (.invokespecial 7, 3) := dk_183 0 7 (dk_at dksJ43_init_0 6 rfl rfl)
theorem dJ43_init_9 : decode cJ43_init 9 = .ok (.aload_n 0, 1) := dk_42 (dk_at dksJ43_init_0 9 rfl rfl)
theorem dJ43_init_10 : decode cJ43_init 10 = .ok (.iconst (-1), 1) := dk_2 (dk_at dksJ43_init_0 10 rfl rfl)
theorem dJ43_init_11 : decode cJ43_init 11 = .ok (.putfield 13, 3) := dk_181 0 13 (dk_at dksJ43_init_0 11 rfl rfl)
theorem dJ43_init_14 : decode cJ43_init 14 = .ok (.aload_n 0, 1) := dk_42 (dk_at dksJ43_init_0 14 rfl rfl)
theorem dJ43_init_15 : decode cJ43_init 15 = .ok (.aload_n 0, 1) := dk_42 (dk_at dksJ43_init_0 15 rfl rfl)
theorem dJ43_init_16 : decode cJ43_init 16 = .ok (.getfield 1, 3) := dk_180 0 1 (dk_at dksJ43_init_0 16 rfl rfl)
theorem dJ43_init_19 : decode cJ43_init 19 = .ok (.getfield 17, 3) := dk_180 0 17 (dk_at dksJ43_init_0 19 rfl rfl)
theorem dJ43_init_22 : decode cJ43_init 22 = .ok (.putfield 22, 3) := dk_181 0 22 (dk_at dksJ43_init_1 0 rfl rfl)
theorem dJ43_init_25 : decode cJ43_init 25 = .ok (.return_, 1) := dk_177 (dk_at dksJ43_init_1 3 rfl rfl)
def dkwJ43_hasNext_0 : List UInt8 := [42, 180, 0, 25, 42, 180, 0, 1, 180, 0, 28, 159, 0, 7, 4, 167, 0, 4, 3, 172]
abbrev dktJ43_hasNext_0 : List UInt8 := dkwJ43_hasNext_0 ++ []
theorem dksJ43_hasNext_0 : cJ43_hasNext.data.toList.drop 0 = dktJ43_hasNext_0 := by decide +kernel
theorem dJ43_hasNext_0 : decode cJ43_hasNext 0 = .ok (.aload_n 0, 1) := dk_42 (dk_at dksJ43_hasNext_0 0 rfl rfl)
theorem dJ43_hasNext_1 : decode cJ43_hasNext 1 = .ok (.getfield 25, 3) := dk_180 0 25 (dk_at dksJ43_hasNext_0 1 rfl rfl)
theorem dJ43_hasNext_4 : decode cJ43_hasNext 4 = .ok (.aload_n 0, 1) := dk_42 (dk_at dksJ43_hasNext_0 4 rfl rfl)
theorem dJ43_hasNext_5 : decode cJ43_hasNext 5 = .ok (.getfield 1, 3) := dk_180 0 1 (dk_at dksJ43_hasNext_0 5 rfl rfl)
theorem dJ43_hasNext_8 : decode cJ43_hasNext 8 = .ok (.getfield 28, 3) := dk_180 0 28 (dk_at dksJ43_hasNext_0 8 rfl rfl)
theorem dJ43_hasNext_11 : decode cJ43_hasNext 11 = .ok (.if_icmp .eq 7, 3) := dk_159 0 7 (dk_at dksJ43_hasNext_0 11 rfl rfl)
theorem dJ43_hasNext_14 : decode cJ43_hasNext 14 = .ok (.iconst 1, 1) := dk_4 (dk_at dksJ43_hasNext_0 14 rfl rfl)
theorem dJ43_hasNext_15 : decode cJ43_hasNext 15 = .ok (.goto 4, 3) := dk_167 0 4 (dk_at dksJ43_hasNext_0 15 rfl rfl)
theorem dJ43_hasNext_18 : decode cJ43_hasNext 18 = .ok (.iconst 0, 1) := dk_3 (dk_at dksJ43_hasNext_0 18 rfl rfl)
theorem dJ43_hasNext_19 : decode cJ43_hasNext 19 = .ok (.ireturn, 1) := dk_172 (dk_at dksJ43_hasNext_0 19 rfl rfl)
def dkwJ43_next_2 : List UInt8 := [183, 0, 43, 191, 42, 27, 4, 96, 181, 0, 25, 44, 42, 27, 90, 181, 0, 13, 50, 176]
abbrev dktJ43_next_2 : List UInt8 := dkwJ43_next_2 ++ []
def dkwJ43_next_1 : List UInt8 := [183, 0, 36, 191, 42, 180, 0, 1, 180, 0, 37, 77, 27, 44, 190, 161, 0, 11, 187, 0, 41, 89]
abbrev dktJ43_next_1 : List UInt8 := dkwJ43_next_1 ++ dktJ43_next_2
def dkwJ43_next_0 : List UInt8 := [42, 182, 0, 31, 42, 180, 0, 25, 60, 27, 42, 180, 0, 1, 180, 0, 28, 161, 0, 11, 187, 0, 34, 89]
abbrev dktJ43_next_0 : List UInt8 := dkwJ43_next_0 ++ dktJ43_next_1
theorem dksJ43_next_0 : cJ43_next.data.toList.drop 0 = dktJ43_next_0 := by decide +kernel
theorem dksJ43_next_1 : cJ43_next.data.toList.drop 24 = dktJ43_next_1 := dk_seg dksJ43_next_0 24 rfl rfl
theorem dksJ43_next_2 : cJ43_next.data.toList.drop 46 = dktJ43_next_2 := dk_seg dksJ43_next_1 22 rfl rfl
theorem dJ43_next_0 : decode cJ43_next 0 = .ok (.aload_n 0, 1) := dk_42 (dk_at dksJ43_next_0 0 rfl rfl)
theorem dJ43_next_1 : decode cJ43_next 1 = .ok (.invokevirtual 31, 3) := dk_182 0 31 (dk_at dksJ43_next_0 1 rfl rfl)
theorem dJ43_next_4 : decode cJ43_next 4 = .ok (.aload_n 0, 1) := dk_42 (dk_at dksJ43_next_0 4 rfl rfl)
theorem dJ43_next_5 : decode cJ43_next 5 = .ok (.getfield 25, 3) := dk_180 0 25 (dk_at dksJ43_next_0 5 rfl rfl)
theorem dJ43_next_8 : decode cJ43_next 8 = .ok (.istore_n 1, 1) := dk_60 (dk_at dksJ43_next_0 8 rfl rfl)
theorem dJ43_next_9 : decode cJ43_next 9 = .ok (.iload_n 1, 1) := dk_27 (dk_at dksJ43_next_0 9 rfl rfl)
theorem dJ43_next_10 : decode cJ43_next 10 = .ok (.aload_n 0, 1) := dk_42 (dk_at dksJ43_next_0 10 rfl rfl)
theorem dJ43_next_11 : decode cJ43_next 11 = .ok (.getfield 1, 3) := dk_180 0 1 (dk_at dksJ43_next_0 11 rfl rfl)
theorem dJ43_next_14 : decode cJ43_next 14 = .ok (.getfield 28, 3) := dk_180 0 28 (dk_at dksJ43_next_0 14 rfl rfl)
theorem dJ43_next_17 : decode cJ43_next 17 = .ok (.if_icmp .lt 11, 3) := dk_161 0 11 (dk_at dksJ43_next_0 17 rfl rfl)
theorem dJ43_next_20 : decode cJ43_next 20 = .ok (.new 34, 3) := dk_187 0 34 (dk_at dksJ43_next_0 20 rfl rfl)
theorem dJ43_next_23 : decode cJ43_next 23 = .ok (.dup, 1) := dk_89 (dk_at dksJ43_next_0 23 rfl rfl)
theorem dJ43_next_24 : decode cJ43_next 24 = .ok (.invokespecial 36, 3) := dk_183 0 36 (dk_at dksJ43_next_1 0 rfl rfl)
theorem dJ43_next_27 : decode cJ43_next 27 = .ok (.athrow, 1) := dk_191 (dk_at dksJ43_next_1 3 rfl rfl)
theorem dJ43_next_28 : decode cJ43_next 28 = .ok (.aload_n 0, 1) := dk_42 (dk_at dksJ43_next_1 4 rfl rfl)
theorem dJ43_next_29 : decode cJ43_next 29 = .ok (.getfield 1, 3) := dk_180 0 1 (dk_at dksJ43_next_1 5 rfl rfl)
theorem dJ43_next_32 : decode cJ43_next 32 = .ok (.getfield 37, 3) := dk_180 0 37 (dk_at dksJ43_next_1 8 rfl rfl)
theorem dJ43_next_35 : decode cJ43_next 35 = .ok (.astore_n 2, 1) := dk_77 (dk_at dksJ43_next_1 11 rfl rfl)
theorem dJ43_next_36 : decode cJ43_next 36 = .ok (.iload_n 1, 1) := dk_27 (dk_at dksJ43_next_1 12 rfl rfl)
theorem dJ43_next_37 : decode cJ43_next 37 = .ok (.aload_n 2, 1) := dk_44 (dk_at dksJ43_next_1 13 rfl rfl)
theorem dJ43_next_38 : decode cJ43_next 38 = .ok (.arraylength, 1) := dk_190 (dk_at dksJ43_next_1 14 rfl rfl)
theorem dJ43_next_39 : decode cJ43_next 39 = .ok (.if_icmp .lt 11, 3) := dk_161 0 11 (dk_at dksJ43_next_1 15 rfl rfl)
theorem dJ43_next_42 : decode cJ43_next 42 = .ok (.new 41, 3) := dk_187 0 41 (dk_at dksJ43_next_1 18 rfl rfl)
theorem dJ43_next_45 : decode cJ43_next 45 = .ok (.dup, 1) := dk_89 (dk_at dksJ43_next_1 21 rfl rfl)
theorem dJ43_next_46 : decode cJ43_next 46 = .ok (.invokespecial 43, 3) := dk_183 0 43 (dk_at dksJ43_next_2 0 rfl rfl)
theorem dJ43_next_49 : decode cJ43_next 49 = .ok (.athrow, 1) := dk_191 (dk_at dksJ43_next_2 3 rfl rfl)
theorem dJ43_next_50 : decode cJ43_next 50 = .ok (.aload_n 0, 1) := dk_42 (dk_at dksJ43_next_2 4 rfl rfl)
theorem dJ43_next_51 : decode cJ43_next 51 = .ok (.iload_n 1, 1) := dk_27 (dk_at dksJ43_next_2 5 rfl rfl)
theorem dJ43_next_52 : decode cJ43_next 52 = .ok (.iconst 1, 1) := dk_4 (dk_at dksJ43_next_2 6 rfl rfl)
theorem dJ43_next_53 : decode cJ43_next 53 = .ok (.iadd, 1) := dk_96 (dk_at dksJ43_next_2 7 rfl rfl)
theorem dJ43_next_54 : decode cJ43_next 54 = .ok (.putfield 25, 3) := dk_181 0 25 (dk_at dksJ43_next_2 8 rfl rfl)
theorem dJ43_next_57 : decode cJ43_next 57 = .ok (.aload_n 2, 1) := dk_44 (dk_at dksJ43_next_2 11 rfl rfl)
theorem dJ43_next_58 : decode cJ43_next 58 = .ok (.aload_n 0, 1) := dk_42 (dk_at dksJ43_next_2 12 rfl rfl)
theorem dJ43_next_59 : decode cJ43_next 59 = .ok (.iload_n 1, 1) := dk_27 (dk_at dksJ43_next_2 13 rfl rfl)
theorem dJ43_next_60 : decode cJ43_next 60 = .ok (.dup_x1, 1) := dk_90 (dk_at dksJ43_next_2 14 rfl rfl)
theorem dJ43_next_61 : decode cJ43_next 61 = .ok (.putfield 13, 3) := dk_181 0 13 (dk_at dksJ43_next_2 15 rfl rfl)
theorem dJ43_next_64 : decode cJ43_next 64 = .ok (.aaload, 1) := dk_50 (dk_at dksJ43_next_2 18 rfl rfl)
theorem dJ43_next_65 : decode cJ43_next 65 = .ok (.areturn, 1) := dk_176 (dk_at dksJ43_next_2 19 rfl rfl)
def dkwJ43_checkForComodification_0 : List UInt8 := [42, 180, 0, 1, 180, 0, 17, 42, 180, 0, 22, 159, 0, 11, 187, 0, 41, 89, 183, 0, 43, 191, 177]
abbrev dktJ43_checkForComodification_0 : List UInt8 := dkwJ43_checkForComodification_0 ++ []
theorem dksJ43_checkForComodification_0 : cJ43_checkForComodification.data.toList.drop 0 = dktJ43_checkForComodification_0 := by decide +kernel
theorem dJ43_checkForComodification_0 : decode cJ43_checkForComodification 0 = .ok (.aload_n 0, 1) := dk_42 (dk_at dksJ43_checkForComodification_0 0 rfl rfl)
theorem dJ43_checkForComodification_1 : decode cJ43_checkForComodification 1 = .ok (.getfield 1, 3) := dk_180 0 1 (dk_at dksJ43_checkForComodification_0 1 rfl rfl)
theorem dJ43_checkForComodification_4 : decode cJ43_checkForComodification 4 = .ok (.getfield 17, 3) := dk_180 0 17 (dk_at dksJ43_checkForComodification_0 4 rfl rfl)
theorem dJ43_checkForComodification_7 : decode cJ43_checkForComodification 7 = .ok (.aload_n 0, 1) := dk_42 (dk_at dksJ43_checkForComodification_0 7 rfl rfl)
theorem dJ43_checkForComodification_8 : decode cJ43_checkForComodification 8 = .ok (.getfield 22, 3) := dk_180 0 22 (dk_at dksJ43_checkForComodification_0 8 rfl rfl)
theorem dJ43_checkForComodification_11 : decode cJ43_checkForComodification 11 = .ok (.if_icmp .eq 11, 3) := dk_159 0 11 (dk_at dksJ43_checkForComodification_0 11 rfl rfl)
theorem dJ43_checkForComodification_14 : decode cJ43_checkForComodification 14 = .ok (.new 41, 3) := dk_187 0 41 (dk_at dksJ43_checkForComodification_0 14 rfl rfl)
theorem dJ43_checkForComodification_17 : decode cJ43_checkForComodification 17 = .ok (.dup, 1) := dk_89 (dk_at dksJ43_checkForComodification_0 17 rfl rfl)
theorem dJ43_checkForComodification_18 : decode cJ43_checkForComodification 18 = .ok (.invokespecial 43, 3) := dk_183 0 43 (dk_at dksJ43_checkForComodification_0 18 rfl rfl)
theorem dJ43_checkForComodification_21 : decode cJ43_checkForComodification 21 = .ok (.athrow, 1) := dk_191 (dk_at dksJ43_checkForComodification_0 21 rfl rfl)
theorem dJ43_checkForComodification_22 : decode cJ43_checkForComodification 22 = .ok (.return_, 1) := dk_177 (dk_at dksJ43_checkForComodification_0 22 rfl rfl)
theorem nd_J26_checkIndex : yJ26_checkIndex.cls ≠ "java/lang/invoke/MethodHandle" ∧ yJ26_checkIndex.cls ≠ "java/lang/invoke/VarHandle" ∧ (parseMethodDescriptor yJ26_checkIndex.desc).map (fun d => d.parameters.length) = some 3 := by decide +kernel
set_option maxRecDepth 100000 in
set_option maxHeartbeats 16000000 in
theorem ct_J26_checkIndex {g : GG} {l : Launch} (k : Int) (n : Int) (hk : 0 ≤ k ∧ k < n ∧ n ≤ 2147483647) : Ct g l yJ26_checkIndex (ws_ yJ26_checkIndex cJ26_checkIndex 3 (Option.some Jvm.ClassFile.FieldType.int)) 1 12 0 0 [.int (jI k), .int (jI n), .null] [] (fun v9 Ws9 => v9 = some (.int (jI k)) ∧ Ws9 = []) (nox) := by
  refine Ct.of (cc := cJ26_checkIndex) (nL := 3) (ret := (Option.some Jvm.ClassFile.FieldType.int)) (by decide) rfl (Nat.le_of_ble_eq_true rfl) ?_
  intro x hg hl hPo hPx hmc hms F
  subst hg; subst hl
  refine SW.cast (L' := [(0, .int (jI k)), (1, .int (jI n)), (2, .null)]) ?_ rfl rfl rfl
  refine sw_iload_n (n := 1) F 0 rfl rfl dJ26_checkIndex_0 rfl ?_
  refine sw_if_lt (n := 4) F (by omega) (tgt := 9) dJ26_checkIndex_1 (by decide) rfl (fun c_1 => ?_) (fun c_1 => ?_)
  · exfalso; omega
  ·
    refine sw_iload_n (n := 5) F 0 rfl rfl dJ26_checkIndex_4 rfl ?_
    refine sw_iload_n (n := 6) F 1 rfl rfl dJ26_checkIndex_5 rfl ?_
    refine sw_icmp_lt (n := 9) F (by omega) (by omega) (tgt := 16) dJ26_checkIndex_6 (by decide) rfl (fun c_6 => ?_) (fun c_6 => ?_)
    ·
      refine sw_iload_n (n := 17) F 0 rfl rfl dJ26_checkIndex_16 rfl ?_
      exact sw_iret F _ rfl (by first | rfl | exact jI_nz (by omega) | exact jI_nc (by omega)) dJ26_checkIndex_17 (by rw [hPo]; exact ⟨rfl, rfl⟩)
    · exfalso; omega
theorem nd_J25_checkIndex : yJ25_checkIndex.cls ≠ "java/lang/invoke/MethodHandle" ∧ yJ25_checkIndex.cls ≠ "java/lang/invoke/VarHandle" ∧ (parseMethodDescriptor yJ25_checkIndex.desc).map (fun d => d.parameters.length) = some 2 := by decide +kernel
set_option maxRecDepth 100000 in
set_option maxHeartbeats 16000000 in
theorem ct_J25_checkIndex {g : GG} {l : Launch} (k : Int) (n : Int) (hk : 0 ≤ k ∧ k < n ∧ n ≤ 2147483647) : Ct g l yJ25_checkIndex (ws_ yJ25_checkIndex cJ25_checkIndex 2 (Option.some Jvm.ClassFile.FieldType.int)) 2 34 0 0 [.int (jI k), .int (jI n)] [] (fun v9 Ws9 => v9 = some (.int (jI k)) ∧ Ws9 = []) (nox) := by
  refine Ct.of (cc := cJ25_checkIndex) (nL := 2) (ret := (Option.some Jvm.ClassFile.FieldType.int)) (by decide) rfl (Nat.le_of_ble_eq_true rfl) ?_
  intro x hg hl hPo hPx hmc hms F
  subst hg; subst hl
  refine SW.cast (L' := [(0, .int (jI k)), (1, .int (jI n))]) ?_ rfl rfl rfl
  refine sw_iload_n (n := 1) F 0 rfl rfl dJ25_checkIndex_0 rfl ?_
  refine sw_iload_n (n := 2) F 1 rfl rfl dJ25_checkIndex_1 rfl ?_
  refine sw_null (n := 3) F dJ25_checkIndex_2 rfl ?_
  refine sw_callS (n := 6) F (ct_J26_checkIndex (g := xg x) (l := xl x) k n hk) q3381 q446 q135 q447 nd_J26_checkIndex rfl (by decide) [] rfl [] rfl 0 0 ⟨by omega, by omega⟩ [] rfl (Nat.le_of_ble_eq_true rfl) dJ25_checkIndex_3 rfl (fun _ _ h => h.elim) (fun v Ws h => ?_)
  obtain ⟨rfl, rfl⟩ := h
  show SW x [] _ _ _ _ [.int (jI k)]
  exact sw_iret F _ rfl (by first | rfl | exact jI_nz (by omega) | exact jI_nc (by omega)) dJ25_checkIndex_6 (by rw [hPo]; exact ⟨rfl, rfl⟩)
theorem nd_J27_newLength : yJ27_newLength.cls ≠ "java/lang/invoke/MethodHandle" ∧ yJ27_newLength.cls ≠ "java/lang/invoke/VarHandle" ∧ (parseMethodDescriptor yJ27_newLength.desc).map (fun d => d.parameters.length) = some 3 := by decide +kernel
set_option maxRecDepth 100000 in
set_option maxHeartbeats 16000000 in
theorem ct_J27_newLength {g : GG} {l : Launch} (a : Int) (b : Int) (c : Int) (ha : 0 ≤ a ∧ a ≤ 1000) (hb : 1 ≤ b ∧ b ≤ 1000) (hc : 0 ≤ c ∧ c ≤ 1000) : Ct g l yJ27_newLength (ws_ yJ27_newLength cJ27_newLength 4 (Option.some Jvm.ClassFile.FieldType.int)) 1 14 0 0 [.int (jI a), .int (jI b), .int (jI c)] [] (fun v9 Ws9 => v9 = some (.int (jI (a + max (b : Int) (c : Int)))) ∧ Ws9 = []) (nox) := by
  refine Ct.of (cc := cJ27_newLength) (nL := 4) (ret := (Option.some Jvm.ClassFile.FieldType.int)) (by decide) rfl (Nat.le_of_ble_eq_true rfl) ?_
  intro x hg hl hPo hPx hmc hms F
  subst hg; subst hl
  refine SW.cast (L' := [(0, .int (jI a)), (1, .int (jI b)), (2, .int (jI c))]) ?_ rfl rfl rfl
  refine sw_iload_n (n := 1) F 0 rfl rfl dJ27_newLength_0 rfl ?_
  refine sw_iload_n (n := 2) F 1 rfl rfl dJ27_newLength_1 rfl ?_
  refine sw_iload_n (n := 3) F 2 rfl rfl dJ27_newLength_2 rfl ?_
  refine sw_mmax (n := 6) F (by omega) (by omega) q509 q510 q132 q511 ⟨by decide, Nat.le_of_ble_eq_true rfl⟩ dJ27_newLength_3 rfl ?_
  refine sw_iadd (n := 7) F dJ27_newLength_6 rfl ?_
  refine sw_istore_n (n := 8) F (L2 := [(3, .int (jI (a + (max b c)))), (0, .int (jI a)), (1, .int (jI b)), (2, .int (jI c))]) rfl (by decide) rfl dJ27_newLength_7 rfl ?_
  refine sw_iconst (n := 9) F (0) (by decide) dJ27_newLength_8 rfl ?_
  refine sw_iload_n (n := 10) F 0 rfl rfl dJ27_newLength_9 rfl ?_
  refine sw_icmp_ge (n := 13) F (by decide) (by omega) (tgt := 21) dJ27_newLength_10 (by decide) rfl (fun c_10 => ?_) (fun c_10 => ?_)
  · exfalso; omega
  ·
    refine sw_iload_n (n := 14) F 0 rfl rfl dJ27_newLength_13 rfl ?_
    refine sw_ldc (n := 16) F (2147483639) q512 (by decide) dJ27_newLength_14 rfl ?_
    refine sw_icmp_gt (n := 19) F (by omega) (by decide) (tgt := 21) dJ27_newLength_16 (by decide) rfl (fun c_16 => ?_) (fun c_16 => ?_)
    · exfalso; omega
    ·
      refine sw_iload_n (n := 20) F 0 rfl rfl dJ27_newLength_19 rfl ?_
      exact sw_iret F _ rfl (by first | rfl | exact jI_nz (by omega) | exact jI_nc (by omega)) dJ27_newLength_20 (by rw [hPo]; exact ⟨(by first | (congr 3; omega) | (congr 2; omega) | rfl), rfl⟩)
theorem nd_J23_copyOf_4 : yJ23_copyOf_4.cls ≠ "java/lang/invoke/MethodHandle" ∧ yJ23_copyOf_4.cls ≠ "java/lang/invoke/VarHandle" ∧ (parseMethodDescriptor yJ23_copyOf_4.desc).map (fun d => d.parameters.length) = some 3 := by decide +kernel
set_option maxRecDepth 100000 in
set_option maxHeartbeats 16000000 in
theorem ct_J23_copyOf_4 {g : GG} {l : Launch} (P0 : HP) (a : Nat) (N : Nat) (f : Nat → Option Nat) (m : Nat) (mi : Nat) (hN : N ≤ m ∧ m ≤ 300) (hel : ∀ k, k < N → ∀ v, f k = some v → kno g P0 v "java/lang/Object") (hmi : va_Mi "[Ljava/lang/Object;" mi (gS g)) : Ct g l yJ23_copyOf_4 (ws_ yJ23_copyOf_4 cJ23_copyOf_4 4 (Option.some (Jvm.ClassFile.FieldType.array (Jvm.ClassFile.FieldType.object "java/lang/Object")))) 1 30 1 300 [.ref a, .int (jI (↑m)), .ref mi] [aQ g 5 a N f, P0] (fun v9 Ws9 => ∃ r1 : Nat, ∃ f1 : Nat → Option Nat, v9 = some (.ref r1) ∧ (∀ k, k < N → f1 k = f k) ∧ Ws9 = [aQ g 5 r1 m f1, aQ g 5 a N f, P0]) (nox) := by
  refine Ct.of (cc := cJ23_copyOf_4) (nL := 4) (ret := (Option.some (Jvm.ClassFile.FieldType.array (Jvm.ClassFile.FieldType.object "java/lang/Object")))) (by decide) rfl (Nat.le_of_ble_eq_true rfl) ?_
  intro x hg hl hPo hPx hmc hms F
  subst hg; subst hl
  refine SW.cast (L' := [(0, .ref a), (1, .int (jI (↑m))), (2, .ref mi)]) ?_ rfl rfl rfl
  refine sw_aload_n (n := 1) F 2 (some mi) rfl rfl rfl dJ23_copyOf_4_0 rfl ?_
  refine sw_ldcM (n := 3) F (va_Mi.moved F.gx.2.1.alike hmi) q3358 dJ23_copyOf_4_1 rfl ?_
  refine sw_acmp_ne (n := 6) F (rx := (some mi)) (ry := (some mi)) rfl rfl (tgt := 13) dJ23_copyOf_4_3 (by decide) rfl (fun c_3 => ?_) (fun c_3 => ?_)
  · exfalso; exact absurd rfl c_3
  ·
    refine sw_iload_n (n := 7) F 1 rfl rfl dJ23_copyOf_4_6 rfl ?_
    refine sw_anewa (n := 10) F (t0 := 5) q321 (fun _ => rfl) q3359 (m) (by first | omega | rfl) (by omega) 0 0 ⟨by omega, by omega⟩ dJ23_copyOf_4_7 rfl (fun q_1 => ?_)
    refine sw_goto F (n := 24) dJ23_copyOf_4_10 (by decide) ?_
    refine sw_astore_n (n := 25) F (some q_1) (L2 := [(3, .ref q_1), (0, .ref a), (1, .int (jI (↑m))), (2, .ref mi)]) rfl rfl (by decide) rfl dJ23_copyOf_4_24 rfl ?_
    refine sw_aload_n (n := 26) F 1 (some a) rfl rfl rfl dJ23_copyOf_4_25 rfl ?_
    refine sw_iconst (n := 27) F (0) (by decide) dJ23_copyOf_4_26 rfl ?_
    refine sw_aload_n (n := 28) F 0 (some q_1) rfl rfl rfl dJ23_copyOf_4_27 rfl ?_
    refine sw_iconst (n := 29) F (0) (by decide) dJ23_copyOf_4_28 rfl ?_
    refine sw_aload_n (n := 30) F 1 (some a) rfl rfl rfl dJ23_copyOf_4_29 rfl ?_
    refine sw_alen (n := 31) F 1 rfl (fun _ => rfl) dJ23_copyOf_4_30 rfl ?_
    refine sw_iload_n (n := 32) F 2 rfl rfl dJ23_copyOf_4_31 rfl ?_
    refine sw_mmin (n := 35) F (by omega) (by omega) q527 q438 q132 q439 ⟨by decide, Nat.le_of_ble_eq_true rfl⟩ dJ23_copyOf_4_32 rfl ?_
    refine sw_copyQ (n := 38) F 1 0 rfl rfl (fun _ => rfl) 0 0 N (by first | rfl | omega) (by first | rfl | omega) (by first | rfl | omega) (by omega) (by omega) (by omega) (by intro j hj v hv; exact any_of F 2 rfl (hel _ (by omega) v (by rw [Nat.zero_add] at hv; exact hv))) q528 q530 q529 q133 (by decide) [aQ (xg x) 5 q_1 m (va_cpy f (fun _ => none) 0 0 N), aQ (xg x) 5 a N f, P0] rfl dJ23_copyOf_4_35 rfl ?_
    have hcp : ∀ k, k < N → va_cpy f (fun _ => none) 0 0 N k = f k := fun k hk => by unfold va_cpy; rw [if_pos (by omega)]; congr 1; omega
    refine sw_aload_n (n := 39) F 0 (some q_1) rfl rfl rfl dJ23_copyOf_4_38 rfl ?_
    exact sw_aret F (some q_1) _ rfl rfl (by first | exact Or.inl ⟨_, rfl⟩ | exact Or.inr ⟨_, rfl⟩) dJ23_copyOf_4_39 (by rw [hPo]; exact ⟨q_1, va_cpy f (fun _ => none) 0 0 N, rfl, hcp, rfl⟩)
theorem nd_J23_copyOf_3 : yJ23_copyOf_3.cls ≠ "java/lang/invoke/MethodHandle" ∧ yJ23_copyOf_3.cls ≠ "java/lang/invoke/VarHandle" ∧ (parseMethodDescriptor yJ23_copyOf_3.desc).map (fun d => d.parameters.length) = some 2 := by decide +kernel
set_option maxRecDepth 100000 in
set_option maxHeartbeats 16000000 in
theorem ct_J23_copyOf_3 {g : GG} {l : Launch} (P0 : HP) (a : Nat) (N : Nat) (f : Nat → Option Nat) (m : Nat) (hN : N ≤ m ∧ m ≤ 300) (hel : ∀ k, k < N → ∀ v, f k = some v → kno g P0 v "java/lang/Object") : Ct g l yJ23_copyOf_3 (ws_ yJ23_copyOf_3 cJ23_copyOf_3 2 (Option.some (Jvm.ClassFile.FieldType.array (Jvm.ClassFile.FieldType.object "java/lang/Object")))) 2 53 1 300 [.ref a, .int (jI (↑m))] [aQ g 5 a N f, P0] (fun v9 Ws9 => ∃ r1 : Nat, ∃ f1 : Nat → Option Nat, v9 = some (.ref r1) ∧ (∀ k, k < N → f1 k = f k) ∧ Ws9 = [aQ g 5 r1 m f1, aQ g 5 a N f, P0]) (nox) := by
  refine Ct.of (cc := cJ23_copyOf_3) (nL := 2) (ret := (Option.some (Jvm.ClassFile.FieldType.array (Jvm.ClassFile.FieldType.object "java/lang/Object")))) (by decide) rfl (Nat.le_of_ble_eq_true rfl) ?_
  intro x hg hl hPo hPx hmc hms F
  subst hg; subst hl
  refine SW.cast (L' := [(0, .ref a), (1, .int (jI (↑m)))]) ?_ rfl rfl rfl
  obtain ⟨mi, hmi0⟩ := kMOA F.gx.1
  have hmi := va_Mi.moved F.gx.2.1.alike hmi0
  refine sw_aload_n (n := 1) F 0 (some a) rfl rfl rfl dJ23_copyOf_3_0 rfl ?_
  refine sw_iload_n (n := 2) F 1 rfl rfl dJ23_copyOf_3_1 rfl ?_
  refine sw_aload_n (n := 3) F 0 (some a) rfl rfl rfl dJ23_copyOf_3_2 rfl ?_
  refine sw_getClass (n := 6) F (rcv_aQ F 0 rfl (fun _ => rfl) rfl) hmi q3354 q4407 ⟨by decide, Nat.le_of_ble_eq_true rfl⟩ dJ23_copyOf_3_3 rfl ?_
  refine sw_callS (n := 9) F (ct_J23_copyOf_4 (g := xg x) (l := xl x) P0 a N f m mi hN hel (by exact hmi0)) q3355 q3356 q131 q3357 nd_J23_copyOf_4 rfl (by decide) [0, 1] rfl [] rfl 0 0 ⟨by omega, by omega⟩ [] rfl (Nat.le_of_ble_eq_true rfl) dJ23_copyOf_3_6 rfl (fun _ _ h => h.elim) (fun v Ws h => ?_)
  obtain ⟨r1_1, f1_2, rfl, hcp_3, rfl⟩ := h
  show SW x [aQ (xg x) 5 r1_1 m f1_2, aQ (xg x) 5 a N f, P0] _ _ _ _ [.ref r1_1]
  exact sw_aret F (some r1_1) _ rfl rfl (by first | exact Or.inl ⟨_, rfl⟩ | exact Or.inr ⟨_, rfl⟩) dJ23_copyOf_3_9 (by rw [hPo]; exact ⟨r1_1, f1_2, rfl, hcp_3, rfl⟩)
theorem nd_J6_grow_2 : yJ6_grow_2.cls ≠ "java/lang/invoke/MethodHandle" ∧ yJ6_grow_2.cls ≠ "java/lang/invoke/VarHandle" ∧ (parseMethodDescriptor yJ6_grow_2.desc).map (fun d => d.parameters.length) = some 1 := by decide +kernel
set_option maxRecDepth 100000 in
set_option maxHeartbeats 16000000 in
theorem ct_J6_grow_2_o {g : GG} {l : Launch} (P0 : HP) (q : Nat) (mc : Int) (n : Nat) (a : Nat) (N : Nat) (f : Nat → Option Nat) (hN : n = N ∧ 10 ≤ N ∧ N ≤ 199) (hel : ∀ k, k < N → ∀ v, f k = some v → kno g P0 v "java/lang/Object") : Ct g l yJ6_grow_2 (ws_ yJ6_grow_2 cJ6_grow_2 4 (Option.some (Jvm.ClassFile.FieldType.array (Jvm.ClassFile.FieldType.object "java/lang/Object")))) 3 74 1 300 [.ref q, .int (jI (↑(n + 1)))] [ob g q 12 [.int (jI mc), .ref a, .int (jI (↑n))], aQ g 5 a N f, P0] (fun v9 Ws9 => ∃ N1 : Nat, ∃ r1 : Nat, ∃ f1 : Nat → Option Nat, v9 = some (.ref r1) ∧ (N < N1 ∧ N1 ≤ 300) ∧ (∀ k, k < N → f1 k = f k) ∧ Ws9 = [ob g q 12 [.int (jI mc), .ref r1, .int (jI (↑n))], aQ g 5 r1 N1 f1, P0]) (nox) := by
  refine Ct.of (cc := cJ6_grow_2) (nL := 4) (ret := (Option.some (Jvm.ClassFile.FieldType.array (Jvm.ClassFile.FieldType.object "java/lang/Object")))) (by decide) rfl (Nat.le_of_ble_eq_true rfl) ?_
  intro x hg hl hPo hPx hmc hms F
  subst hg; subst hl
  refine SW.cast (L' := [(0, .ref q), (1, .int (jI (↑(n + 1))))]) ?_ rfl rfl rfl
  refine sw_aload_n (n := 1) F 0 (some q) rfl rfl rfl dJ6_grow_2_0 rfl ?_
  refine sw_get (n := 4) F 0 rfl (k := 1) ⟨(RJ6, TJ6, 3), rfl, by decide, q230, in_J6, Or.inl rfl⟩ rfl dJ6_grow_2_1 rfl ?_
  refine sw_alen (n := 5) F 1 rfl (fun _ => rfl) dJ6_grow_2_4 rfl ?_
  refine sw_istore_n (n := 6) F (L2 := [(2, .int (jI (↑N))), (0, .ref q), (1, .int (jI (↑(n + 1))))]) rfl (by decide) rfl dJ6_grow_2_5 rfl ?_
  refine sw_iload_n (n := 7) F 0 rfl rfl dJ6_grow_2_6 rfl ?_
  refine sw_if_gt (n := 10) F (by omega) (tgt := 20) dJ6_grow_2_7 (by decide) rfl (fun c_7 => ?_) (fun c_7 => ?_)
  ·
    refine sw_iload_n (n := 21) F 0 rfl rfl dJ6_grow_2_20 rfl ?_
    refine sw_iload_n (n := 22) F 2 rfl rfl dJ6_grow_2_21 rfl ?_
    refine sw_iload_n (n := 23) F 0 rfl rfl dJ6_grow_2_22 rfl ?_
    refine sw_isub (n := 24) F dJ6_grow_2_23 rfl ?_
    refine sw_iload_n (n := 25) F 0 rfl rfl dJ6_grow_2_24 rfl ?_
    refine sw_iconst (n := 26) F (1) (by decide) dJ6_grow_2_25 rfl ?_
    refine sw_ishr (n := 27) F (jI ((↑N) / 2)) (by have h7s := jI_shrQ (z := ↑N) (c := 1) (P := 2) (k := 1) (by omega) (by decide) (by decide); exact h7s) dJ6_grow_2_26 rfl ?_
    refine sw_callS (n := 30) F (ct_J27_newLength (g := xg x) (l := xl x) (↑N) ((↑(n + 1)) - (↑N)) ((↑N) / 2) (by first | omega | assumption) (by first | omega | assumption) (by first | omega | assumption)) q3350 q507 q136 q508 nd_J27_newLength rfl (by decide) [0, 1, 2] rfl [ob (xg x) q 12 [.int (jI mc), .ref a, .int (jI (↑n))], aQ (xg x) 5 a N f, P0] rfl 1 300 ⟨by omega, by omega⟩ [] rfl (Nat.le_of_ble_eq_true rfl) dJ6_grow_2_27 rfl (fun _ _ h => h.elim) (fun v Ws h => ?_)
    obtain ⟨rfl, rfl⟩ := h
    show SW x [ob (xg x) q 12 [.int (jI mc), .ref a, .int (jI (↑n))], aQ (xg x) 5 a N f, P0] _ _ _ _ [.int (jI ((↑N) + max (((↑(n + 1)) - (↑N)) : Int) (((↑N) / 2) : Int)))]
    obtain ⟨m0, hm0⟩ : ∃ z : Nat, z = N + max 1 (N / 2) := ⟨_, rfl⟩
    refine sw_top (topI (show ((↑N) + max (((↑(n + 1)) - (↑N)) : Int) (((↑N) / 2) : Int) : Int) = ↑m0 by omega)) ?_
    refine sw_istore_n (n := 31) F (L2 := [(3, .int (jI (↑m0))), (2, .int (jI (↑N))), (0, .ref q), (1, .int (jI (↑(n + 1))))]) rfl (by decide) rfl dJ6_grow_2_30 rfl ?_
    refine sw_aload_n (n := 32) F 2 (some q) rfl rfl rfl dJ6_grow_2_31 rfl ?_
    refine sw_aload_n (n := 33) F 2 (some q) rfl rfl rfl dJ6_grow_2_32 rfl ?_
    refine sw_get (n := 36) F 0 rfl (k := 1) ⟨(RJ6, TJ6, 3), rfl, by decide, q230, in_J6, Or.inl rfl⟩ rfl dJ6_grow_2_33 rfl ?_
    refine sw_iload_n (n := 37) F 0 rfl rfl dJ6_grow_2_36 rfl ?_
    refine sw_callS (n := 40) F (ct_J23_copyOf_3 (g := xg x) (l := xl x) P0 a N f m0 (by first | omega | assumption) hel) q3351 q3352 q131 q3353 nd_J23_copyOf_3 rfl (by decide) [1, 2, 0] rfl [ob (xg x) q 12 [.int (jI mc), .ref a, .int (jI (↑n))]] rfl 0 0 ⟨by omega, by omega⟩ [.ref q] rfl (Nat.le_of_ble_eq_true rfl) dJ6_grow_2_37 rfl (fun _ _ h => h.elim) (fun v Ws h => ?_)
    obtain ⟨r1_1, f1_2, rfl, hcp_3, rfl⟩ := h
    show SW x [aQ (xg x) 5 r1_1 m0 f1_2, aQ (xg x) 5 a N f, P0, ob (xg x) q 12 [.int (jI mc), .ref a, .int (jI (↑n))]] _ _ _ _ [.ref r1_1, .ref q]
    refine sw_dup_x1 (n := 41) F rfl rfl dJ6_grow_2_40 rfl ?_
    refine sw_put (n := 44) F 3 rfl (k := 1) ⟨(RJ6, TJ6, 3), rfl, by decide, q230, in_J6, Or.inl rfl⟩ (tyJ6 1) ⟨(RJ6, TJ6, 3), rfl, rfl, tyJ6_ok 1 (by decide), nmJ6, tyJ6, tyJ6_ok⟩ rfl rfl (Nat.le_of_ble_eq_true rfl) rfl [aQ (xg x) 5 r1_1 m0 f1_2, aQ (xg x) 5 a N f, P0, ob (xg x) q 12 [.int (jI mc), .ref r1_1, .int (jI (↑n))]] rfl dJ6_grow_2_41 rfl ?_
    refine sw_drop [3, 0, 2, 1] 3 (perm_ok _ 4 (by decide +kernel) rfl) [ob (xg x) q 12 [.int (jI mc), .ref r1_1, .int (jI (↑n))], aQ (xg x) 5 r1_1 m0 f1_2, P0] rfl ?_
    exact sw_aret F (some r1_1) _ rfl rfl (by first | exact Or.inl ⟨_, rfl⟩ | exact Or.inr ⟨_, rfl⟩) dJ6_grow_2_44 (by rw [hPo]; exact ⟨m0, r1_1, f1_2, rfl, (by first | omega | assumption), hcp_3, rfl⟩)
  · exfalso; omega
set_option maxRecDepth 100000 in
set_option maxHeartbeats 16000000 in
theorem ct_J6_grow_2_d {g : GG} {l : Launch} (q : Nat) (mc : Int) (n : Nat) (dz : Nat) (hN : n = 0) (hdz : dz = tR g sDEF) : Ct g l yJ6_grow_2 (ws_ yJ6_grow_2 cJ6_grow_2 4 (Option.some (Jvm.ClassFile.FieldType.array (Jvm.ClassFile.FieldType.object "java/lang/Object")))) 1 14 1 10 [.ref q, .int (jI (↑(n + 1)))] [ob g q 12 [.int (jI mc), .ref dz, .int (jI (↑n))]] (fun v9 Ws9 => ∃ r1 : Nat, v9 = some (.ref r1) ∧ Ws9 = [ob g q 12 [.int (jI mc), .ref r1, .int (jI (↑n))], aQ g 5 r1 10 (fun _ => none)]) (nox) := by
  refine Ct.of (cc := cJ6_grow_2) (nL := 4) (ret := (Option.some (Jvm.ClassFile.FieldType.array (Jvm.ClassFile.FieldType.object "java/lang/Object")))) (by decide) rfl (Nat.le_of_ble_eq_true rfl) ?_
  intro x hg hl hPo hPx hmc hms F
  subst hg; subst hl
  refine SW.cast (L' := [(0, .ref q), (1, .int (jI (↑(n + 1))))]) ?_ rfl rfl rfl
  subst hdz
  refine sw_aload_n (n := 1) F 0 (some q) rfl rfl rfl dJ6_grow_2_0 rfl ?_
  refine sw_get (n := 4) F 0 rfl (k := 1) ⟨(RJ6, TJ6, 3), rfl, by decide, q230, in_J6, Or.inl rfl⟩ rfl dJ6_grow_2_1 rfl ?_
  refine sw_alenK (n := 5) F ((kDEF F.gx.1).2.A F) dJ6_grow_2_4 rfl ?_
  show SW x _ _ _ _ _ [.int (jI 0)]
  refine sw_istore_n (n := 6) F (L2 := [(2, .int (jI 0)), (0, .ref q), (1, .int (jI (↑(n + 1))))]) rfl (by decide) rfl dJ6_grow_2_5 rfl ?_
  refine sw_iload_n (n := 7) F 0 rfl rfl dJ6_grow_2_6 rfl ?_
  refine sw_if_gt (n := 10) F (by decide) (tgt := 20) dJ6_grow_2_7 (by decide) rfl (fun c_7 => ?_) (fun c_7 => ?_)
  · exfalso; exact absurd c_7 (by decide)
  ·
    refine sw_aload_n (n := 11) F 1 (some q) rfl rfl rfl dJ6_grow_2_10 rfl ?_
    refine sw_get (n := 14) F 0 rfl (k := 1) ⟨(RJ6, TJ6, 3), rfl, by decide, q230, in_J6, Or.inl rfl⟩ rfl dJ6_grow_2_11 rfl ?_
    refine sw_gets (n := 17) F (kDEF F.gx.1).1 q228 (Or.inl rfl) dJ6_grow_2_14 rfl ?_
    refine sw_acmp_eq (n := 20) F (rx := (some (tR (xg x) sDEF))) (ry := (some (tR (xg x) sDEF))) rfl rfl (tgt := 45) dJ6_grow_2_17 (by decide) rfl (fun c_17 => ?_) (fun c_17 => ?_)
    ·
      refine sw_aload_n (n := 46) F 1 (some q) rfl rfl rfl dJ6_grow_2_45 rfl ?_
      refine sw_bipush (n := 48) F (10) (by decide) dJ6_grow_2_46 rfl ?_
      refine sw_iload_n (n := 49) F 2 rfl rfl dJ6_grow_2_48 rfl ?_
      refine sw_mmax (n := 52) F (by decide) (by omega) q3360 q510 q132 q511 ⟨by decide, Nat.le_of_ble_eq_true rfl⟩ dJ6_grow_2_49 rfl ?_
      refine sw_anewa (n := 55) F (t0 := 5) q321 (fun _ => rfl) q3361 (10) (by rw [hN]; decide) (by omega) 0 0 ⟨by omega, by omega⟩ dJ6_grow_2_52 rfl (fun q_1 => ?_)
      refine sw_dup_x1 (n := 56) F rfl rfl dJ6_grow_2_55 rfl ?_
      refine sw_put (n := 59) F 1 rfl (k := 1) ⟨(RJ6, TJ6, 3), rfl, by decide, q230, in_J6, Or.inl rfl⟩ (tyJ6 1) ⟨(RJ6, TJ6, 3), rfl, rfl, tyJ6_ok 1 (by decide), nmJ6, tyJ6, tyJ6_ok⟩ rfl rfl (Nat.le_of_ble_eq_true rfl) rfl [aQ (xg x) 5 q_1 10 (fun _ => none), ob (xg x) q 12 [.int (jI mc), .ref q_1, .int (jI (↑n))]] rfl dJ6_grow_2_56 rfl ?_
      refine sw_perm [1, 0] rfl [ob (xg x) q 12 [.int (jI mc), .ref q_1, .int (jI (↑n))], aQ (xg x) 5 q_1 10 (fun _ => none)] rfl ?_
      exact sw_aret F (some q_1) _ rfl rfl (by first | exact Or.inl ⟨_, rfl⟩ | exact Or.inr ⟨_, rfl⟩) dJ6_grow_2_59 (by rw [hPo]; exact ⟨q_1, rfl, rfl⟩)
    · exfalso; exact c_17 rfl
theorem nd_J6_grow : yJ6_grow.cls ≠ "java/lang/invoke/MethodHandle" ∧ yJ6_grow.cls ≠ "java/lang/invoke/VarHandle" ∧ (parseMethodDescriptor yJ6_grow.desc).map (fun d => d.parameters.length) = some 0 := by decide +kernel
set_option maxRecDepth 100000 in
set_option maxHeartbeats 16000000 in
theorem ct_J6_grow_o {g : GG} {l : Launch} (P0 : HP) (q : Nat) (mc : Int) (n : Nat) (a : Nat) (N : Nat) (f : Nat → Option Nat) (hN : n = N ∧ 10 ≤ N ∧ N ≤ 199) (hel : ∀ k, k < N → ∀ v, f k = some v → kno g P0 v "java/lang/Object") : Ct g l yJ6_grow (ws_ yJ6_grow cJ6_grow 1 (Option.some (Jvm.ClassFile.FieldType.array (Jvm.ClassFile.FieldType.object "java/lang/Object")))) 4 97 1 300 [.ref q] [ob g q 12 [.int (jI mc), .ref a, .int (jI (↑n))], aQ g 5 a N f, P0] (fun v9 Ws9 => ∃ N1 : Nat, ∃ r1 : Nat, ∃ f1 : Nat → Option Nat, v9 = some (.ref r1) ∧ (N < N1 ∧ N1 ≤ 300) ∧ (∀ k, k < N → f1 k = f k) ∧ Ws9 = [ob g q 12 [.int (jI mc), .ref r1, .int (jI (↑n))], aQ g 5 r1 N1 f1, P0]) (nox) := by
  refine Ct.of (cc := cJ6_grow) (nL := 1) (ret := (Option.some (Jvm.ClassFile.FieldType.array (Jvm.ClassFile.FieldType.object "java/lang/Object")))) (by decide) rfl (Nat.le_of_ble_eq_true rfl) ?_
  intro x hg hl hPo hPx hmc hms F
  subst hg; subst hl
  refine SW.cast (L' := [(0, .ref q)]) ?_ rfl rfl rfl
  refine sw_aload_n (n := 1) F 0 (some q) rfl rfl rfl dJ6_grow_0 rfl ?_
  refine sw_aload_n (n := 2) F 0 (some q) rfl rfl rfl dJ6_grow_1 rfl ?_
  refine sw_get (n := 5) F 0 rfl (k := 2) ⟨(RJ6, TJ6, 3), rfl, by decide, q233, in_J6, Or.inl rfl⟩ rfl dJ6_grow_2 rfl ?_
  refine sw_iconst (n := 6) F (1) (by decide) dJ6_grow_5 rfl ?_
  refine sw_iadd (n := 7) F dJ6_grow_6 rfl ?_
  refine sw_top (topI (show ((↑n) + 1 : Int) = ↑(n + 1) by omega)) ?_
  refine sw_callV (n := 10) F (ct_J6_grow_2_o (g := xg x) (l := xl x) P0 q mc n a N f hN hel) (rcv_ob F 0 rfl rfl) q3346 q3348 qs59 q110 q3349 nd_J6_grow_2 rfl (by decide) [0, 1, 2] rfl [] rfl 0 0 ⟨by omega, by omega⟩ [] rfl (Nat.le_of_ble_eq_true rfl) dJ6_grow_7 rfl (fun _ _ h => h.elim) (fun v Ws h => ?_)
  obtain ⟨N1_1, r1_2, f1_3, rfl, hN1_4, hcp_5, rfl⟩ := h
  show SW x [ob (xg x) q 12 [.int (jI mc), .ref r1_2, .int (jI (↑n))], aQ (xg x) 5 r1_2 N1_1 f1_3, P0] _ _ _ _ [.ref r1_2]
  exact sw_aret F (some r1_2) _ rfl rfl (by first | exact Or.inl ⟨_, rfl⟩ | exact Or.inr ⟨_, rfl⟩) dJ6_grow_10 (by rw [hPo]; exact ⟨N1_1, r1_2, f1_3, rfl, hN1_4, hcp_5, rfl⟩)
set_option maxRecDepth 100000 in
set_option maxHeartbeats 16000000 in
theorem ct_J6_grow_d {g : GG} {l : Launch} (q : Nat) (mc : Int) (n : Nat) (dz : Nat) (hN : n = 0) (hdz : dz = tR g sDEF) : Ct g l yJ6_grow (ws_ yJ6_grow cJ6_grow 1 (Option.some (Jvm.ClassFile.FieldType.array (Jvm.ClassFile.FieldType.object "java/lang/Object")))) 2 37 1 10 [.ref q] [ob g q 12 [.int (jI mc), .ref dz, .int (jI (↑n))]] (fun v9 Ws9 => ∃ r1 : Nat, v9 = some (.ref r1) ∧ Ws9 = [ob g q 12 [.int (jI mc), .ref r1, .int (jI (↑n))], aQ g 5 r1 10 (fun _ => none)]) (nox) := by
  refine Ct.of (cc := cJ6_grow) (nL := 1) (ret := (Option.some (Jvm.ClassFile.FieldType.array (Jvm.ClassFile.FieldType.object "java/lang/Object")))) (by decide) rfl (Nat.le_of_ble_eq_true rfl) ?_
  intro x hg hl hPo hPx hmc hms F
  subst hg; subst hl
  refine SW.cast (L' := [(0, .ref q)]) ?_ rfl rfl rfl
  refine sw_aload_n (n := 1) F 0 (some q) rfl rfl rfl dJ6_grow_0 rfl ?_
  refine sw_aload_n (n := 2) F 0 (some q) rfl rfl rfl dJ6_grow_1 rfl ?_
  refine sw_get (n := 5) F 0 rfl (k := 2) ⟨(RJ6, TJ6, 3), rfl, by decide, q233, in_J6, Or.inl rfl⟩ rfl dJ6_grow_2 rfl ?_
  refine sw_iconst (n := 6) F (1) (by decide) dJ6_grow_5 rfl ?_
  refine sw_iadd (n := 7) F dJ6_grow_6 rfl ?_
  refine sw_top (topI (show ((↑n) + 1 : Int) = ↑(n + 1) by omega)) ?_
  refine sw_callV (n := 10) F (ct_J6_grow_2_d (g := xg x) (l := xl x) q mc n dz hN hdz) (rcv_ob F 0 rfl rfl) q3346 q3348 qs59 q110 q3349 nd_J6_grow_2 rfl (by decide) [0] rfl [] rfl 0 0 ⟨by omega, by omega⟩ [] rfl (Nat.le_of_ble_eq_true rfl) dJ6_grow_7 rfl (fun _ _ h => h.elim) (fun v Ws h => ?_)
  obtain ⟨r1_1, rfl, rfl⟩ := h
  show SW x [ob (xg x) q 12 [.int (jI mc), .ref r1_1, .int (jI (↑n))], aQ (xg x) 5 r1_1 10 (fun _ => none)] _ _ _ _ [.ref r1_1]
  exact sw_aret F (some r1_1) _ rfl rfl (by first | exact Or.inl ⟨_, rfl⟩ | exact Or.inr ⟨_, rfl⟩) dJ6_grow_10 (by rw [hPo]; exact ⟨r1_1, rfl, rfl⟩)
theorem nd_J6_add_2 : yJ6_add_2.cls ≠ "java/lang/invoke/MethodHandle" ∧ yJ6_add_2.cls ≠ "java/lang/invoke/VarHandle" ∧ (parseMethodDescriptor yJ6_add_2.desc).map (fun d => d.parameters.length) = some 3 := by decide +kernel
set_option maxRecDepth 100000 in
set_option maxHeartbeats 16000000 in
theorem ct_J6_add_2_o {g : GG} {l : Launch} (P0 : HP) (q : Nat) (mc : Int) (n : Nat) (e : Nat → Nat) (a : Nat) (N : Nat) (f : Nat → Option Nat) (v : Nat) (hn : n < 200 ∧ n ≤ N) (hN : 10 ≤ N ∧ N ≤ 300) (hf : ∀ k, k < n → f k = some (e k)) (hke : ∀ k, k < n → kno g P0 (e k) "java/lang/Object") (hkv : kno g P0 v "java/lang/Object") : Ct g l yJ6_add_2 (ws_ yJ6_add_2 cJ6_add_2 4 (Option.none : Option Jvm.ClassFile.FieldType)) 5 117 1 300 [.ref q, .ref v, .ref a, .int (jI (↑n))] [ob g q 12 [.int (jI mc), .ref a, .int (jI (↑n))], aQ g 5 a N f, P0] (fun v9 Ws9 => v9 = none ∧ Ws9 = [al g q mc (n + 1) (va_up e n v), P0]) (nox) := by
  refine Ct.of (cc := cJ6_add_2) (nL := 4) (ret := (Option.none : Option Jvm.ClassFile.FieldType)) (by decide) rfl (Nat.le_of_ble_eq_true rfl) ?_
  intro x hg hl hPo hPx hmc hms F
  subst hg; subst hl
  refine SW.cast (L' := [(0, .ref q), (1, .ref v), (2, .ref a), (3, .int (jI (↑n)))]) ?_ rfl rfl rfl
  refine sw_iload_n (n := 1) F 3 rfl rfl dJ6_add_2_0 rfl ?_
  refine sw_aload_n (n := 2) F 2 (some a) rfl rfl rfl dJ6_add_2_1 rfl ?_
  refine sw_alen (n := 3) F 1 rfl (fun _ => rfl) dJ6_add_2_2 rfl ?_
  refine sw_icmp_ne (n := 6) F (by omega) (by omega) (tgt := 11) dJ6_add_2_3 (by decide) rfl (fun c_3 => ?_) (fun c_3 => ?_)
  ·
    refine sw_aload_n (n := 12) F 2 (some a) rfl rfl rfl dJ6_add_2_11 rfl ?_
    refine sw_iload_n (n := 13) F 3 rfl rfl dJ6_add_2_12 rfl ?_
    refine sw_aload_n (n := 14) F 1 (some v) rfl rfl rfl dJ6_add_2_13 rfl ?_
    refine sw_aastoreQ (n := 15) F 1 rfl (fun _ => rfl) (any_of F 2 rfl hkv) n rfl (by omega) [ob (xg x) q 12 [.int (jI mc), .ref a, .int (jI (↑n))], aQ (xg x) 5 a N (va_up f n (some v)), P0] rfl dJ6_add_2_14 rfl ?_
    refine sw_aload_n (n := 16) F 0 (some q) rfl rfl rfl dJ6_add_2_15 rfl ?_
    refine sw_iload_n (n := 17) F 3 rfl rfl dJ6_add_2_16 rfl ?_
    refine sw_iconst (n := 18) F (1) (by decide) dJ6_add_2_17 rfl ?_
    refine sw_iadd (n := 19) F dJ6_add_2_18 rfl ?_
    refine sw_top (topI (show ((↑n) + 1 : Int) = ↑(n + 1) by omega)) ?_
    refine sw_put (n := 22) F 0 rfl (k := 2) ⟨(RJ6, TJ6, 3), rfl, by decide, q233, in_J6, Or.inl rfl⟩ .int ⟨(RJ6, TJ6, 3), rfl, rfl, tyJ6_ok 2 (by decide), nmJ6, tyJ6, tyJ6_ok⟩ rfl rfl (Nat.le_of_ble_eq_true rfl) rfl [ob (xg x) q 12 [.int (jI mc), .ref a, .int (jI (↑(n + 1)))], aQ (xg x) 5 a N (va_up f n (some v)), P0] rfl dJ6_add_2_19 rfl ?_
    refine sw_alClose (n := n + 1) (va_up e n v) (by omega) (by omega) (by first | (intro k hk; unfold va_up; by_cases h9 : k = n; rw [if_pos h9, if_pos h9]; rw [if_neg h9, if_neg h9]; exact hcp_x k (by omega)) | (intro k hk; unfold va_up; by_cases h9 : k = n; rw [if_pos h9, if_pos h9]; rw [if_neg h9, if_neg h9]; exact hf k (by omega))) ?_
    exact sw_vret F rfl dJ6_add_2_22 (by rw [hPo]; exact ⟨rfl, rfl⟩)
  ·
    refine sw_aload_n (n := 7) F 0 (some q) rfl rfl rfl dJ6_add_2_6 rfl ?_
    refine sw_callV (n := 10) F (ct_J6_grow_o (g := xg x) (l := xl x) P0 q mc n a N f (by first | omega | assumption) (by intro k hk v9 hv9; rw [hf k (by omega)] at hv9; cases hv9; exact hke k (by omega))) (rcv_ob F 0 rfl rfl) q3342 q3344 qs58 q110 q3345 nd_J6_grow rfl (by decide) [0, 1, 2] rfl [] rfl 0 0 ⟨by omega, by omega⟩ [] rfl (Nat.le_of_ble_eq_true rfl) dJ6_add_2_7 rfl (fun _ _ h => h.elim) (fun v Ws h => ?_)
    obtain ⟨N1_1, r1_2, f1_3, rfl, hN1_4, hcp_5, rfl⟩ := h
    show SW x [ob (xg x) q 12 [.int (jI mc), .ref r1_2, .int (jI (↑n))], aQ (xg x) 5 r1_2 N1_1 f1_3, P0] _ _ _ _ [.ref r1_2]
    refine sw_astore_n (n := 11) F (some r1_2) (L2 := [(2, .ref r1_2), (0, .ref q), (1, .ref v), (3, .int (jI (↑n)))]) rfl rfl (by decide) rfl dJ6_add_2_10 rfl ?_
    have hcp_x := fun k (hk : k < n) => (hcp_5 k (by omega)).trans (hf k hk)
    refine sw_aload_n (n := 12) F 0 (some r1_2) rfl rfl rfl dJ6_add_2_11 rfl ?_
    refine sw_iload_n (n := 13) F 3 rfl rfl dJ6_add_2_12 rfl ?_
    refine sw_aload_n (n := 14) F 2 (some v) rfl rfl rfl dJ6_add_2_13 rfl ?_
    refine sw_aastoreQ (n := 15) F 1 rfl (fun _ => rfl) (any_of F 2 rfl hkv) n rfl (by omega) [ob (xg x) q 12 [.int (jI mc), .ref r1_2, .int (jI (↑n))], aQ (xg x) 5 r1_2 N1_1 (va_up f1_3 n (some v)), P0] rfl dJ6_add_2_14 rfl ?_
    refine sw_aload_n (n := 16) F 1 (some q) rfl rfl rfl dJ6_add_2_15 rfl ?_
    refine sw_iload_n (n := 17) F 3 rfl rfl dJ6_add_2_16 rfl ?_
    refine sw_iconst (n := 18) F (1) (by decide) dJ6_add_2_17 rfl ?_
    refine sw_iadd (n := 19) F dJ6_add_2_18 rfl ?_
    refine sw_top (topI (show ((↑n) + 1 : Int) = ↑(n + 1) by omega)) ?_
    refine sw_put (n := 22) F 0 rfl (k := 2) ⟨(RJ6, TJ6, 3), rfl, by decide, q233, in_J6, Or.inl rfl⟩ .int ⟨(RJ6, TJ6, 3), rfl, rfl, tyJ6_ok 2 (by decide), nmJ6, tyJ6, tyJ6_ok⟩ rfl rfl (Nat.le_of_ble_eq_true rfl) rfl [ob (xg x) q 12 [.int (jI mc), .ref r1_2, .int (jI (↑(n + 1)))], aQ (xg x) 5 r1_2 N1_1 (va_up f1_3 n (some v)), P0] rfl dJ6_add_2_19 rfl ?_
    refine sw_alClose (n := n + 1) (va_up e n v) (by omega) (by omega) (by first | (intro k hk; unfold va_up; by_cases h9 : k = n; rw [if_pos h9, if_pos h9]; rw [if_neg h9, if_neg h9]; exact hcp_x k (by omega)) | (intro k hk; unfold va_up; by_cases h9 : k = n; rw [if_pos h9, if_pos h9]; rw [if_neg h9, if_neg h9]; exact hf k (by omega))) ?_
    exact sw_vret F rfl dJ6_add_2_22 (by rw [hPo]; exact ⟨rfl, rfl⟩)
set_option maxRecDepth 100000 in
set_option maxHeartbeats 16000000 in
theorem ct_J6_add_2_d {g : GG} {l : Launch} (P0 : HP) (q : Nat) (mc : Int) (n : Nat) (e : Nat → Nat) (dz : Nat) (v : Nat) (hn : n = 0) (hdz : dz = tR g sDEF) (hkv : kno g P0 v "java/lang/Object") : Ct g l yJ6_add_2 (ws_ yJ6_add_2 cJ6_add_2 4 (Option.none : Option Jvm.ClassFile.FieldType)) 3 57 1 10 [.ref q, .ref v, .ref dz, .int (jI (↑n))] [ob g q 12 [.int (jI mc), .ref dz, .int (jI (↑n))], P0] (fun v9 Ws9 => v9 = none ∧ Ws9 = [al g q mc (n + 1) (va_up e n v), P0]) (nox) := by
  refine Ct.of (cc := cJ6_add_2) (nL := 4) (ret := (Option.none : Option Jvm.ClassFile.FieldType)) (by decide) rfl (Nat.le_of_ble_eq_true rfl) ?_
  intro x hg hl hPo hPx hmc hms F
  subst hg; subst hl
  refine SW.cast (L' := [(0, .ref q), (1, .ref v), (2, .ref dz), (3, .int (jI (↑n)))]) ?_ rfl rfl rfl
  subst hdz
  refine sw_iload_n (n := 1) F 3 rfl rfl dJ6_add_2_0 rfl ?_
  refine sw_aload_n (n := 2) F 2 (some (tR (xg x) sDEF)) rfl rfl rfl dJ6_add_2_1 rfl ?_
  refine sw_alenK (n := 3) F ((kDEF F.gx.1).2.A F) dJ6_add_2_2 rfl ?_
  show SW x _ _ _ _ _ [.int (jI 0), .int (jI (↑n))]
  refine sw_icmp_ne (n := 6) F (by omega) (by decide) (tgt := 11) dJ6_add_2_3 (by decide) rfl (fun c_3 => ?_) (fun c_3 => ?_)
  · exfalso; omega
  ·
    refine sw_aload_n (n := 7) F 0 (some q) rfl rfl rfl dJ6_add_2_6 rfl ?_
    refine sw_callV (n := 10) F (ct_J6_grow_d (g := xg x) (l := xl x) q mc n (tR (xg x) sDEF) hn (by rfl)) (rcv_ob F 0 rfl rfl) q3342 q3344 qs58 q110 q3345 nd_J6_grow rfl (by decide) [0, 1] rfl [P0] rfl 0 0 ⟨by omega, by omega⟩ [] rfl (Nat.le_of_ble_eq_true rfl) dJ6_add_2_7 rfl (fun _ _ h => h.elim) (fun v Ws h => ?_)
    obtain ⟨r1_1, rfl, rfl⟩ := h
    show SW x [ob (xg x) q 12 [.int (jI mc), .ref r1_1, .int (jI (↑n))], aQ (xg x) 5 r1_1 10 (fun _ => none), P0] _ _ _ _ [.ref r1_1]
    refine sw_astore_n (n := 11) F (some r1_1) (L2 := [(2, .ref r1_1), (0, .ref q), (1, .ref v), (3, .int (jI (↑n)))]) rfl rfl (by decide) rfl dJ6_add_2_10 rfl ?_
    refine sw_aload_n (n := 12) F 0 (some r1_1) rfl rfl rfl dJ6_add_2_11 rfl ?_
    refine sw_iload_n (n := 13) F 3 rfl rfl dJ6_add_2_12 rfl ?_
    refine sw_aload_n (n := 14) F 2 (some v) rfl rfl rfl dJ6_add_2_13 rfl ?_
    refine sw_aastoreQ (n := 15) F 1 rfl (fun _ => rfl) (any_of F 2 rfl hkv) n (by omega) (by omega) [ob (xg x) q 12 [.int (jI mc), .ref r1_1, .int (jI (↑n))], aQ (xg x) 5 r1_1 10 (va_up (fun _ => none) n (some v)), P0] rfl dJ6_add_2_14 rfl ?_
    refine sw_aload_n (n := 16) F 1 (some q) rfl rfl rfl dJ6_add_2_15 rfl ?_
    refine sw_iload_n (n := 17) F 3 rfl rfl dJ6_add_2_16 rfl ?_
    refine sw_iconst (n := 18) F (1) (by decide) dJ6_add_2_17 rfl ?_
    refine sw_iadd (n := 19) F dJ6_add_2_18 rfl ?_
    refine sw_top (topI (show ((↑n) + 1 : Int) = ↑(n + 1) by omega)) ?_
    refine sw_put (n := 22) F 0 rfl (k := 2) ⟨(RJ6, TJ6, 3), rfl, by decide, q233, in_J6, Or.inl rfl⟩ .int ⟨(RJ6, TJ6, 3), rfl, rfl, tyJ6_ok 2 (by decide), nmJ6, tyJ6, tyJ6_ok⟩ rfl rfl (Nat.le_of_ble_eq_true rfl) rfl [ob (xg x) q 12 [.int (jI mc), .ref r1_1, .int (jI (↑(n + 1)))], aQ (xg x) 5 r1_1 10 (va_up (fun _ => none) n (some v)), P0] rfl dJ6_add_2_19 rfl ?_
    refine sw_alClose (n := n + 1) (va_up e n v) (by omega) (by omega) (by intro k hk; unfold va_up; by_cases h9 : k = n; rw [if_pos h9, if_pos h9]; rw [if_neg h9, if_neg h9]; omega) ?_
    exact sw_vret F rfl dJ6_add_2_22 (by rw [hPo]; exact ⟨rfl, rfl⟩)
theorem nd_J6_add : yJ6_add.cls ≠ "java/lang/invoke/MethodHandle" ∧ yJ6_add.cls ≠ "java/lang/invoke/VarHandle" ∧ (parseMethodDescriptor yJ6_add.desc).map (fun d => d.parameters.length) = some 1 := by decide +kernel
set_option maxRecDepth 100000 in
set_option maxHeartbeats 16000000 in
theorem ct_J6_add {g : GG} {l : Launch} (P0 : HP) (q : Nat) (mc : Int) (n : Nat) (e : Nat → Nat) (v : Nat) (hn : n < 200) (hke : ∀ k, k < n → kno g P0 (e k) "java/lang/Object") (hkv : kno g P0 v "java/lang/Object") : Ct g l yJ6_add (ws_ yJ6_add cJ6_add 2 (Option.some Jvm.ClassFile.FieldType.boolean)) 6 140 1 300 [.ref q, .ref v] [al g q mc n e, P0] (fun v9 Ws9 => v9 = some (.int (jI 1)) ∧ Ws9 = [al g q (mc + 1) (n + 1) (va_up e n v), P0]) (nox) := by
  refine Ct.of (cc := cJ6_add) (nL := 2) (ret := (Option.some Jvm.ClassFile.FieldType.boolean)) (by decide) rfl (Nat.le_of_ble_eq_true rfl) ?_
  intro x hg hl hPo hPx hmc hms F
  subst hg; subst hl
  refine SW.cast (L' := [(0, .ref q), (1, .ref v)]) ?_ rfl rfl rfl
  refine sw_alOpen (fun a N f hN hM hf => ?_) (fun h0 => ?_)
  ·
    refine sw_aload_n (n := 1) F 0 (some q) rfl rfl rfl dJ6_add_0 rfl ?_
    refine sw_dup (n := 2) F rfl dJ6_add_1 rfl ?_
    refine sw_get (n := 5) F 0 rfl (k := 0) ⟨(RJ6, TJ6, 3), rfl, by decide, q237, in_J6, Or.inr q236⟩ rfl dJ6_add_2 rfl ?_
    refine sw_iconst (n := 6) F (1) (by decide) dJ6_add_5 rfl ?_
    refine sw_iadd (n := 7) F dJ6_add_6 rfl ?_
    refine sw_put (n := 10) F 0 rfl (k := 0) ⟨(RJ6, TJ6, 3), rfl, by decide, q237, in_J6, Or.inr q236⟩ .int ⟨(RJ6, TJ6, 3), rfl, rfl, tyJ6_ok 0 (by decide), nmJ6, tyJ6, tyJ6_ok⟩ rfl rfl (Nat.le_of_ble_eq_true rfl) rfl [ob (xg x) q 12 [.int (jI (mc + 1)), .ref a, .int (jI (↑n))], aQ (xg x) 5 a N f, P0] rfl dJ6_add_7 rfl ?_
    refine sw_aload_n (n := 11) F 0 (some q) rfl rfl rfl dJ6_add_10 rfl ?_
    refine sw_aload_n (n := 12) F 1 (some v) rfl rfl rfl dJ6_add_11 rfl ?_
    refine sw_aload_n (n := 13) F 0 (some q) rfl rfl rfl dJ6_add_12 rfl ?_
    refine sw_get (n := 16) F 0 rfl (k := 1) ⟨(RJ6, TJ6, 3), rfl, by decide, q230, in_J6, Or.inl rfl⟩ rfl dJ6_add_13 rfl ?_
    refine sw_aload_n (n := 17) F 0 (some q) rfl rfl rfl dJ6_add_16 rfl ?_
    refine sw_get (n := 20) F 0 rfl (k := 2) ⟨(RJ6, TJ6, 3), rfl, by decide, q233, in_J6, Or.inl rfl⟩ rfl dJ6_add_17 rfl ?_
    refine sw_callV (n := 23) F (ct_J6_add_2_o (g := xg x) (l := xl x) P0 q (mc + 1) n e a N f v (by first | omega | assumption) hM hf hke hkv) (rcv_ob F 0 rfl rfl) q3338 q3340 qs57 q110 q3341 nd_J6_add_2 rfl (by decide) [0, 1, 2] rfl [] rfl 0 0 ⟨by omega, by omega⟩ [] rfl (Nat.le_of_ble_eq_true rfl) dJ6_add_20 rfl (fun _ _ h => h.elim) (fun v Ws h => ?_)
    obtain ⟨rfl, rfl⟩ := h
    show SW x [al (xg x) q (mc + 1) (n + 1) (va_up e n v), P0] _ _ _ _ []
    refine sw_iconst (n := 24) F (1) (by decide) dJ6_add_23 rfl ?_
    exact sw_iret F _ rfl (by first | rfl | exact jI_nz (by omega) | exact jI_nc (by omega)) dJ6_add_24 (by rw [hPo]; exact ⟨rfl, rfl⟩)
  ·
    refine sw_aload_n (n := 1) F 0 (some q) rfl rfl rfl dJ6_add_0 rfl ?_
    refine sw_dup (n := 2) F rfl dJ6_add_1 rfl ?_
    refine sw_get (n := 5) F 0 rfl (k := 0) ⟨(RJ6, TJ6, 3), rfl, by decide, q237, in_J6, Or.inr q236⟩ rfl dJ6_add_2 rfl ?_
    refine sw_iconst (n := 6) F (1) (by decide) dJ6_add_5 rfl ?_
    refine sw_iadd (n := 7) F dJ6_add_6 rfl ?_
    refine sw_put (n := 10) F 0 rfl (k := 0) ⟨(RJ6, TJ6, 3), rfl, by decide, q237, in_J6, Or.inr q236⟩ .int ⟨(RJ6, TJ6, 3), rfl, rfl, tyJ6_ok 0 (by decide), nmJ6, tyJ6, tyJ6_ok⟩ rfl rfl (Nat.le_of_ble_eq_true rfl) rfl [ob (xg x) q 12 [.int (jI (mc + 1)), .ref (tR (xg x) sDEF), .int (jI (↑n))], P0] rfl dJ6_add_7 rfl ?_
    refine sw_aload_n (n := 11) F 0 (some q) rfl rfl rfl dJ6_add_10 rfl ?_
    refine sw_aload_n (n := 12) F 1 (some v) rfl rfl rfl dJ6_add_11 rfl ?_
    refine sw_aload_n (n := 13) F 0 (some q) rfl rfl rfl dJ6_add_12 rfl ?_
    refine sw_get (n := 16) F 0 rfl (k := 1) ⟨(RJ6, TJ6, 3), rfl, by decide, q230, in_J6, Or.inl rfl⟩ rfl dJ6_add_13 rfl ?_
    refine sw_aload_n (n := 17) F 0 (some q) rfl rfl rfl dJ6_add_16 rfl ?_
    refine sw_get (n := 20) F 0 rfl (k := 2) ⟨(RJ6, TJ6, 3), rfl, by decide, q233, in_J6, Or.inl rfl⟩ rfl dJ6_add_17 rfl ?_
    refine sw_callV (n := 23) F (ct_J6_add_2_d (g := xg x) (l := xl x) P0 q (mc + 1) n e (tR (xg x) sDEF) v h0 (by rfl) hkv) (rcv_ob F 0 rfl rfl) q3338 q3340 qs57 q110 q3341 nd_J6_add_2 rfl (by decide) [0, 1] rfl [] rfl 0 290 ⟨by omega, by omega⟩ [] rfl (Nat.le_of_ble_eq_true rfl) dJ6_add_20 rfl (fun _ _ h => h.elim) (fun v Ws h => ?_)
    obtain ⟨rfl, rfl⟩ := h
    show SW x [al (xg x) q (mc + 1) (n + 1) (va_up e n v), P0] _ _ _ _ []
    refine sw_iconst (n := 24) F (1) (by decide) dJ6_add_23 rfl ?_
    exact sw_iret F _ rfl (by first | rfl | exact jI_nz (by omega) | exact jI_nc (by omega)) dJ6_add_24 (by rw [hPo]; exact ⟨rfl, rfl⟩)
theorem nd_J6_elementData : yJ6_elementData.cls ≠ "java/lang/invoke/MethodHandle" ∧ yJ6_elementData.cls ≠ "java/lang/invoke/VarHandle" ∧ (parseMethodDescriptor yJ6_elementData.desc).map (fun d => d.parameters.length) = some 1 := by decide +kernel
set_option maxRecDepth 100000 in
set_option maxHeartbeats 16000000 in
theorem ct_J6_elementData {g : GG} {l : Launch} (q : Nat) (mc : Int) (n : Nat) (a : Nat) (N : Nat) (f : Nat → Option Nat) (k : Nat) (hk : k < N ∧ N ≤ 300) : Ct g l yJ6_elementData (ws_ yJ6_elementData cJ6_elementData 2 (Option.some (Jvm.ClassFile.FieldType.object "java/lang/Object"))) 1 12 0 0 [.ref q, .int (jI (↑k))] [ob g q 12 [.int (jI mc), .ref a, .int (jI (↑n))], aQ g 5 a N f] (fun v9 Ws9 => v9 = some (va_rf (f k)) ∧ Ws9 = [ob g q 12 [.int (jI mc), .ref a, .int (jI (↑n))], aQ g 5 a N f]) (nox) := by
  refine Ct.of (cc := cJ6_elementData) (nL := 2) (ret := (Option.some (Jvm.ClassFile.FieldType.object "java/lang/Object"))) (by decide) rfl (Nat.le_of_ble_eq_true rfl) ?_
  intro x hg hl hPo hPx hmc hms F
  subst hg; subst hl
  refine SW.cast (L' := [(0, .ref q), (1, .int (jI (↑k)))]) ?_ rfl rfl rfl
  refine sw_aload_n (n := 1) F 0 (some q) rfl rfl rfl dJ6_elementData_0 rfl ?_
  refine sw_get (n := 4) F 0 rfl (k := 1) ⟨(RJ6, TJ6, 3), rfl, by decide, q230, in_J6, Or.inl rfl⟩ rfl dJ6_elementData_1 rfl ?_
  refine sw_iload_n (n := 5) F 1 rfl rfl dJ6_elementData_4 rfl ?_
  refine sw_aaloadQ (n := 6) F 1 rfl (fun _ => rfl) k rfl (by omega) dJ6_elementData_5 rfl ?_
  exact sw_aret F (f k) _ rfl rfl (by first | exact Or.inl ⟨_, rfl⟩ | exact Or.inr ⟨_, rfl⟩) dJ6_elementData_6 (by rw [hPo]; exact ⟨rfl, rfl⟩)
theorem nd_J6_get : yJ6_get.cls ≠ "java/lang/invoke/MethodHandle" ∧ yJ6_get.cls ≠ "java/lang/invoke/VarHandle" ∧ (parseMethodDescriptor yJ6_get.desc).map (fun d => d.parameters.length) = some 1 := by decide +kernel
set_option maxRecDepth 100000 in
set_option maxHeartbeats 16000000 in
theorem ct_J6_get {g : GG} {l : Launch} (q : Nat) (mc : Int) (n : Nat) (e : Nat → Nat) (k : Nat) (hk : k < n) : Ct g l yJ6_get (ws_ yJ6_get cJ6_get 2 (Option.some (Jvm.ClassFile.FieldType.object "java/lang/Object"))) 3 55 0 0 [.ref q, .int (jI (↑k))] [al g q mc n e] (fun v9 Ws9 => v9 = some (.ref (e k)) ∧ Ws9 = [al g q mc n e]) (nox) := by
  refine Ct.of (cc := cJ6_get) (nL := 2) (ret := (Option.some (Jvm.ClassFile.FieldType.object "java/lang/Object"))) (by decide) rfl (Nat.le_of_ble_eq_true rfl) ?_
  intro x hg hl hPo hPx hmc hms F
  subst hg; subst hl
  refine SW.cast (L' := [(0, .ref q), (1, .int (jI (↑k)))]) ?_ rfl rfl rfl
  refine sw_alOpen (fun a N f hN hM hf => ?_) (fun h0 => ?_)
  ·
    refine sw_iload_n (n := 1) F 1 rfl rfl dJ6_get_0 rfl ?_
    refine sw_aload_n (n := 2) F 0 (some q) rfl rfl rfl dJ6_get_1 rfl ?_
    refine sw_get (n := 5) F 0 rfl (k := 2) ⟨(RJ6, TJ6, 3), rfl, by decide, q233, in_J6, Or.inl rfl⟩ rfl dJ6_get_2 rfl ?_
    refine sw_callS (n := 8) F (ct_J25_checkIndex (g := xg x) (l := xl x) (↑k) (↑n) (by first | omega | assumption)) q3378 q3379 q134 q3380 nd_J25_checkIndex rfl (by decide) [0, 1] rfl [ob (xg x) q 12 [.int (jI mc), .ref a, .int (jI (↑n))], aQ (xg x) 5 a N f] rfl 0 0 ⟨by omega, by omega⟩ [] rfl (Nat.le_of_ble_eq_true rfl) dJ6_get_5 rfl (fun _ _ h => h.elim) (fun v Ws h => ?_)
    obtain ⟨rfl, rfl⟩ := h
    show SW x [ob (xg x) q 12 [.int (jI mc), .ref a, .int (jI (↑n))], aQ (xg x) 5 a N f] _ _ _ _ [.int (jI (↑k))]
    refine sw_pop (n := 9) F rfl dJ6_get_8 rfl ?_
    refine sw_aload_n (n := 10) F 0 (some q) rfl rfl rfl dJ6_get_9 rfl ?_
    refine sw_iload_n (n := 11) F 1 rfl rfl dJ6_get_10 rfl ?_
    refine sw_callV (n := 14) F (ct_J6_elementData (g := xg x) (l := xl x) q mc n a N f k (by first | omega | assumption)) (rcv_ob F 0 rfl rfl) q3382 q3383 q3384 q110 q3385 nd_J6_elementData rfl (by decide) [0, 1] rfl [] rfl 0 0 ⟨by omega, by omega⟩ [] rfl (Nat.le_of_ble_eq_true rfl) dJ6_get_11 rfl (fun _ _ h => h.elim) (fun v Ws h => ?_)
    obtain ⟨rfl, rfl⟩ := h
    show SW x [ob (xg x) q 12 [.int (jI mc), .ref a, .int (jI (↑n))], aQ (xg x) 5 a N f] _ _ _ _ [va_rf (f k)]
    rw [hf k hk]
    show SW x _ _ _ _ _ [.ref (e k)]
    refine sw_alClose (n := n) e (by omega) (by omega) (by assumption) ?_
    exact sw_aret F (some (e k)) _ rfl rfl (by first | exact Or.inl ⟨_, rfl⟩ | exact Or.inr ⟨_, rfl⟩) dJ6_get_14 (by rw [hPo]; exact ⟨rfl, rfl⟩)
  ·
    exfalso; omega
theorem nd_J6_set : yJ6_set.cls ≠ "java/lang/invoke/MethodHandle" ∧ yJ6_set.cls ≠ "java/lang/invoke/VarHandle" ∧ (parseMethodDescriptor yJ6_set.desc).map (fun d => d.parameters.length) = some 2 := by decide +kernel
set_option maxRecDepth 100000 in
set_option maxHeartbeats 16000000 in
theorem ct_J6_set {g : GG} {l : Launch} (P0 : HP) (q : Nat) (mc : Int) (n : Nat) (e : Nat → Nat) (k : Nat) (v : Nat) (hk : k < n) (hkv : kno g P0 v "java/lang/Object") : Ct g l yJ6_set (ws_ yJ6_set cJ6_set 4 (Option.some (Jvm.ClassFile.FieldType.object "java/lang/Object"))) 3 55 0 0 [.ref q, .int (jI (↑k)), .ref v] [al g q mc n e, P0] (fun v9 Ws9 => v9 = some (.ref (e k)) ∧ Ws9 = [al g q mc n (va_up e k v), P0]) (nox) := by
  refine Ct.of (cc := cJ6_set) (nL := 4) (ret := (Option.some (Jvm.ClassFile.FieldType.object "java/lang/Object"))) (by decide) rfl (Nat.le_of_ble_eq_true rfl) ?_
  intro x hg hl hPo hPx hmc hms F
  subst hg; subst hl
  refine SW.cast (L' := [(0, .ref q), (1, .int (jI (↑k))), (2, .ref v)]) ?_ rfl rfl rfl
  refine sw_alOpen (fun a N f hN hM hf => ?_) (fun h0 => ?_)
  ·
    refine sw_iload_n (n := 1) F 1 rfl rfl dJ6_set_0 rfl ?_
    refine sw_aload_n (n := 2) F 0 (some q) rfl rfl rfl dJ6_set_1 rfl ?_
    refine sw_get (n := 5) F 0 rfl (k := 2) ⟨(RJ6, TJ6, 3), rfl, by decide, q233, in_J6, Or.inl rfl⟩ rfl dJ6_set_2 rfl ?_
    refine sw_callS (n := 8) F (ct_J25_checkIndex (g := xg x) (l := xl x) (↑k) (↑n) (by first | omega | assumption)) q3378 q3379 q134 q3380 nd_J25_checkIndex rfl (by decide) [0, 1, 2] rfl [ob (xg x) q 12 [.int (jI mc), .ref a, .int (jI (↑n))], aQ (xg x) 5 a N f, P0] rfl 0 0 ⟨by omega, by omega⟩ [] rfl (Nat.le_of_ble_eq_true rfl) dJ6_set_5 rfl (fun _ _ h => h.elim) (fun v Ws h => ?_)
    obtain ⟨rfl, rfl⟩ := h
    show SW x [ob (xg x) q 12 [.int (jI mc), .ref a, .int (jI (↑n))], aQ (xg x) 5 a N f, P0] _ _ _ _ [.int (jI (↑k))]
    refine sw_pop (n := 9) F rfl dJ6_set_8 rfl ?_
    refine sw_aload_n (n := 10) F 0 (some q) rfl rfl rfl dJ6_set_9 rfl ?_
    refine sw_iload_n (n := 11) F 1 rfl rfl dJ6_set_10 rfl ?_
    refine sw_callV (n := 14) F (ct_J6_elementData (g := xg x) (l := xl x) q mc n a N f k (by first | omega | assumption)) (rcv_ob F 0 rfl rfl) q3382 q3383 q3384 q110 q3385 nd_J6_elementData rfl (by decide) [0, 1, 2] rfl [P0] rfl 0 0 ⟨by omega, by omega⟩ [] rfl (Nat.le_of_ble_eq_true rfl) dJ6_set_11 rfl (fun _ _ h => h.elim) (fun v Ws h => ?_)
    obtain ⟨rfl, rfl⟩ := h
    show SW x [ob (xg x) q 12 [.int (jI mc), .ref a, .int (jI (↑n))], aQ (xg x) 5 a N f, P0] _ _ _ _ [va_rf (f k)]
    rw [hf k hk]
    show SW x _ _ _ _ _ [.ref (e k)]
    refine sw_astore_n (n := 15) F (some (e k)) (L2 := [(3, .ref (e k)), (0, .ref q), (1, .int (jI (↑k))), (2, .ref v)]) rfl rfl (by decide) rfl dJ6_set_14 rfl ?_
    refine sw_aload_n (n := 16) F 1 (some q) rfl rfl rfl dJ6_set_15 rfl ?_
    refine sw_get (n := 19) F 0 rfl (k := 1) ⟨(RJ6, TJ6, 3), rfl, by decide, q230, in_J6, Or.inl rfl⟩ rfl dJ6_set_16 rfl ?_
    refine sw_iload_n (n := 20) F 2 rfl rfl dJ6_set_19 rfl ?_
    refine sw_aload_n (n := 21) F 3 (some v) rfl rfl rfl dJ6_set_20 rfl ?_
    refine sw_aastoreQ (n := 22) F 1 rfl (fun _ => rfl) (any_of F 2 rfl hkv) k rfl (by omega) [ob (xg x) q 12 [.int (jI mc), .ref a, .int (jI (↑n))], aQ (xg x) 5 a N (va_up f k (some v)), P0] rfl dJ6_set_21 rfl ?_
    refine sw_alClose (n := n) (va_up e k v) (by omega) (by omega) (by intro j hj; unfold va_up; by_cases h9 : j = k; rw [if_pos h9, if_pos h9]; rw [if_neg h9, if_neg h9]; exact hf j hj) ?_
    refine sw_aload_n (n := 23) F 0 (some (e k)) rfl rfl rfl dJ6_set_22 rfl ?_
    exact sw_aret F (some (e k)) _ rfl rfl (by first | exact Or.inl ⟨_, rfl⟩ | exact Or.inr ⟨_, rfl⟩) dJ6_set_23 (by rw [hPo]; exact ⟨rfl, rfl⟩)
  ·
    exfalso; omega
theorem nd_J6_fastRemove : yJ6_fastRemove.cls ≠ "java/lang/invoke/MethodHandle" ∧ yJ6_fastRemove.cls ≠ "java/lang/invoke/VarHandle" ∧ (parseMethodDescriptor yJ6_fastRemove.desc).map (fun d => d.parameters.length) = some 2 := by decide +kernel
set_option maxRecDepth 100000 in
set_option maxHeartbeats 16000000 in
theorem ct_J6_fastRemove {g : GG} {l : Launch} (q : Nat) (mc : Int) (n : Nat) (e : Nat → Nat) (a : Nat) (N : Nat) (f : Nat → Option Nat) (hn : n + 1 ≤ N) (hN : 10 ≤ N ∧ N ≤ 300) (hf : ∀ k, k < n + 1 → f k = some (e k)) : Ct g l yJ6_fastRemove (ws_ yJ6_fastRemove cJ6_fastRemove 4 (Option.none : Option Jvm.ClassFile.FieldType)) 1 12 0 0 [.ref q, .ref a, .int (jI (↑n))] [ob g q 12 [.int (jI mc), .ref a, .int (jI (↑(n + 1)))], aQ g 5 a N f] (fun v9 Ws9 => v9 = none ∧ Ws9 = [al g q (mc + 1) n e]) (nox) := by
  refine Ct.of (cc := cJ6_fastRemove) (nL := 4) (ret := (Option.none : Option Jvm.ClassFile.FieldType)) (by decide) rfl (Nat.le_of_ble_eq_true rfl) ?_
  intro x hg hl hPo hPx hmc hms F
  subst hg; subst hl
  refine SW.cast (L' := [(0, .ref q), (1, .ref a), (2, .int (jI (↑n)))]) ?_ rfl rfl rfl
  refine sw_aload_n (n := 1) F 0 (some q) rfl rfl rfl dJ6_fastRemove_0 rfl ?_
  refine sw_dup (n := 2) F rfl dJ6_fastRemove_1 rfl ?_
  refine sw_get (n := 5) F 0 rfl (k := 0) ⟨(RJ6, TJ6, 3), rfl, by decide, q237, in_J6, Or.inr q236⟩ rfl dJ6_fastRemove_2 rfl ?_
  refine sw_iconst (n := 6) F (1) (by decide) dJ6_fastRemove_5 rfl ?_
  refine sw_iadd (n := 7) F dJ6_fastRemove_6 rfl ?_
  refine sw_put (n := 10) F 0 rfl (k := 0) ⟨(RJ6, TJ6, 3), rfl, by decide, q237, in_J6, Or.inr q236⟩ .int ⟨(RJ6, TJ6, 3), rfl, rfl, tyJ6_ok 0 (by decide), nmJ6, tyJ6, tyJ6_ok⟩ rfl rfl (Nat.le_of_ble_eq_true rfl) rfl [ob (xg x) q 12 [.int (jI (mc + 1)), .ref a, .int (jI (↑(n + 1)))], aQ (xg x) 5 a N f] rfl dJ6_fastRemove_7 rfl ?_
  refine sw_aload_n (n := 11) F 0 (some q) rfl rfl rfl dJ6_fastRemove_10 rfl ?_
  refine sw_get (n := 14) F 0 rfl (k := 2) ⟨(RJ6, TJ6, 3), rfl, by decide, q233, in_J6, Or.inl rfl⟩ rfl dJ6_fastRemove_11 rfl ?_
  refine sw_iconst (n := 15) F (1) (by decide) dJ6_fastRemove_14 rfl ?_
  refine sw_isub (n := 16) F dJ6_fastRemove_15 rfl ?_
  refine sw_top (topI (show ((↑(n + 1)) - 1 : Int) = ↑n by omega)) ?_
  refine sw_dup (n := 17) F rfl dJ6_fastRemove_16 rfl ?_
  refine sw_istore_n (n := 18) F (L2 := [(3, .int (jI (↑n))), (0, .ref q), (1, .ref a), (2, .int (jI (↑n)))]) rfl (by decide) rfl dJ6_fastRemove_17 rfl ?_
  refine sw_iload_n (n := 19) F 3 rfl rfl dJ6_fastRemove_18 rfl ?_
  refine sw_icmp_le (n := 22) F (by omega) (by omega) (tgt := 34) dJ6_fastRemove_19 (by decide) rfl (fun c_19 => ?_) (fun c_19 => ?_)
  ·
    refine sw_aload_n (n := 35) F 2 (some a) rfl rfl rfl dJ6_fastRemove_34 rfl ?_
    refine sw_aload_n (n := 36) F 1 (some q) rfl rfl rfl dJ6_fastRemove_35 rfl ?_
    refine sw_iload_n (n := 37) F 0 rfl rfl dJ6_fastRemove_36 rfl ?_
    refine sw_dup_x1 (n := 38) F rfl rfl dJ6_fastRemove_37 rfl ?_
    refine sw_put (n := 41) F 0 rfl (k := 2) ⟨(RJ6, TJ6, 3), rfl, by decide, q233, in_J6, Or.inl rfl⟩ .int ⟨(RJ6, TJ6, 3), rfl, rfl, tyJ6_ok 2 (by decide), nmJ6, tyJ6, tyJ6_ok⟩ rfl rfl (Nat.le_of_ble_eq_true rfl) rfl [ob (xg x) q 12 [.int (jI (mc + 1)), .ref a, .int (jI (↑n))], aQ (xg x) 5 a N f] rfl dJ6_fastRemove_38 rfl ?_
    refine sw_null (n := 42) F dJ6_fastRemove_41 rfl ?_
    refine sw_aastoreQN (n := 43) F 1 rfl (fun _ => rfl) n rfl (by omega) [ob (xg x) q 12 [.int (jI (mc + 1)), .ref a, .int (jI (↑n))], aQ (xg x) 5 a N (va_up f n none)] rfl dJ6_fastRemove_42 rfl ?_
    refine sw_alClose (n := n) e (by omega) (by omega) (by intro j hj; unfold va_up; rw [if_neg (by omega)]; exact hf j (by omega)) ?_
    exact sw_vret F rfl dJ6_fastRemove_43 (by rw [hPo]; exact ⟨rfl, rfl⟩)
  · exfalso; omega
theorem nd_J6_remove : yJ6_remove.cls ≠ "java/lang/invoke/MethodHandle" ∧ yJ6_remove.cls ≠ "java/lang/invoke/VarHandle" ∧ (parseMethodDescriptor yJ6_remove.desc).map (fun d => d.parameters.length) = some 1 := by decide +kernel
set_option maxRecDepth 100000 in
set_option maxHeartbeats 16000000 in
theorem ct_J6_remove {g : GG} {l : Launch} (q : Nat) (mc : Int) (n : Nat) (e : Nat → Nat)  : Ct g l yJ6_remove (ws_ yJ6_remove cJ6_remove 4 (Option.some (Jvm.ClassFile.FieldType.object "java/lang/Object"))) 3 55 0 0 [.ref q, .int (jI (↑n))] [al g q mc (n + 1) e] (fun v9 Ws9 => v9 = some (.ref (e n)) ∧ Ws9 = [al g q (mc + 1) n e]) (nox) := by
  refine Ct.of (cc := cJ6_remove) (nL := 4) (ret := (Option.some (Jvm.ClassFile.FieldType.object "java/lang/Object"))) (by decide) rfl (Nat.le_of_ble_eq_true rfl) ?_
  intro x hg hl hPo hPx hmc hms F
  subst hg; subst hl
  refine SW.cast (L' := [(0, .ref q), (1, .int (jI (↑n)))]) ?_ rfl rfl rfl
  refine sw_alOpen (fun a N f hN hM hf => ?_) (fun h0 => ?_)
  ·
    refine sw_iload_n (n := 1) F 1 rfl rfl dJ6_remove_0 rfl ?_
    refine sw_aload_n (n := 2) F 0 (some q) rfl rfl rfl dJ6_remove_1 rfl ?_
    refine sw_get (n := 5) F 0 rfl (k := 2) ⟨(RJ6, TJ6, 3), rfl, by decide, q233, in_J6, Or.inl rfl⟩ rfl dJ6_remove_2 rfl ?_
    refine sw_callS (n := 8) F (ct_J25_checkIndex (g := xg x) (l := xl x) (↑n) (↑(n + 1)) (by first | omega | assumption)) q3378 q3379 q134 q3380 nd_J25_checkIndex rfl (by decide) [0, 1] rfl [ob (xg x) q 12 [.int (jI mc), .ref a, .int (jI (↑(n + 1)))], aQ (xg x) 5 a N f] rfl 0 0 ⟨by omega, by omega⟩ [] rfl (Nat.le_of_ble_eq_true rfl) dJ6_remove_5 rfl (fun _ _ h => h.elim) (fun v Ws h => ?_)
    obtain ⟨rfl, rfl⟩ := h
    show SW x [ob (xg x) q 12 [.int (jI mc), .ref a, .int (jI (↑(n + 1)))], aQ (xg x) 5 a N f] _ _ _ _ [.int (jI (↑n))]
    refine sw_pop (n := 9) F rfl dJ6_remove_8 rfl ?_
    refine sw_aload_n (n := 10) F 0 (some q) rfl rfl rfl dJ6_remove_9 rfl ?_
    refine sw_get (n := 13) F 0 rfl (k := 1) ⟨(RJ6, TJ6, 3), rfl, by decide, q230, in_J6, Or.inl rfl⟩ rfl dJ6_remove_10 rfl ?_
    refine sw_astore_n (n := 14) F (some a) (L2 := [(2, .ref a), (0, .ref q), (1, .int (jI (↑n)))]) rfl rfl (by decide) rfl dJ6_remove_13 rfl ?_
    refine sw_aload_n (n := 15) F 0 (some a) rfl rfl rfl dJ6_remove_14 rfl ?_
    refine sw_iload_n (n := 16) F 2 rfl rfl dJ6_remove_15 rfl ?_
    refine sw_aaloadQ (n := 17) F 1 rfl (fun _ => rfl) n rfl (by omega) dJ6_remove_16 rfl ?_
    rw [hf n (by omega)]
    show SW x _ _ _ _ _ [.ref (e n)]
    refine sw_astore_n (n := 18) F (some (e n)) (L2 := [(3, .ref (e n)), (2, .ref a), (0, .ref q), (1, .int (jI (↑n)))]) rfl rfl (by decide) rfl dJ6_remove_17 rfl ?_
    refine sw_aload_n (n := 19) F 2 (some q) rfl rfl rfl dJ6_remove_18 rfl ?_
    refine sw_aload_n (n := 20) F 1 (some a) rfl rfl rfl dJ6_remove_19 rfl ?_
    refine sw_iload_n (n := 21) F 3 rfl rfl dJ6_remove_20 rfl ?_
    refine sw_callV (n := 24) F (ct_J6_fastRemove (g := xg x) (l := xl x) q mc n e a N f hN hM hf) (rcv_ob F 0 rfl rfl) q3788 q3790 qs67 q110 q3791 nd_J6_fastRemove rfl (by decide) [0, 1] rfl [] rfl 0 0 ⟨by omega, by omega⟩ [] rfl (Nat.le_of_ble_eq_true rfl) dJ6_remove_21 rfl (fun _ _ h => h.elim) (fun v Ws h => ?_)
    obtain ⟨rfl, rfl⟩ := h
    show SW x [al (xg x) q (mc + 1) n e] _ _ _ _ []
    refine sw_aload_n (n := 25) F 0 (some (e n)) rfl rfl rfl dJ6_remove_24 rfl ?_
    exact sw_aret F (some (e n)) _ rfl rfl (by first | exact Or.inl ⟨_, rfl⟩ | exact Or.inr ⟨_, rfl⟩) dJ6_remove_25 (by rw [hPo]; exact ⟨rfl, rfl⟩)
  ·
    exfalso; omega
theorem nd_J6_clear : yJ6_clear.cls ≠ "java/lang/invoke/MethodHandle" ∧ yJ6_clear.cls ≠ "java/lang/invoke/VarHandle" ∧ (parseMethodDescriptor yJ6_clear.desc).map (fun d => d.parameters.length) = some 0 := by decide +kernel
set_option maxRecDepth 100000 in
set_option maxHeartbeats 16000000 in
theorem ct_J6_clear {g : GG} {l : Launch} (q : Nat) (mc : Int) (n : Nat) (e : Nat → Nat)  : Ct g l yJ6_clear (ws_ yJ6_clear cJ6_clear 4 (Option.none : Option Jvm.ClassFile.FieldType)) 1 12 0 0 [.ref q] [al g q mc n e] (fun v9 Ws9 => v9 = none ∧ Ws9 = [al g q (mc + 1) 0 e]) (nox) := by
  refine Ct.of (cc := cJ6_clear) (nL := 4) (ret := (Option.none : Option Jvm.ClassFile.FieldType)) (by decide) rfl (Nat.le_of_ble_eq_true rfl) ?_
  intro x hg hl hPo hPx hmc hms F
  subst hg; subst hl
  refine SW.cast (L' := [(0, .ref q)]) ?_ rfl rfl rfl
  refine sw_alOpen (fun a N f hN hM hf => ?_) (fun h0 => ?_)
  ·
    refine sw_aload_n (n := 1) F 0 (some q) rfl rfl rfl dJ6_clear_0 rfl ?_
    refine sw_dup (n := 2) F rfl dJ6_clear_1 rfl ?_
    refine sw_get (n := 5) F 0 rfl (k := 0) ⟨(RJ6, TJ6, 3), rfl, by decide, q237, in_J6, Or.inr q236⟩ rfl dJ6_clear_2 rfl ?_
    refine sw_iconst (n := 6) F (1) (by decide) dJ6_clear_5 rfl ?_
    refine sw_iadd (n := 7) F dJ6_clear_6 rfl ?_
    refine sw_put (n := 10) F 0 rfl (k := 0) ⟨(RJ6, TJ6, 3), rfl, by decide, q237, in_J6, Or.inr q236⟩ .int ⟨(RJ6, TJ6, 3), rfl, rfl, tyJ6_ok 0 (by decide), nmJ6, tyJ6, tyJ6_ok⟩ rfl rfl (Nat.le_of_ble_eq_true rfl) rfl [ob (xg x) q 12 [.int (jI (mc + 1)), .ref a, .int (jI (↑n))], aQ (xg x) 5 a N f] rfl dJ6_clear_7 rfl ?_
    refine sw_aload_n (n := 11) F 0 (some q) rfl rfl rfl dJ6_clear_10 rfl ?_
    refine sw_get (n := 14) F 0 rfl (k := 1) ⟨(RJ6, TJ6, 3), rfl, by decide, q230, in_J6, Or.inl rfl⟩ rfl dJ6_clear_11 rfl ?_
    refine sw_astore_n (n := 15) F (some a) (L2 := [(1, .ref a), (0, .ref q)]) rfl rfl (by decide) rfl dJ6_clear_14 rfl ?_
    refine sw_aload_n (n := 16) F 1 (some q) rfl rfl rfl dJ6_clear_15 rfl ?_
    refine sw_get (n := 19) F 0 rfl (k := 2) ⟨(RJ6, TJ6, 3), rfl, by decide, q233, in_J6, Or.inl rfl⟩ rfl dJ6_clear_16 rfl ?_
    refine sw_istore_n (n := 20) F (L2 := [(2, .int (jI (↑n))), (1, .ref a), (0, .ref q)]) rfl (by decide) rfl dJ6_clear_19 rfl ?_
    refine sw_aload_n (n := 21) F 2 (some q) rfl rfl rfl dJ6_clear_20 rfl ?_
    refine sw_iconst (n := 22) F (0) (by decide) dJ6_clear_21 rfl ?_
    refine sw_dup_x1 (n := 23) F rfl rfl dJ6_clear_22 rfl ?_
    refine sw_put (n := 26) F 0 rfl (k := 2) ⟨(RJ6, TJ6, 3), rfl, by decide, q233, in_J6, Or.inl rfl⟩ .int ⟨(RJ6, TJ6, 3), rfl, rfl, tyJ6_ok 2 (by decide), nmJ6, tyJ6, tyJ6_ok⟩ rfl rfl (Nat.le_of_ble_eq_true rfl) rfl [ob (xg x) q 12 [.int (jI (mc + 1)), .ref a, .int (jI 0)], aQ (xg x) 5 a N f] rfl dJ6_clear_23 rfl ?_
    refine sw_istore_n (n := 27) F (L2 := [(3, .int (jI 0)), (2, .int (jI (↑n))), (1, .ref a), (0, .ref q)]) rfl (by decide) rfl dJ6_clear_26 rfl ?_
    have K27 : ∀ N27 : Nat, ∀ (t : Nat) (f2 : Nat → Option Nat), (t ≤ n) → ((n - t) < N27) → SW x [ob (xg x) q 12 [.int (jI (mc + 1)), .ref a, .int (jI 0)], aQ (xg x) 5 a N f2] 0 0 27 [(0, .ref q), (1, .ref a), (2, .int (jI (↑n))), (3, .int (jI (↑t)))] [] := by
      intro N27; induction N27 with
      | zero => intro t f2 ht hmu27; omega
      | succ N27 ih27 =>
        intro t f2 ht hmu27
        refine sw_iload_n (n := 28) F 3 rfl rfl dJ6_clear_27 rfl ?_
        refine sw_iload_n (n := 29) F 2 rfl rfl dJ6_clear_28 rfl ?_
        refine sw_icmp_ge (n := 32) F (by omega) (by omega) (tgt := 42) dJ6_clear_29 (by decide) rfl (fun c_29 => ?_) (fun c_29 => ?_)
        ·
          refine sw_alClose (n := 0) e (by omega) (by omega) (by intro k hk; omega) ?_
          exact sw_vret F rfl dJ6_clear_42 (by rw [hPo]; exact ⟨rfl, rfl⟩)
        ·
          refine sw_aload_n (n := 33) F 1 (some a) rfl rfl rfl dJ6_clear_32 rfl ?_
          refine sw_iload_n (n := 34) F 3 rfl rfl dJ6_clear_33 rfl ?_
          refine sw_null (n := 35) F dJ6_clear_34 rfl ?_
          refine sw_aastoreQN (n := 36) F 1 rfl (fun _ => rfl) t (by omega) (by omega) [ob (xg x) q 12 [.int (jI (mc + 1)), .ref a, .int (jI 0)], aQ (xg x) 5 a N (va_up f2 t none)] rfl dJ6_clear_35 rfl ?_
          refine sw_iinc (n := 39) F 3 (L2 := [(3, .int (jI (↑t + 1))), (0, .ref q), (1, .ref a), (2, .int (jI (↑n)))]) rfl rfl (by decide) dJ6_clear_36 rfl ?_
          refine sw_goto F (n := 27) dJ6_clear_39 (by decide) ?_
          refine sw_loc [1, 2, 3, 0] (L2 := [(0, .ref q), (1, .ref a), (2, .int (jI (↑n))), (3, .int (jI (↑t + 1)))]) rfl ?_
          rw [show (↑t + 1 : Int) = ↑(t + 1) by omega]
          exact ih27 (t + 1) (va_up f2 t none) (by first | omega | assumption) (by omega)
    refine sw_loc [3, 2, 1, 0] (L2 := [(0, .ref q), (1, .ref a), (2, .int (jI (↑n))), (3, .int (jI 0))]) rfl ?_
    exact K27 _ 0 f (by first | omega | assumption) (Nat.lt_succ_self _)
  ·
    refine sw_aload_n (n := 1) F 0 (some q) rfl rfl rfl dJ6_clear_0 rfl ?_
    refine sw_dup (n := 2) F rfl dJ6_clear_1 rfl ?_
    refine sw_get (n := 5) F 0 rfl (k := 0) ⟨(RJ6, TJ6, 3), rfl, by decide, q237, in_J6, Or.inr q236⟩ rfl dJ6_clear_2 rfl ?_
    refine sw_iconst (n := 6) F (1) (by decide) dJ6_clear_5 rfl ?_
    refine sw_iadd (n := 7) F dJ6_clear_6 rfl ?_
    refine sw_put (n := 10) F 0 rfl (k := 0) ⟨(RJ6, TJ6, 3), rfl, by decide, q237, in_J6, Or.inr q236⟩ .int ⟨(RJ6, TJ6, 3), rfl, rfl, tyJ6_ok 0 (by decide), nmJ6, tyJ6, tyJ6_ok⟩ rfl rfl (Nat.le_of_ble_eq_true rfl) rfl [ob (xg x) q 12 [.int (jI (mc + 1)), .ref (tR (xg x) sDEF), .int (jI (↑n))]] rfl dJ6_clear_7 rfl ?_
    refine sw_aload_n (n := 11) F 0 (some q) rfl rfl rfl dJ6_clear_10 rfl ?_
    refine sw_get (n := 14) F 0 rfl (k := 1) ⟨(RJ6, TJ6, 3), rfl, by decide, q230, in_J6, Or.inl rfl⟩ rfl dJ6_clear_11 rfl ?_
    refine sw_astore_n (n := 15) F (some (tR (xg x) sDEF)) (L2 := [(1, .ref (tR (xg x) sDEF)), (0, .ref q)]) rfl rfl (by decide) rfl dJ6_clear_14 rfl ?_
    refine sw_aload_n (n := 16) F 1 (some q) rfl rfl rfl dJ6_clear_15 rfl ?_
    refine sw_get (n := 19) F 0 rfl (k := 2) ⟨(RJ6, TJ6, 3), rfl, by decide, q233, in_J6, Or.inl rfl⟩ rfl dJ6_clear_16 rfl ?_
    refine sw_istore_n (n := 20) F (L2 := [(2, .int (jI (↑n))), (1, .ref (tR (xg x) sDEF)), (0, .ref q)]) rfl (by decide) rfl dJ6_clear_19 rfl ?_
    refine sw_aload_n (n := 21) F 2 (some q) rfl rfl rfl dJ6_clear_20 rfl ?_
    refine sw_iconst (n := 22) F (0) (by decide) dJ6_clear_21 rfl ?_
    refine sw_dup_x1 (n := 23) F rfl rfl dJ6_clear_22 rfl ?_
    refine sw_put (n := 26) F 0 rfl (k := 2) ⟨(RJ6, TJ6, 3), rfl, by decide, q233, in_J6, Or.inl rfl⟩ .int ⟨(RJ6, TJ6, 3), rfl, rfl, tyJ6_ok 2 (by decide), nmJ6, tyJ6, tyJ6_ok⟩ rfl rfl (Nat.le_of_ble_eq_true rfl) rfl [ob (xg x) q 12 [.int (jI (mc + 1)), .ref (tR (xg x) sDEF), .int (jI 0)]] rfl dJ6_clear_23 rfl ?_
    refine sw_istore_n (n := 27) F (L2 := [(3, .int (jI 0)), (2, .int (jI (↑n))), (1, .ref (tR (xg x) sDEF)), (0, .ref q)]) rfl (by decide) rfl dJ6_clear_26 rfl ?_
    have K27 : ∀ N27 : Nat, ∀ (t : Nat) (f2 : Nat → Option Nat), (t ≤ n) → ((n - t) < N27) → SW x [ob (xg x) q 12 [.int (jI (mc + 1)), .ref (tR (xg x) sDEF), .int (jI 0)]] 0 0 27 [(0, .ref q), (1, .ref (tR (xg x) sDEF)), (2, .int (jI (↑n))), (3, .int (jI (↑t)))] [] := by
      intro N27; induction N27 with
      | zero => intro t f2 ht hmu27; omega
      | succ N27 ih27 =>
        intro t f2 ht hmu27
        refine sw_iload_n (n := 28) F 3 rfl rfl dJ6_clear_27 rfl ?_
        refine sw_iload_n (n := 29) F 2 rfl rfl dJ6_clear_28 rfl ?_
        refine sw_icmp_ge (n := 32) F (by omega) (by omega) (tgt := 42) dJ6_clear_29 (by decide) rfl (fun c_29 => ?_) (fun c_29 => ?_)
        ·
          refine sw_alClose0 (n := 0) e (by omega) ?_
          exact sw_vret F rfl dJ6_clear_42 (by rw [hPo]; exact ⟨rfl, rfl⟩)
        ·
          refine sw_aload_n (n := 33) F 1 (some (tR (xg x) sDEF)) rfl rfl rfl dJ6_clear_32 rfl ?_
          refine sw_iload_n (n := 34) F 3 rfl rfl dJ6_clear_33 rfl ?_
          refine sw_null (n := 35) F dJ6_clear_34 rfl ?_
          exfalso; omega
    refine sw_loc [3, 2, 1, 0] (L2 := [(0, .ref q), (1, .ref (tR (xg x) sDEF)), (2, .int (jI (↑n))), (3, .int (jI 0))]) rfl ?_
    exact K27 _ 0 (fun _ => none) (by first | omega | assumption) (Nat.lt_succ_self _)
theorem nd_J6_size : yJ6_size.cls ≠ "java/lang/invoke/MethodHandle" ∧ yJ6_size.cls ≠ "java/lang/invoke/VarHandle" ∧ (parseMethodDescriptor yJ6_size.desc).map (fun d => d.parameters.length) = some 0 := by decide +kernel
set_option maxRecDepth 100000 in
set_option maxHeartbeats 16000000 in
theorem ct_J6_size {g : GG} {l : Launch} (q : Nat) (mc : Int) (n : Nat) (e : Nat → Nat)  : Ct g l yJ6_size (ws_ yJ6_size cJ6_size 1 (Option.some Jvm.ClassFile.FieldType.int)) 1 12 0 0 [.ref q] [al g q mc n e] (fun v9 Ws9 => v9 = some (.int (jI (↑n))) ∧ Ws9 = [al g q mc n e]) (nox) := by
  refine Ct.of (cc := cJ6_size) (nL := 1) (ret := (Option.some Jvm.ClassFile.FieldType.int)) (by decide) rfl (Nat.le_of_ble_eq_true rfl) ?_
  intro x hg hl hPo hPx hmc hms F
  subst hg; subst hl
  refine SW.cast (L' := [(0, .ref q)]) ?_ rfl rfl rfl
  refine sw_aload_n (n := 1) F 0 (some q) rfl rfl rfl dJ6_size_0 rfl ?_
  refine sw_getA (n := 4) F 0 rfl (k := 2) ⟨(RJ6, TJ6, 3), rfl, by decide, q233, in_J6, Or.inl rfl⟩ (.int (jI (↑n))) (fun _ => rfl) dJ6_size_1 rfl ?_
  show SW x _ _ _ _ _ [.int (jI (↑n))]
  exact sw_iret F _ rfl (by first | rfl | exact jI_nz (by omega) | exact jI_nc (by omega)) dJ6_size_4 (by rw [hPo]; exact ⟨rfl, rfl⟩)
theorem nd_J4_init : yJ4_init.cls ≠ "java/lang/invoke/MethodHandle" ∧ yJ4_init.cls ≠ "java/lang/invoke/VarHandle" ∧ (parseMethodDescriptor yJ4_init.desc).map (fun d => d.parameters.length) = some 0 := by decide +kernel
set_option maxRecDepth 100000 in
set_option maxHeartbeats 16000000 in
theorem ct_J4_init {g : GG} {l : Launch} (q : Nat)  : Ct g l yJ4_init (ws_ yJ4_init cJ4_init 1 (Option.none : Option Jvm.ClassFile.FieldType)) 1 12 0 0 [.ref q] [] (fun v9 Ws9 => v9 = none ∧ Ws9 = []) (nox) := by
  refine Ct.of (cc := cJ4_init) (nL := 1) (ret := (Option.none : Option Jvm.ClassFile.FieldType)) (by decide) rfl (Nat.le_of_ble_eq_true rfl) ?_
  intro x hg hl hPo hPx hmc hms F
  subst hg; subst hl
  refine SW.cast (L' := [(0, .ref q)]) ?_ rfl rfl rfl
  refine sw_aload_n (n := 1) F 0 (some q) rfl rfl rfl dJ4_init_0 rfl ?_
  refine sw_objInit (n := 4) F q227 q_oi q_oc (by decide) dJ4_init_1 rfl ?_
  exact sw_vret F rfl dJ4_init_4 (by rw [hPo]; exact ⟨rfl, rfl⟩)
theorem nd_J5_init : yJ5_init.cls ≠ "java/lang/invoke/MethodHandle" ∧ yJ5_init.cls ≠ "java/lang/invoke/VarHandle" ∧ (parseMethodDescriptor yJ5_init.desc).map (fun d => d.parameters.length) = some 0 := by decide +kernel
set_option maxRecDepth 100000 in
set_option maxHeartbeats 16000000 in
theorem ct_J5_init {g : GG} {l : Launch} (q : Nat) (mc : Int) (sz : Int)  : Ct g l yJ5_init (ws_ yJ5_init cJ5_init 1 (Option.none : Option Jvm.ClassFile.FieldType)) 2 32 0 0 [.ref q] [ob g q 12 [.int (jI mc), .null, .int (jI sz)]] (fun v9 Ws9 => v9 = none ∧ Ws9 = [ob g q 12 [.int (jI 0), .null, .int (jI sz)]]) (nox) := by
  refine Ct.of (cc := cJ5_init) (nL := 1) (ret := (Option.none : Option Jvm.ClassFile.FieldType)) (by decide) rfl (Nat.le_of_ble_eq_true rfl) ?_
  intro x hg hl hPo hPx hmc hms F
  subst hg; subst hl
  refine SW.cast (L' := [(0, .ref q)]) ?_ rfl rfl rfl
  refine sw_aload_n (n := 1) F 0 (some q) rfl rfl rfl dJ5_init_0 rfl ?_
  refine sw_callI (n := 4) F (ct_J4_init (g := xg x) (l := xl x) q ) q224 q225 q108 q226 rfl nd_J4_init rfl (by decide) [0] rfl [ob (xg x) q 12 [.int (jI mc), .null, .int (jI sz)]] rfl 0 0 ⟨by omega, by omega⟩ [] rfl (Nat.le_of_ble_eq_true rfl) dJ5_init_1 rfl (fun _ _ h => h.elim) (fun v Ws h => ?_)
  obtain ⟨rfl, rfl⟩ := h
  show SW x [ob (xg x) q 12 [.int (jI mc), .null, .int (jI sz)]] _ _ _ _ []
  refine sw_aload_n (n := 5) F 0 (some q) rfl rfl rfl dJ5_init_4 rfl ?_
  refine sw_iconst (n := 6) F (0) (by decide) dJ5_init_5 rfl ?_
  refine sw_put (n := 9) F 0 rfl (k := 0) ⟨(RJ6, TJ6, 3), rfl, by decide, q234, in_J6, Or.inl rfl⟩ .int ⟨(RJ6, TJ6, 3), rfl, rfl, tyJ6_ok 0 (by decide), nmJ6, tyJ6, tyJ6_ok⟩ rfl rfl (Nat.le_of_ble_eq_true rfl) rfl [ob (xg x) q 12 [.int (jI 0), .null, .int (jI sz)]] rfl dJ5_init_6 rfl ?_
  exact sw_vret F rfl dJ5_init_9 (by rw [hPo]; exact ⟨rfl, rfl⟩)
theorem nd_J6_init : yJ6_init.cls ≠ "java/lang/invoke/MethodHandle" ∧ yJ6_init.cls ≠ "java/lang/invoke/VarHandle" ∧ (parseMethodDescriptor yJ6_init.desc).map (fun d => d.parameters.length) = some 0 := by decide +kernel
set_option maxRecDepth 100000 in
set_option maxHeartbeats 16000000 in
theorem ct_J6_init {g : GG} {l : Launch} (q : Nat) (e : Nat → Nat)  : Ct g l yJ6_init (ws_ yJ6_init cJ6_init 1 (Option.none : Option Jvm.ClassFile.FieldType)) 3 52 0 0 [.ref q] [ob g q 12 [.int (jI 0), .null, .int (jI 0)]] (fun v9 Ws9 => v9 = none ∧ Ws9 = [al g q 0 0 e]) (nox) := by
  refine Ct.of (cc := cJ6_init) (nL := 1) (ret := (Option.none : Option Jvm.ClassFile.FieldType)) (by decide) rfl (Nat.le_of_ble_eq_true rfl) ?_
  intro x hg hl hPo hPx hmc hms F
  subst hg; subst hl
  refine SW.cast (L' := [(0, .ref q)]) ?_ rfl rfl rfl
  refine sw_aload_n (n := 1) F 0 (some q) rfl rfl rfl dJ6_init_0 rfl ?_
  refine sw_callI (n := 4) F (ct_J5_init (g := xg x) (l := xl x) q 0 0 ) q221 q222 q109 q223 rfl nd_J5_init rfl (by decide) [0] rfl [] rfl 0 0 ⟨by omega, by omega⟩ [] rfl (Nat.le_of_ble_eq_true rfl) dJ6_init_1 rfl (fun _ _ h => h.elim) (fun v Ws h => ?_)
  obtain ⟨rfl, rfl⟩ := h
  show SW x [ob (xg x) q 12 [.int (jI 0), .null, .int (jI 0)]] _ _ _ _ []
  refine sw_aload_n (n := 5) F 0 (some q) rfl rfl rfl dJ6_init_4 rfl ?_
  refine sw_gets (n := 8) F (kDEF F.gx.1).1 q228 (Or.inl rfl) dJ6_init_5 rfl ?_
  refine sw_put (n := 11) F 0 rfl (k := 1) ⟨(RJ6, TJ6, 3), rfl, by decide, q230, in_J6, Or.inl rfl⟩ (tyJ6 1) ⟨(RJ6, TJ6, 3), rfl, rfl, tyJ6_ok 1 (by decide), nmJ6, tyJ6, tyJ6_ok⟩ rfl rfl (Nat.le_of_ble_eq_true rfl) rfl [ob (xg x) q 12 [.int (jI 0), .ref (tR (xg x) sDEF), .int (jI 0)]] rfl dJ6_init_8 rfl ?_
  refine sw_alClose0 (n := 0) e (by omega) ?_
  exact sw_vret F rfl dJ6_init_11 (by rw [hPo]; exact ⟨rfl, rfl⟩)
theorem nd_J43_init : yJ43_init.cls ≠ "java/lang/invoke/MethodHandle" ∧ yJ43_init.cls ≠ "java/lang/invoke/VarHandle" ∧ (parseMethodDescriptor yJ43_init.desc).map (fun d => d.parameters.length) = some 1 := by decide +kernel
set_option maxRecDepth 100000 in
set_option maxHeartbeats 16000000 in
theorem ct_J43_init {g : GG} {l : Launch} (r : Nat) (q : Nat) (mc : Int) (n : Nat) (e : Nat → Nat)  : Ct g l yJ43_init (ws_ yJ43_init cJ43_init 2 (Option.none : Option Jvm.ClassFile.FieldType)) 1 12 0 0 [.ref r, .ref q] [ob g r 21 [.int (jI 0), .int (jI 0), .int (jI 0), .null], al g q mc n e] (fun v9 Ws9 => v9 = none ∧ Ws9 = [ob g r 21 [.int (jI 0), .int (jI (-1)), .int (jI mc), .ref q], al g q mc n e]) (nox) := by
  refine Ct.of (cc := cJ43_init) (nL := 2) (ret := (Option.none : Option Jvm.ClassFile.FieldType)) (by decide) rfl (Nat.le_of_ble_eq_true rfl) ?_
  intro x hg hl hPo hPx hmc hms F
  subst hg; subst hl
  refine SW.cast (L' := [(0, .ref r), (1, .ref q)]) ?_ rfl rfl rfl
  refine sw_aload_n (n := 1) F 0 (some r) rfl rfl rfl dJ43_init_0 rfl ?_
  refine sw_aload_n (n := 2) F 1 (some q) rfl rfl rfl dJ43_init_1 rfl ?_
  refine sw_putF (n := 5) F rfl 0 rfl (k := 3) ⟨(RJ43, TJ43, 4), rfl, by decide, q869, in_J43, Or.inl rfl⟩ (tyJ43 3) ⟨(RJ43, TJ43, 4), rfl, rfl, rfl, tyJ43_ok 3 (by decide), nmJ43, tyJ43, tyJ43_ok⟩ rfl rfl (Nat.le_of_ble_eq_true rfl) rfl [ob (xg x) r 21 [.int (jI 0), .int (jI 0), .int (jI 0), .ref q], al (xg x) q mc n e] rfl dJ43_init_2 rfl ?_
  refine sw_aload_n (n := 6) F 0 (some r) rfl rfl rfl dJ43_init_5 rfl ?_
  refine sw_objInit (n := 9) F q865 q_oi q_oc (by decide) dJ43_init_6 rfl ?_
  refine sw_aload_n (n := 10) F 0 (some r) rfl rfl rfl dJ43_init_9 rfl ?_
  refine sw_iconst (n := 11) F (-1) (by decide) dJ43_init_10 rfl ?_
  refine sw_put (n := 14) F 0 rfl (k := 1) ⟨(RJ43, TJ43, 4), rfl, by decide, q867, in_J43, Or.inl rfl⟩ .int ⟨(RJ43, TJ43, 4), rfl, rfl, tyJ43_ok 1 (by decide), nmJ43, tyJ43, tyJ43_ok⟩ rfl rfl (Nat.le_of_ble_eq_true rfl) rfl [ob (xg x) r 21 [.int (jI 0), .int (jI (-1)), .int (jI 0), .ref q], al (xg x) q mc n e] rfl dJ43_init_11 rfl ?_
  refine sw_aload_n (n := 15) F 0 (some r) rfl rfl rfl dJ43_init_14 rfl ?_
  refine sw_aload_n (n := 16) F 0 (some r) rfl rfl rfl dJ43_init_15 rfl ?_
  refine sw_get (n := 19) F 0 rfl (k := 3) ⟨(RJ43, TJ43, 4), rfl, by decide, q869, in_J43, Or.inl rfl⟩ rfl dJ43_init_16 rfl ?_
  refine sw_getA (n := 22) F 1 rfl (k := 0) ⟨(RJ6, TJ6, 3), rfl, by decide, q235, in_J6, Or.inr q236⟩ (.int (jI mc)) (fun _ => rfl) dJ43_init_19 rfl ?_
  show SW x _ _ _ _ _ [.int (jI mc), .ref r]
  refine sw_put (n := 25) F 0 rfl (k := 2) ⟨(RJ43, TJ43, 4), rfl, by decide, q868, in_J43, Or.inl rfl⟩ .int ⟨(RJ43, TJ43, 4), rfl, rfl, tyJ43_ok 2 (by decide), nmJ43, tyJ43, tyJ43_ok⟩ rfl rfl (Nat.le_of_ble_eq_true rfl) rfl [ob (xg x) r 21 [.int (jI 0), .int (jI (-1)), .int (jI mc), .ref q], al (xg x) q mc n e] rfl dJ43_init_22 rfl ?_
  exact sw_vret F rfl dJ43_init_25 (by rw [hPo]; exact ⟨rfl, rfl⟩)
theorem nd_J6_iterator : yJ6_iterator.cls ≠ "java/lang/invoke/MethodHandle" ∧ yJ6_iterator.cls ≠ "java/lang/invoke/VarHandle" ∧ (parseMethodDescriptor yJ6_iterator.desc).map (fun d => d.parameters.length) = some 0 := by decide +kernel
set_option maxRecDepth 100000 in
set_option maxHeartbeats 16000000 in
theorem ct_J6_iterator {g : GG} {l : Launch} (q : Nat) (mc : Int) (n : Nat) (e : Nat → Nat)  : Ct g l yJ6_iterator (ws_ yJ6_iterator cJ6_iterator 1 (Option.some (Jvm.ClassFile.FieldType.object "java/util/Iterator"))) 2 33 1 4 [.ref q] [al g q mc n e] (fun v9 Ws9 => ∃ r1 : Nat, v9 = some (.ref r1) ∧ Ws9 = [ob g r1 21 [.int (jI 0), .int (jI (-1)), .int (jI mc), .ref q], al g q mc n e]) (nox) := by
  refine Ct.of (cc := cJ6_iterator) (nL := 1) (ret := (Option.some (Jvm.ClassFile.FieldType.object "java/util/Iterator"))) (by decide) rfl (Nat.le_of_ble_eq_true rfl) ?_
  intro x hg hl hPo hPx hmc hms F
  subst hg; subst hl
  refine SW.cast (L' := [(0, .ref q)]) ?_ rfl rfl rfl
  refine sw_new (n := 3) F (ci := 21) (N := 4) RJ43 TJ43 tyJ43 rfl q860 q861 q157 in_J43 tyJ43_ok (fs := [.int (jI 0), .int (jI 0), .int (jI 0), .null]) rfl 0 0 ⟨by omega, by omega⟩ dJ6_iterator_0 rfl (fun q_1 => ?_)
  refine sw_dup (n := 4) F rfl dJ6_iterator_3 rfl ?_
  refine sw_aload_n (n := 5) F 0 (some q) rfl rfl rfl dJ6_iterator_4 rfl ?_
  refine sw_callI (n := 8) F (ct_J43_init (g := xg x) (l := xl x) q_1 q mc n e ) q862 q863 q157 q864 rfl nd_J43_init rfl (by decide) [0, 1] rfl [] rfl 0 0 ⟨by omega, by omega⟩ [.ref q_1] rfl (Nat.le_of_ble_eq_true rfl) dJ6_iterator_5 rfl (fun _ _ h => h.elim) (fun v Ws h => ?_)
  obtain ⟨rfl, rfl⟩ := h
  show SW x [ob (xg x) q_1 21 [.int (jI 0), .int (jI (-1)), .int (jI mc), .ref q], al (xg x) q mc n e] _ _ _ _ [.ref q_1]
  exact sw_aret F (some q_1) _ rfl rfl (by first | exact Or.inl ⟨_, rfl⟩ | exact Or.inr ⟨_, rfl⟩) dJ6_iterator_8 (by rw [hPo]; exact ⟨q_1, rfl, rfl⟩)
theorem nd_J43_checkForComodification : yJ43_checkForComodification.cls ≠ "java/lang/invoke/MethodHandle" ∧ yJ43_checkForComodification.cls ≠ "java/lang/invoke/VarHandle" ∧ (parseMethodDescriptor yJ43_checkForComodification.desc).map (fun d => d.parameters.length) = some 0 := by decide +kernel
set_option maxRecDepth 100000 in
set_option maxHeartbeats 16000000 in
theorem ct_J43_checkForComodification {g : GG} {l : Launch} (r : Nat) (c : Nat) (l9 : Int) (q : Nat) (mc : Int) (n : Nat) (e : Nat → Nat)  : Ct g l yJ43_checkForComodification (ws_ yJ43_checkForComodification cJ43_checkForComodification 1 (Option.none : Option Jvm.ClassFile.FieldType)) 1 12 0 0 [.ref r] [ob g r 21 [.int (jI (↑c)), .int (jI l9), .int (jI mc), .ref q], al g q mc n e] (fun v9 Ws9 => v9 = none ∧ Ws9 = [ob g r 21 [.int (jI (↑c)), .int (jI l9), .int (jI mc), .ref q], al g q mc n e]) (nox) := by
  refine Ct.of (cc := cJ43_checkForComodification) (nL := 1) (ret := (Option.none : Option Jvm.ClassFile.FieldType)) (by decide) rfl (Nat.le_of_ble_eq_true rfl) ?_
  intro x hg hl hPo hPx hmc hms F
  subst hg; subst hl
  refine SW.cast (L' := [(0, .ref r)]) ?_ rfl rfl rfl
  refine sw_aload_n (n := 1) F 0 (some r) rfl rfl rfl dJ43_checkForComodification_0 rfl ?_
  refine sw_get (n := 4) F 0 rfl (k := 3) ⟨(RJ43, TJ43, 4), rfl, by decide, q869, in_J43, Or.inl rfl⟩ rfl dJ43_checkForComodification_1 rfl ?_
  refine sw_getA (n := 7) F 1 rfl (k := 0) ⟨(RJ6, TJ6, 3), rfl, by decide, q235, in_J6, Or.inr q236⟩ (.int (jI mc)) (fun _ => rfl) dJ43_checkForComodification_4 rfl ?_
  show SW x _ _ _ _ _ [.int (jI mc)]
  refine sw_aload_n (n := 8) F 0 (some r) rfl rfl rfl dJ43_checkForComodification_7 rfl ?_
  refine sw_get (n := 11) F 0 rfl (k := 2) ⟨(RJ43, TJ43, 4), rfl, by decide, q868, in_J43, Or.inl rfl⟩ rfl dJ43_checkForComodification_8 rfl ?_
  refine sw_icmp_eqS (n := 14) F (tgt := 22) dJ43_checkForComodification_11 (by decide) rfl ?_
  exact sw_vret F rfl dJ43_checkForComodification_22 (by rw [hPo]; exact ⟨rfl, rfl⟩)
theorem nd_J43_hasNext : yJ43_hasNext.cls ≠ "java/lang/invoke/MethodHandle" ∧ yJ43_hasNext.cls ≠ "java/lang/invoke/VarHandle" ∧ (parseMethodDescriptor yJ43_hasNext.desc).map (fun d => d.parameters.length) = some 0 := by decide +kernel
set_option maxRecDepth 100000 in
set_option maxHeartbeats 16000000 in
theorem ct_J43_hasNext {g : GG} {l : Launch} (r : Nat) (c : Nat) (l9 : Int) (q : Nat) (mc : Int) (n : Nat) (e : Nat → Nat) (hc : c ≤ n ∧ n ≤ 300) : Ct g l yJ43_hasNext (ws_ yJ43_hasNext cJ43_hasNext 1 (Option.some Jvm.ClassFile.FieldType.boolean)) 1 12 0 0 [.ref r] [ob g r 21 [.int (jI (↑c)), .int (jI l9), .int (jI mc), .ref q], al g q mc n e] (fun v9 Ws9 => v9 = some (.int (jI (if c < n then 1 else 0))) ∧ Ws9 = [ob g r 21 [.int (jI (↑c)), .int (jI l9), .int (jI mc), .ref q], al g q mc n e]) (nox) := by
  refine Ct.of (cc := cJ43_hasNext) (nL := 1) (ret := (Option.some Jvm.ClassFile.FieldType.boolean)) (by decide) rfl (Nat.le_of_ble_eq_true rfl) ?_
  intro x hg hl hPo hPx hmc hms F
  subst hg; subst hl
  refine SW.cast (L' := [(0, .ref r)]) ?_ rfl rfl rfl
  refine sw_aload_n (n := 1) F 0 (some r) rfl rfl rfl dJ43_hasNext_0 rfl ?_
  refine sw_get (n := 4) F 0 rfl (k := 0) ⟨(RJ43, TJ43, 4), rfl, by decide, q866, in_J43, Or.inl rfl⟩ rfl dJ43_hasNext_1 rfl ?_
  refine sw_aload_n (n := 5) F 0 (some r) rfl rfl rfl dJ43_hasNext_4 rfl ?_
  refine sw_get (n := 8) F 0 rfl (k := 3) ⟨(RJ43, TJ43, 4), rfl, by decide, q869, in_J43, Or.inl rfl⟩ rfl dJ43_hasNext_5 rfl ?_
  refine sw_getAN (n := 11) F 1 rfl (k := 2) ⟨(RJ6, TJ6, 3), _, rfl, by decide, q232, in_J6, Or.inl rfl⟩ (.int (jI (↑n))) (fun _ => rfl) dJ43_hasNext_8 rfl ?_
  show SW x _ _ _ _ _ [.int (jI (↑n)), .int (jI (↑c))]
  refine sw_icmp_eq (n := 14) F (by omega) (by omega) (tgt := 18) dJ43_hasNext_11 (by decide) rfl (fun c_11 => ?_) (fun c_11 => ?_)
  ·
    refine sw_iconst (n := 19) F (0) (by decide) dJ43_hasNext_18 rfl ?_
    exact sw_iret F _ rfl (by first | rfl | exact jI_nz (by omega) | exact jI_nc (by omega)) dJ43_hasNext_19 (by rw [hPo]; exact ⟨(by first | (congr 3; omega) | (congr 2; omega) | rfl), rfl⟩)
  ·
    refine sw_iconst (n := 15) F (1) (by decide) dJ43_hasNext_14 rfl ?_
    refine sw_goto F (n := 19) dJ43_hasNext_15 (by decide) ?_
    exact sw_iret F _ rfl (by first | rfl | exact jI_nz (by omega) | exact jI_nc (by omega)) dJ43_hasNext_19 (by rw [hPo]; exact ⟨(by first | (congr 3; omega) | (congr 2; omega) | rfl), rfl⟩)
theorem nd_J43_next : yJ43_next.cls ≠ "java/lang/invoke/MethodHandle" ∧ yJ43_next.cls ≠ "java/lang/invoke/VarHandle" ∧ (parseMethodDescriptor yJ43_next.desc).map (fun d => d.parameters.length) = some 0 := by decide +kernel
set_option maxRecDepth 100000 in
set_option maxHeartbeats 16000000 in
theorem ct_J43_next {g : GG} {l : Launch} (r : Nat) (c : Nat) (l9 : Int) (q : Nat) (mc : Int) (n : Nat) (e : Nat → Nat) (hc : c < n ∧ n ≤ 300) : Ct g l yJ43_next (ws_ yJ43_next cJ43_next 3 (Option.some (Jvm.ClassFile.FieldType.object "java/lang/Object"))) 2 32 0 0 [.ref r] [ob g r 21 [.int (jI (↑c)), .int (jI l9), .int (jI mc), .ref q], al g q mc n e] (fun v9 Ws9 => v9 = some (.ref (e c)) ∧ Ws9 = [ob g r 21 [.int (jI (↑(c + 1))), .int (jI (↑c)), .int (jI mc), .ref q], al g q mc n e]) (nox) := by
  refine Ct.of (cc := cJ43_next) (nL := 3) (ret := (Option.some (Jvm.ClassFile.FieldType.object "java/lang/Object"))) (by decide) rfl (Nat.le_of_ble_eq_true rfl) ?_
  intro x hg hl hPo hPx hmc hms F
  subst hg; subst hl
  refine SW.cast (L' := [(0, .ref r)]) ?_ rfl rfl rfl
  refine sw_aload_n (n := 1) F 0 (some r) rfl rfl rfl dJ43_next_0 rfl ?_
  refine sw_callV (n := 4) F (ct_J43_checkForComodification (g := xg x) (l := xl x) r c l9 q mc n e ) (rcv_ob F 0 rfl rfl) q995 q996 q997 q157 q998 nd_J43_checkForComodification rfl (by decide) [0, 1] rfl [] rfl 0 0 ⟨by omega, by omega⟩ [] rfl (Nat.le_of_ble_eq_true rfl) dJ43_next_1 rfl (fun _ _ h => h.elim) (fun v Ws h => ?_)
  obtain ⟨rfl, rfl⟩ := h
  show SW x [ob (xg x) r 21 [.int (jI (↑c)), .int (jI l9), .int (jI mc), .ref q], al (xg x) q mc n e] _ _ _ _ []
  refine sw_aload_n (n := 5) F 0 (some r) rfl rfl rfl dJ43_next_4 rfl ?_
  refine sw_perm [1, 0] rfl [al (xg x) q mc n e, ob (xg x) r 21 [.int (jI (↑c)), .int (jI l9), .int (jI mc), .ref q]] rfl ?_; refine sw_alOpen (fun a N f hN hM hf => ?_) (fun h0 => ?_)
  ·
    refine sw_get (n := 8) F 2 rfl (k := 0) ⟨(RJ43, TJ43, 4), rfl, by decide, q866, in_J43, Or.inl rfl⟩ rfl dJ43_next_5 rfl ?_
    refine sw_istore_n (n := 9) F (L2 := [(1, .int (jI (↑c))), (0, .ref r)]) rfl (by decide) rfl dJ43_next_8 rfl ?_
    refine sw_iload_n (n := 10) F 0 rfl rfl dJ43_next_9 rfl ?_
    refine sw_aload_n (n := 11) F 1 (some r) rfl rfl rfl dJ43_next_10 rfl ?_
    refine sw_get (n := 14) F 2 rfl (k := 3) ⟨(RJ43, TJ43, 4), rfl, by decide, q869, in_J43, Or.inl rfl⟩ rfl dJ43_next_11 rfl ?_
    refine sw_getN (n := 17) F 0 rfl (k := 2) ⟨(RJ6, TJ6, 3), _, rfl, by decide, q232, in_J6, Or.inl rfl⟩ rfl dJ43_next_14 rfl ?_
    refine sw_icmp_lt (n := 20) F (by omega) (by omega) (tgt := 28) dJ43_next_17 (by decide) rfl (fun c_17 => ?_) (fun c_17 => ?_)
    ·
      refine sw_aload_n (n := 29) F 1 (some r) rfl rfl rfl dJ43_next_28 rfl ?_
      refine sw_get (n := 32) F 2 rfl (k := 3) ⟨(RJ43, TJ43, 4), rfl, by decide, q869, in_J43, Or.inl rfl⟩ rfl dJ43_next_29 rfl ?_
      refine sw_get (n := 35) F 0 rfl (k := 1) ⟨(RJ6, TJ6, 3), rfl, by decide, q231, in_J6, Or.inl rfl⟩ rfl dJ43_next_32 rfl ?_
      refine sw_astore_n (n := 36) F (some a) (L2 := [(2, .ref a), (1, .int (jI (↑c))), (0, .ref r)]) rfl rfl (by decide) rfl dJ43_next_35 rfl ?_
      refine sw_iload_n (n := 37) F 1 rfl rfl dJ43_next_36 rfl ?_
      refine sw_aload_n (n := 38) F 0 (some a) rfl rfl rfl dJ43_next_37 rfl ?_
      refine sw_alen (n := 39) F 1 rfl (fun _ => rfl) dJ43_next_38 rfl ?_
      refine sw_icmp_lt (n := 42) F (by omega) (by omega) (tgt := 50) dJ43_next_39 (by decide) rfl (fun c_39 => ?_) (fun c_39 => ?_)
      ·
        refine sw_aload_n (n := 51) F 2 (some r) rfl rfl rfl dJ43_next_50 rfl ?_
        refine sw_iload_n (n := 52) F 1 rfl rfl dJ43_next_51 rfl ?_
        refine sw_iconst (n := 53) F (1) (by decide) dJ43_next_52 rfl ?_
        refine sw_iadd (n := 54) F dJ43_next_53 rfl ?_
        refine sw_top (topI (show ((↑c) + 1 : Int) = ↑(c + 1) by omega)) ?_
        refine sw_put (n := 57) F 2 rfl (k := 0) ⟨(RJ43, TJ43, 4), rfl, by decide, q866, in_J43, Or.inl rfl⟩ .int ⟨(RJ43, TJ43, 4), rfl, rfl, tyJ43_ok 0 (by decide), nmJ43, tyJ43, tyJ43_ok⟩ rfl rfl (Nat.le_of_ble_eq_true rfl) rfl [ob (xg x) q 12 [.int (jI mc), .ref a, .int (jI (↑n))], aQ (xg x) 5 a N f, ob (xg x) r 21 [.int (jI (↑(c + 1))), .int (jI l9), .int (jI mc), .ref q]] rfl dJ43_next_54 rfl ?_
        refine sw_aload_n (n := 58) F 0 (some a) rfl rfl rfl dJ43_next_57 rfl ?_
        refine sw_aload_n (n := 59) F 2 (some r) rfl rfl rfl dJ43_next_58 rfl ?_
        refine sw_iload_n (n := 60) F 1 rfl rfl dJ43_next_59 rfl ?_
        refine sw_dup_x1 (n := 61) F rfl rfl dJ43_next_60 rfl ?_
        refine sw_put (n := 64) F 2 rfl (k := 1) ⟨(RJ43, TJ43, 4), rfl, by decide, q867, in_J43, Or.inl rfl⟩ .int ⟨(RJ43, TJ43, 4), rfl, rfl, tyJ43_ok 1 (by decide), nmJ43, tyJ43, tyJ43_ok⟩ rfl rfl (Nat.le_of_ble_eq_true rfl) rfl [ob (xg x) q 12 [.int (jI mc), .ref a, .int (jI (↑n))], aQ (xg x) 5 a N f, ob (xg x) r 21 [.int (jI (↑(c + 1))), .int (jI (↑c)), .int (jI mc), .ref q]] rfl dJ43_next_61 rfl ?_
        refine sw_aaloadQ (n := 65) F 1 rfl (fun _ => rfl) c (by omega) (by omega) dJ43_next_64 rfl ?_
        rw [hf c (by omega)]
        show SW x _ _ _ _ _ [.ref (e c)]
        refine sw_alClose (n := n) e (by omega) (by omega) (by assumption) ?_
        refine sw_perm [1, 0] rfl [ob (xg x) r 21 [.int (jI (↑(c + 1))), .int (jI (↑c)), .int (jI mc), .ref q], al (xg x) q mc n e] rfl ?_
        exact sw_aret F (some (e c)) _ rfl rfl (by first | exact Or.inl ⟨_, rfl⟩ | exact Or.inr ⟨_, rfl⟩) dJ43_next_65 (by rw [hPo]; exact ⟨rfl, rfl⟩)
      · exfalso; omega
    · exfalso; omega
  ·
    exfalso; omega
