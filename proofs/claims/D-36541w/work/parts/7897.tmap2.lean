/-! java.util.TreeMap: its operations -/
def vO (g : GG) (vs : Option Nat) (q : Nat) : HP := match vs with | none => fun h => h = ph_E | some v => ob g v 22 [.ref q]
/-- a map at q, changed mc times, of n keys; M: the pool that holds its keys -/
def tmap (g : GG) (M : Nat → Option PV) (q : Nat) (vs : Option Nat) (mc : Int) (n : Nat) (f : Int → Option Nat) : HP := fun h => ∃ (rt : Option Nat) (Ks : List Nat) (ka va : Nat → Nat) (L R P : OP) (cl rk lo hi : Nat → Int),
  sl [ob g q 14 [.null, va_rf vs, .null, va_rf rt, .int (jI (n : Int)), .int (jI mc), .null, .null, .null], nd g Ks ka va L R P cl, vO g vs q] h ∧ TrI Ks L R P rk lo hi rt ∧ (Ks.Nodup ∧ Ks.length = n) ∧ (∀ t, cl t = 0 ∨ cl t = 1) ∧ (∀ t, t ∈ Ks → at_ g M (ka t) (vN (rk t))) ∧ mF Ks rk va f
theorem kn_tmap {g : GG} {M : Nat → Option PV} {q n : Nat} {vs : Option Nat} {mc : Int} {f : Int → Option Nat} : kn g (tmap g M q vs mc n f) q 14 := Or.inl fun h hp => by
  obtain ⟨rt, Ks, ka, va, L, R, P, cl, rk, lo, hi, ⟨h1, h2, hD, rfl, ⟨c, rfl, r, -, k1, k2, -⟩, -⟩, -⟩ := hp
  exact ⟨c, by simp [ph_U, ph_1], k1, by rw [k2]; rfl⟩
theorem tmap_up {g : GG} {M M' : Nat → Option PV} {q n : Nat} {vs : Option Nat} {mc : Int} {f : Int → Option Nat} (hM : le_ M M') : ∀ h, tmap g M q vs mc n f h → tmap g M' q vs mc n f h := fun h ⟨rt, Ks, ka, va, L, R, P, cl, rk, lo, hi, h1, h2, h3, h4, h5, h6⟩ => ⟨rt, Ks, ka, va, L, R, P, cl, rk, lo, hi, h1, h2, h3, h4, fun t ht => (h5 t ht).up hM, h6⟩
section TMAP
variable {x : EX} {bc bs pc : Nat} {LL : List (Nat × Value)} {st : List Value} {q n : Nat} {vs : Option Nat} {mc : Int} {f : Int → Option Nat} {M : Nat → Option PV} {Rs : List HP}
theorem sw_tmOpen (kk : ∀ (rt : Option Nat) (Ks : List Nat) (ka va : Nat → Nat) (L R P : OP) (cl rk lo hi : Nat → Int), TrI Ks L R P rk lo hi rt → Ks.Nodup ∧ Ks.length = n → (∀ t, cl t = 0 ∨ cl t = 1) → (∀ t, t ∈ Ks → at_ (xg x) M (ka t) (vN (rk t))) → mF Ks rk va f → SW x (ob (xg x) q 14 [.null, va_rf vs, .null, va_rf rt, .int (jI (n : Int)), .int (jI mc), .null, .null, .null] :: nd (xg x) Ks ka va L R P cl :: vO (xg x) vs q :: Rs) bc bs pc LL st) : SW x (tmap (xg x) M q vs mc n f :: Rs) bc bs pc LL st := by
  intro H locs h uc us ls I hL
  obtain ⟨hs, hS, hA, hV, i1, i2⟩ := I
  obtain ⟨a, b, hd, rfl, ⟨rt, Ks, ka, va, L, R, P, cl, rk, lo, hi, k1, k2, k3, k4, k5, k6⟩, hR⟩ := hs
  exact kk rt Ks ka va L R P cl rk lo hi k2 k3 k4 k5 k6 H locs _ uc us ls ⟨(sl_app (Ps := [_, _, _]) _).mpr ⟨a, b, hd, rfl, k1, hR⟩, hS, hA, hV, i1, i2⟩ hL
theorem sw_tmClose {rt : Option Nat} {Ks : List Nat} {ka va : Nat → Nat} {L R P : OP} {cl rk lo hi : Nat → Int} (h1 : TrI Ks L R P rk lo hi rt) (h2 : Ks.Nodup ∧ Ks.length = n) (h3 : ∀ t, cl t = 0 ∨ cl t = 1) (h4 : ∀ t, t ∈ Ks → at_ (xg x) M (ka t) (vN (rk t))) (h5 : mF Ks rk va f) (kk : SW x (tmap (xg x) M q vs mc n f :: Rs) bc bs pc LL st) : SW x (ob (xg x) q 14 [.null, va_rf vs, .null, va_rf rt, .int (jI (n : Int)), .int (jI mc), .null, .null, .null] :: nd (xg x) Ks ka va L R P cl :: vO (xg x) vs q :: Rs) bc bs pc LL st :=
  sw_fold (Qs := [_, _, _]) (fun h hq => ⟨rt, Ks, ka, va, L, R, P, cl, rk, lo, hi, hq, h1, h2, h3, h4, h5⟩) kk
theorem sw_vONil (kk : SW x (vO (xg x) none q :: Rs) bc bs pc LL st) : SW x Rs bc bs pc LL st := sw_fold (Qs := []) (fun h hq => hq) kk
theorem sw_vOU (kk : SW x Rs bc bs pc LL st) : SW x (vO (xg x) none q :: Rs) bc bs pc LL st := sw_unf (fun _ : Unit => []) (fun _ => True) (fun h hp => ⟨(), trivial, hp⟩) fun _ _ => kk
end TMAP
/-- the shape in which nothing is -/
theorem TrI.nil {L R P : OP} {rk lo hi : Nat → Int} : TrI [] L R P rk lo hi none := by
  refine ⟨⟨?_, ?_⟩, ?_, ?_, ?_, ?_, ?_, ?_, ?_, ?_⟩ <;> simp
theorem mU_no {f : Int → Option Nat} {z : Int} (h : f z = none) : mU f z none = f := by funext k; unfold mU; split; subst_vars; exact h.symm; rfl
theorem mapk {g : GG} {M : Nat → Option PV} {Ks : List Nat} {ka : Nat → Nat} {rk : Nat → Int} {o : Option Nat} (hs : ∀ x, o = some x → x ∈ Ks) (hka : ∀ t, t ∈ Ks → at_ g M (ka t) (vN (rk t))) : ∀ a9, o.map ka = some a9 → at_ g M a9 (vN (rkO rk o)) := by
  cases o with
  | none => intro a e; cases e
  | some t => intro a e; cases e; exact hka t (hs t rfl)
theorem rkO_r {Ks : List Nat} {L R P : OP} {rk lo hi : Nat → Int} {rt o : Option Nat} (h : TrI Ks L R P rk lo hi rt) (hs : ∀ x, o = some x → x ∈ Ks) : -2147483648 ≤ rkO rk o ∧ rkO rk o ≤ 2147483647 := by
  cases o with
  | none => show (-2147483648 : Int) ≤ 0 ∧ (0 : Int) ≤ 2147483647; decide
  | some t => have := h.rng (hs t rfl); show -2147483648 ≤ rk t ∧ rk t ≤ 2147483647; omega
theorem addL_ {Ks : List Nat} {L R P : OP} {rk lo hi : Nat → Int} {rt : Option Nat} (h : TrI Ks L R P rk lo hi rt) {x e : Nat} {k : Int} (hx : x ∈ Ks ∧ lo x < k ∧ k < hi x) (hk : k < rk x) (he : ¬ e ∈ Ks) (hl : L x = none) : ∃ lo1 hi1, TrI (e :: Ks) (va_up (va_up L e none) x (some e)) (va_up R e none) (va_up P e (some x)) (va_up rk e k) lo1 hi1 rt :=
  have hne : e ≠ x := fun z => he (z ▸ hx.1)
  ⟨_, _, h.addL hx hk he hl (fun t => by unfold va_up; rfl) (fun t => by unfold va_up; rfl) (fun t => by unfold va_up; rfl) (fun t => by unfold va_up; rfl)⟩
theorem addR_ {Ks : List Nat} {L R P : OP} {rk lo hi : Nat → Int} {rt : Option Nat} (h : TrI Ks L R P rk lo hi rt) {x e : Nat} {k : Int} (hx : x ∈ Ks ∧ lo x < k ∧ k < hi x) (hk : rk x < k) (he : ¬ e ∈ Ks) (hl : R x = none) : ∃ lo1 hi1, TrI (e :: Ks) (va_up L e none) (va_up (va_up R e none) x (some e)) (va_up P e (some x)) (va_up rk e k) lo1 hi1 rt :=
  have hne : e ≠ x := fun z => he (z ▸ hx.1)
  ⟨_, _, h.addR hx hk he hl (fun t => by unfold va_up; rfl) (fun t => by unfold va_up; rfl) (fun t => by unfold va_up; rfl) (fun t => by unfold va_up; rfl)⟩
theorem ka_add {g : GG} {M : Nat → Option PV} {Ks : List Nat} {ka : Nat → Nat} {rk : Nat → Int} {e k : Nat} {z : Int} (he : ¬ e ∈ Ks) (hk : at_ g M k (vN z)) (hka : ∀ t, t ∈ Ks → at_ g M (ka t) (vN (rk t))) : ∀ t, t ∈ e :: Ks → at_ g M (va_up ka e k t) (vN (va_up rk e z t)) := fun t ht => by
  rcases List.mem_cons.mp ht with h | h
  · subst h; rw [va_up_self, va_up_self]; exact hk
  · have hn : t ≠ e := fun c => he (c ▸ h)
    rw [va_up_ne _ _ hn, va_up_ne _ _ hn]; exact hka t h
theorem mF_nil {rk : Nat → Int} {va : Nat → Nat} : mF [] rk va (fun _ => none) := fun k v => by simp
set_option maxRecDepth 100000
theorem dJ9_init_0 : decode cJ9_init 0 = .ok (.aload_n 0, 1) := by decide +kernel
theorem dJ9_init_1 : decode cJ9_init 1 = .ok (.invokespecial 1, 3) := by decide +kernel
theorem dJ9_init_4 : decode cJ9_init 4 = .ok (.return_, 1) := by decide +kernel
def dkwJ10_init_0 : List UInt8 := [42, 183, 0, 1, 42, 3, 181, 0, 7, 42, 3, 181, 0, 13, 42, 1, 181, 0, 16, 177]
abbrev dktJ10_init_0 : List UInt8 := dkwJ10_init_0 ++ []
theorem dksJ10_init_0 : cJ10_init.data.toList.drop 0 = dktJ10_init_0 := by decide +kernel
theorem dJ10_init_0 : decode cJ10_init 0 = .ok (.aload_n 0, 1) := dk_42 (dk_at dksJ10_init_0 0 rfl rfl)
theorem dJ10_init_1 : decode cJ10_init 1 = .ok (.invokespecial 1, 3) := dk_183 0 1 (dk_at dksJ10_init_0 1 rfl rfl)
theorem dJ10_init_4 : decode cJ10_init 4 = .ok (.aload_n 0, 1) := dk_42 (dk_at dksJ10_init_0 4 rfl rfl)
theorem dJ10_init_5 : decode cJ10_init 5 = .ok (.iconst 0, 1) := dk_3 (dk_at dksJ10_init_0 5 rfl rfl)
theorem dJ10_init_6 : decode cJ10_init 6 = .ok (.putfield 7, 3) := dk_181 0 7 (dk_at dksJ10_init_0 6 rfl rfl)
theorem dJ10_init_9 : decode cJ10_init 9 = .ok (.aload_n 0, 1) := dk_42 (dk_at dksJ10_init_0 9 rfl rfl)
theorem dJ10_init_10 : decode cJ10_init 10 = .ok (.iconst 0, 1) := dk_3 (dk_at dksJ10_init_0 10 rfl rfl)
theorem dJ10_init_11 : decode cJ10_init 11 = .ok (.putfield 13, 3) := dk_181 0 13 (dk_at dksJ10_init_0 11 rfl rfl)
theorem dJ10_init_14 : decode cJ10_init 14 = .ok (.aload_n 0, 1) := dk_42 (dk_at dksJ10_init_0 14 rfl rfl)
theorem dJ10_init_15 : decode cJ10_init 15 = .ok (.aconst_null, 1) := dk_1 (dk_at dksJ10_init_0 15 rfl rfl)
theorem dJ10_init_16 : decode cJ10_init 16 = .ok (.putfield 16, 3) := dk_181 0 16 (dk_at dksJ10_init_0 16 rfl rfl)
theorem dJ10_init_19 : decode cJ10_init 19 = .ok (.return_, 1) := dk_177 (dk_at dksJ10_init_0 19 rfl rfl)
def dkwJ10_getFirstEntry_1 : List UInt8 := [43, 176]
abbrev dktJ10_getFirstEntry_1 : List UInt8 := dkwJ10_getFirstEntry_1 ++ []
def dkwJ10_getFirstEntry_0 : List UInt8 := [42, 180, 0, 101, 76, 43, 198, 0, 18, 43, 180, 0, 111, 198, 0, 11, 43, 180, 0, 111, 76, 167, 255, 244]
abbrev dktJ10_getFirstEntry_0 : List UInt8 := dkwJ10_getFirstEntry_0 ++ dktJ10_getFirstEntry_1
theorem dksJ10_getFirstEntry_0 : cJ10_getFirstEntry.data.toList.drop 0 = dktJ10_getFirstEntry_0 := by decide +kernel
theorem dksJ10_getFirstEntry_1 : cJ10_getFirstEntry.data.toList.drop 24 = dktJ10_getFirstEntry_1 := dk_seg dksJ10_getFirstEntry_0 24 rfl rfl
theorem dJ10_getFirstEntry_0 : decode cJ10_getFirstEntry 0 = .ok (.aload_n 0, 1) := dk_42 (dk_at dksJ10_getFirstEntry_0 0 rfl rfl)
theorem dJ10_getFirstEntry_1 : decode cJ10_getFirstEntry 1 = .ok (.getfield 101, 3) := dk_180 0 101 (dk_at dksJ10_getFirstEntry_0 1 rfl rfl)
theorem dJ10_getFirstEntry_4 : decode cJ10_getFirstEntry 4 = .ok (.astore_n 1, 1) := dk_76 (dk_at dksJ10_getFirstEntry_0 4 rfl rfl)
theorem dJ10_getFirstEntry_5 : decode cJ10_getFirstEntry 5 = .ok (.aload_n 1, 1) := dk_43 (dk_at dksJ10_getFirstEntry_0 5 rfl rfl)
theorem dJ10_getFirstEntry_6 : decode cJ10_getFirstEntry 6 = .ok (.ifnull 18, 3) := dk_198 0 18 (dk_at dksJ10_getFirstEntry_0 6 rfl rfl)
theorem dJ10_getFirstEntry_9 : decode cJ10_getFirstEntry 9 = .ok (.aload_n 1, 1) := dk_43 (dk_at dksJ10_getFirstEntry_0 9 rfl rfl)
theorem dJ10_getFirstEntry_10 : decode cJ10_getFirstEntry 10 = .ok (.getfield 111, 3) := dk_180 0 111 (dk_at dksJ10_getFirstEntry_0 10 rfl rfl)
theorem dJ10_getFirstEntry_13 : decode cJ10_getFirstEntry 13 = .ok (.ifnull 11, 3) := dk_198 0 11 (dk_at dksJ10_getFirstEntry_0 13 rfl rfl)
theorem dJ10_getFirstEntry_16 : decode cJ10_getFirstEntry 16 = .ok (.aload_n 1, 1) := dk_43 (dk_at dksJ10_getFirstEntry_0 16 rfl rfl)
theorem dJ10_getFirstEntry_17 : decode cJ10_getFirstEntry 17 = .ok (.getfield 111, 3) := dk_180 0 111 (dk_at dksJ10_getFirstEntry_0 17 rfl rfl)
theorem dJ10_getFirstEntry_20 : decode cJ10_getFirstEntry 20 = .ok (.astore_n 1, 1) := dk_76 (dk_at dksJ10_getFirstEntry_0 20 rfl rfl)
theorem dJ10_getFirstEntry_21 : decode cJ10_getFirstEntry 21 = .ok (.goto (-12), 3) := dk_167 255 244 (dk_at dksJ10_getFirstEntry_0 21 rfl rfl)
theorem dJ10_getFirstEntry_24 : decode cJ10_getFirstEntry 24 = .ok (.aload_n 1, 1) := dk_43 (dk_at dksJ10_getFirstEntry_1 0 rfl rfl)
theorem dJ10_getFirstEntry_25 : decode cJ10_getFirstEntry 25 = .ok (.areturn, 1) := dk_176 (dk_at dksJ10_getFirstEntry_1 1 rfl rfl)
def dkwJ10_successor_2 : List UInt8 := [44, 43, 180, 0, 114, 166, 0, 13, 43, 77, 43, 180, 0, 124, 76, 167, 255, 237, 43, 176]
abbrev dktJ10_successor_2 : List UInt8 := dkwJ10_successor_2 ++ []
def dkwJ10_successor_1 : List UInt8 := [198, 0, 11, 43, 180, 0, 111, 76, 167, 255, 244, 43, 176, 42, 180, 0, 124, 76, 42, 77, 43, 198, 0, 21]
abbrev dktJ10_successor_1 : List UInt8 := dkwJ10_successor_1 ++ dktJ10_successor_2
def dkwJ10_successor_0 : List UInt8 := [42, 199, 0, 5, 1, 176, 42, 180, 0, 114, 198, 0, 25, 42, 180, 0, 114, 76, 43, 180, 0, 111]
abbrev dktJ10_successor_0 : List UInt8 := dkwJ10_successor_0 ++ dktJ10_successor_1
theorem dksJ10_successor_0 : cJ10_successor.data.toList.drop 0 = dktJ10_successor_0 := by decide +kernel
theorem dksJ10_successor_1 : cJ10_successor.data.toList.drop 22 = dktJ10_successor_1 := dk_seg dksJ10_successor_0 22 rfl rfl
theorem dksJ10_successor_2 : cJ10_successor.data.toList.drop 46 = dktJ10_successor_2 := dk_seg dksJ10_successor_1 24 rfl rfl
theorem dJ10_successor_0 : decode cJ10_successor 0 = .ok (.aload_n 0, 1) := dk_42 (dk_at dksJ10_successor_0 0 rfl rfl)
theorem dJ10_successor_1 : decode cJ10_successor 1 = .ok (.ifnonnull 5, 3) := dk_199 0 5 (dk_at dksJ10_successor_0 1 rfl rfl)
theorem dJ10_successor_4 : decode cJ10_successor 4 = .ok (.aconst_null, 1) := dk_1 (dk_at dksJ10_successor_0 4 rfl rfl)
theorem dJ10_successor_5 : decode cJ10_successor 5 = .ok (.areturn, 1) := dk_176 (dk_at dksJ10_successor_0 5 rfl rfl)
theorem dJ10_successor_6 : decode cJ10_successor 6 = .ok (.aload_n 0, 1) := dk_42 (dk_at dksJ10_successor_0 6 rfl rfl)
theorem dJ10_successor_7 : decode cJ10_successor 7 = .ok (.getfield 114, 3) := dk_180 0 114 (dk_at dksJ10_successor_0 7 rfl rfl)
theorem dJ10_successor_10 : decode cJ10_successor 10 = .ok (.ifnull 25, 3) := dk_198 0 25 (dk_at dksJ10_successor_0 10 rfl rfl)
theorem dJ10_successor_13 : decode cJ10_successor 13 = .ok (.aload_n 0, 1) := dk_42 (dk_at dksJ10_successor_0 13 rfl rfl)
theorem dJ10_successor_14 : decode cJ10_successor 14 = .ok (.getfield 114, 3) := dk_180 0 114 (dk_at dksJ10_successor_0 14 rfl rfl)
theorem dJ10_successor_17 : decode cJ10_successor 17 = .ok (.astore_n 1, 1) := dk_76 (dk_at dksJ10_successor_0 17 rfl rfl)
theorem dJ10_successor_18 : decode cJ10_successor 18 = .ok (.aload_n 1, 1) := dk_43 (dk_at dksJ10_successor_0 18 rfl rfl)
theorem dJ10_successor_19 : decode cJ10_successor 19 = .ok (.getfield 111, 3) := dk_180 0 111 (dk_at dksJ10_successor_0 19 rfl rfl)
theorem dJ10_successor_22 : decode cJ10_successor 22 = .ok (.ifnull 11, 3) := dk_198 0 11 (dk_at dksJ10_successor_1 0 rfl rfl)
theorem dJ10_successor_25 : decode cJ10_successor 25 = .ok (.aload_n 1, 1) := dk_43 (dk_at dksJ10_successor_1 3 rfl rfl)
theorem dJ10_successor_26 : decode cJ10_successor 26 = .ok (.getfield 111, 3) := dk_180 0 111 (dk_at dksJ10_successor_1 4 rfl rfl)
theorem dJ10_successor_29 : decode cJ10_successor 29 = .ok (.astore_n 1, 1) := dk_76 (dk_at dksJ10_successor_1 7 rfl rfl)
theorem dJ10_successor_30 : decode cJ10_successor 30 = .ok (.goto (-12), 3) := dk_167 255 244 (dk_at dksJ10_successor_1 8 rfl rfl)
theorem dJ10_successor_33 : decode cJ10_successor 33 = .ok (.aload_n 1, 1) := dk_43 (dk_at dksJ10_successor_1 11 rfl rfl)
theorem dJ10_successor_34 : decode cJ10_successor 34 = .ok (.areturn, 1) := dk_176 (dk_at dksJ10_successor_1 12 rfl rfl)
theorem dJ10_successor_35 : decode cJ10_successor 35 = .ok (.aload_n 0, 1) := dk_42 (dk_at dksJ10_successor_1 13 rfl rfl)
theorem dJ10_successor_36 : decode cJ10_successor 36 = .ok (.getfield 124, 3) := dk_180 0 124 (dk_at dksJ10_successor_1 14 rfl rfl)
theorem dJ10_successor_39 : decode cJ10_successor 39 = .ok (.astore_n 1, 1) := dk_76 (dk_at dksJ10_successor_1 17 rfl rfl)
theorem dJ10_successor_40 : decode cJ10_successor 40 = .ok (.aload_n 0, 1) := dk_42 (dk_at dksJ10_successor_1 18 rfl rfl)
theorem dJ10_successor_41 : decode cJ10_successor 41 = .ok (.astore_n 2, 1) := dk_77 (dk_at dksJ10_successor_1 19 rfl rfl)
theorem dJ10_successor_42 : decode cJ10_successor 42 = .ok (.aload_n 1, 1) := dk_43 (dk_at dksJ10_successor_1 20 rfl rfl)
theorem dJ10_successor_43 : decode cJ10_successor 43 = .ok (.ifnull 21, 3) := dk_198 0 21 (dk_at dksJ10_successor_1 21 rfl rfl)
theorem dJ10_successor_46 : decode cJ10_successor 46 = .ok (.aload_n 2, 1) := dk_44 (dk_at dksJ10_successor_2 0 rfl rfl)
theorem dJ10_successor_47 : decode cJ10_successor 47 = .ok (.aload_n 1, 1) := dk_43 (dk_at dksJ10_successor_2 1 rfl rfl)
theorem dJ10_successor_48 : decode cJ10_successor 48 = .ok (.getfield 114, 3) := dk_180 0 114 (dk_at dksJ10_successor_2 2 rfl rfl)
theorem dJ10_successor_51 : decode cJ10_successor 51 = .ok (.if_acmp .ne 13, 3) := dk_166 0 13 (dk_at dksJ10_successor_2 5 rfl rfl)
theorem dJ10_successor_54 : decode cJ10_successor 54 = .ok (.aload_n 1, 1) := dk_43 (dk_at dksJ10_successor_2 8 rfl rfl)
theorem dJ10_successor_55 : decode cJ10_successor 55 = .ok (.astore_n 2, 1) := dk_77 (dk_at dksJ10_successor_2 9 rfl rfl)
theorem dJ10_successor_56 : decode cJ10_successor 56 = .ok (.aload_n 1, 1) := dk_43 (dk_at dksJ10_successor_2 10 rfl rfl)
theorem dJ10_successor_57 : decode cJ10_successor 57 = .ok (.getfield 124, 3) := dk_180 0 124 (dk_at dksJ10_successor_2 11 rfl rfl)
theorem dJ10_successor_60 : decode cJ10_successor 60 = .ok (.astore_n 1, 1) := dk_76 (dk_at dksJ10_successor_2 14 rfl rfl)
theorem dJ10_successor_61 : decode cJ10_successor 61 = .ok (.goto (-19), 3) := dk_167 255 237 (dk_at dksJ10_successor_2 15 rfl rfl)
theorem dJ10_successor_64 : decode cJ10_successor 64 = .ok (.aload_n 1, 1) := dk_43 (dk_at dksJ10_successor_2 18 rfl rfl)
theorem dJ10_successor_65 : decode cJ10_successor 65 = .ok (.areturn, 1) := dk_176 (dk_at dksJ10_successor_2 19 rfl rfl)
def dkwJ10_put_0 : List UInt8 := [42, 43, 44, 4, 182, 0, 127, 176]
abbrev dktJ10_put_0 : List UInt8 := dkwJ10_put_0 ++ []
theorem dksJ10_put_0 : cJ10_put.data.toList.drop 0 = dktJ10_put_0 := by decide +kernel
theorem dJ10_put_0 : decode cJ10_put 0 = .ok (.aload_n 0, 1) := dk_42 (dk_at dksJ10_put_0 0 rfl rfl)
theorem dJ10_put_1 : decode cJ10_put 1 = .ok (.aload_n 1, 1) := dk_43 (dk_at dksJ10_put_0 1 rfl rfl)
theorem dJ10_put_2 : decode cJ10_put 2 = .ok (.aload_n 2, 1) := dk_44 (dk_at dksJ10_put_0 2 rfl rfl)
theorem dJ10_put_3 : decode cJ10_put 3 = .ok (.iconst 1, 1) := dk_4 (dk_at dksJ10_put_0 3 rfl rfl)
theorem dJ10_put_4 : decode cJ10_put 4 = .ok (.invokevirtual 127, 3) := dk_182 0 127 (dk_at dksJ10_put_0 4 rfl rfl)
theorem dJ10_put_7 : decode cJ10_put 7 = .ok (.areturn, 1) := dk_176 (dk_at dksJ10_put_0 7 rfl rfl)
def dkwJ10_put_2_9 : List UInt8 := [4, 167, 0, 4, 3, 182, 0, 139, 1, 176]
abbrev dktJ10_put_2_9 : List UInt8 := dkwJ10_put_2_9 ++ []
def dkwJ10_put_2_8 : List UInt8 := [25, 4, 44, 181, 0, 58, 25, 9, 176, 25, 4, 199, 255, 181, 42, 43, 44, 25, 6, 21, 5, 156, 0, 7]
abbrev dktJ10_put_2_8 : List UInt8 := dkwJ10_put_2_8 ++ dktJ10_put_2_9
def dkwJ10_put_2_7 : List UInt8 := [180, 0, 114, 58, 4, 167, 0, 28, 25, 4, 180, 0, 58, 58, 9, 29, 154, 0, 8, 25, 9, 199, 0, 9]
abbrev dktJ10_put_2_7 : List UInt8 := dkwJ10_put_2_7 ++ dktJ10_put_2_8
def dkwJ10_put_2_6 : List UInt8 := [21, 5, 156, 0, 13, 25, 4, 180, 0, 111, 58, 4, 167, 0, 43, 21, 5, 158, 0, 13, 25, 4]
abbrev dktJ10_put_2_6 : List UInt8 := dkwJ10_put_2_6 ++ dktJ10_put_2_7
def dkwJ10_put_2_5 : List UInt8 := [192, 0, 99, 58, 8, 25, 4, 58, 6, 25, 8, 25, 4, 180, 0, 105, 185, 0, 107, 2, 0, 54, 5]
abbrev dktJ10_put_2_5 : List UInt8 := dkwJ10_put_2_5 ++ dktJ10_put_2_6
def dkwJ10_put_2_4 : List UInt8 := [25, 4, 44, 181, 0, 58, 25, 8, 176, 25, 4, 199, 255, 180, 167, 0, 92, 43, 184, 0, 95, 87, 43]
abbrev dktJ10_put_2_4 : List UInt8 := dkwJ10_put_2_4 ++ dktJ10_put_2_5
def dkwJ10_put_2_3 : List UInt8 := [180, 0, 114, 58, 4, 167, 0, 28, 25, 4, 180, 0, 58, 58, 8, 29, 154, 0, 8, 25, 8, 199, 0, 9]
abbrev dktJ10_put_2_3 : List UInt8 := dkwJ10_put_2_3 ++ dktJ10_put_2_4
def dkwJ10_put_2_2 : List UInt8 := [54, 5, 21, 5, 156, 0, 13, 25, 4, 180, 0, 111, 58, 4, 167, 0, 43, 21, 5, 158, 0, 13, 25, 4]
abbrev dktJ10_put_2_2 : List UInt8 := dkwJ10_put_2_2 ++ dktJ10_put_2_3
def dkwJ10_put_2_1 : List UInt8 := [58, 7, 25, 7, 198, 0, 85, 25, 4, 58, 6, 25, 7, 43, 25, 4, 180, 0, 105, 185, 0, 117, 3, 0]
abbrev dktJ10_put_2_1 : List UInt8 := dkwJ10_put_2_1 ++ dktJ10_put_2_2
def dkwJ10_put_2_0 : List UInt8 := [42, 180, 0, 101, 58, 4, 25, 4, 199, 0, 11, 42, 43, 44, 182, 0, 135, 1, 176, 42, 180, 0, 16]
abbrev dktJ10_put_2_0 : List UInt8 := dkwJ10_put_2_0 ++ dktJ10_put_2_1
theorem dksJ10_put_2_0 : cJ10_put_2.data.toList.drop 0 = dktJ10_put_2_0 := by decide +kernel
theorem dksJ10_put_2_1 : cJ10_put_2.data.toList.drop 23 = dktJ10_put_2_1 := dk_seg dksJ10_put_2_0 23 rfl rfl
theorem dksJ10_put_2_2 : cJ10_put_2.data.toList.drop 47 = dktJ10_put_2_2 := dk_seg dksJ10_put_2_1 24 rfl rfl
theorem dksJ10_put_2_3 : cJ10_put_2.data.toList.drop 71 = dktJ10_put_2_3 := dk_seg dksJ10_put_2_2 24 rfl rfl
theorem dksJ10_put_2_4 : cJ10_put_2.data.toList.drop 95 = dktJ10_put_2_4 := dk_seg dksJ10_put_2_3 24 rfl rfl
theorem dksJ10_put_2_5 : cJ10_put_2.data.toList.drop 118 = dktJ10_put_2_5 := dk_seg dksJ10_put_2_4 23 rfl rfl
theorem dksJ10_put_2_6 : cJ10_put_2.data.toList.drop 141 = dktJ10_put_2_6 := dk_seg dksJ10_put_2_5 23 rfl rfl
theorem dksJ10_put_2_7 : cJ10_put_2.data.toList.drop 163 = dktJ10_put_2_7 := dk_seg dksJ10_put_2_6 22 rfl rfl
theorem dksJ10_put_2_8 : cJ10_put_2.data.toList.drop 187 = dktJ10_put_2_8 := dk_seg dksJ10_put_2_7 24 rfl rfl
theorem dksJ10_put_2_9 : cJ10_put_2.data.toList.drop 211 = dktJ10_put_2_9 := dk_seg dksJ10_put_2_8 24 rfl rfl
theorem dJ10_put_2_0 : decode cJ10_put_2 0 = .ok (.aload_n 0, 1) := dk_42 (dk_at dksJ10_put_2_0 0 rfl rfl)
theorem dJ10_put_2_1 : decode cJ10_put_2 1 = .ok (.getfield 101, 3) := dk_180 0 101 (dk_at dksJ10_put_2_0 1 rfl rfl)
theorem dJ10_put_2_4 : decode cJ10_put_2 4 = .ok (.astore 4, 2) := dk_58 4 (dk_at dksJ10_put_2_0 4 rfl rfl)
theorem dJ10_put_2_6 : decode cJ10_put_2 6 = .ok (.aload 4, 2) := dk_25 4 (dk_at dksJ10_put_2_0 6 rfl rfl)
theorem dJ10_put_2_8 : decode cJ10_put_2 8 = .ok (.ifnonnull 11, 3) := dk_199 0 11 (dk_at dksJ10_put_2_0 8 rfl rfl)
theorem dJ10_put_2_11 : decode cJ10_put_2 11 = .ok (.aload_n 0, 1) := dk_42 (dk_at dksJ10_put_2_0 11 rfl rfl)
theorem dJ10_put_2_12 : decode cJ10_put_2 12 = .ok (.aload_n 1, 1) := dk_43 (dk_at dksJ10_put_2_0 12 rfl rfl)
theorem dJ10_put_2_13 : decode cJ10_put_2 13 = .ok (.aload_n 2, 1) := dk_44 (dk_at dksJ10_put_2_0 13 rfl rfl)
theorem dJ10_put_2_14 : decode cJ10_put_2 14 = .ok (.invokevirtual 135, 3) := dk_182 0 135 (dk_at dksJ10_put_2_0 14 rfl rfl)
theorem dJ10_put_2_17 : decode cJ10_put_2 17 = .ok (.aconst_null, 1) := dk_1 (dk_at dksJ10_put_2_0 17 rfl rfl)
theorem dJ10_put_2_18 : decode cJ10_put_2 18 = .ok (.areturn, 1) := dk_176 (dk_at dksJ10_put_2_0 18 rfl rfl)
theorem dJ10_put_2_19 : decode cJ10_put_2 19 = .ok (.aload_n 0, 1) := dk_42 (dk_at dksJ10_put_2_0 19 rfl rfl)
theorem dJ10_put_2_20 : decode cJ10_put_2 20 = .ok (.getfield 16, 3) := dk_180 0 16 (dk_at dksJ10_put_2_0 20 rfl rfl)
theorem dJ10_put_2_23 : decode cJ10_put_2 23 = .ok (.astore 7, 2) := dk_58 7 (dk_at dksJ10_put_2_1 0 rfl rfl)
theorem dJ10_put_2_25 : decode cJ10_put_2 25 = .ok (.aload 7, 2) := dk_25 7 (dk_at dksJ10_put_2_1 2 rfl rfl)
theorem dJ10_put_2_27 : decode cJ10_put_2 27 = .ok (.ifnull 85, 3) := dk_198 0 85 (dk_at dksJ10_put_2_1 4 rfl rfl)
theorem dJ10_put_2_30 : decode cJ10_put_2 30 = .ok (.aload 4, 2) := dk_25 4 (dk_at dksJ10_put_2_1 7 rfl rfl)
theorem dJ10_put_2_32 : decode cJ10_put_2 32 = .ok (.astore 6, 2) := dk_58 6 (dk_at dksJ10_put_2_1 9 rfl rfl)
theorem dJ10_put_2_34 : decode cJ10_put_2 34 = .ok (.aload 7, 2) := dk_25 7 (dk_at dksJ10_put_2_1 11 rfl rfl)
theorem dJ10_put_2_36 : decode cJ10_put_2 36 = .ok (.aload_n 1, 1) := dk_43 (dk_at dksJ10_put_2_1 13 rfl rfl)
theorem dJ10_put_2_37 : decode cJ10_put_2 37 = .ok (.aload 4, 2) := dk_25 4 (dk_at dksJ10_put_2_1 14 rfl rfl)
theorem dJ10_put_2_39 : decode cJ10_put_2 39 = .ok (.getfield 105, 3) := dk_180 0 105 (dk_at dksJ10_put_2_1 16 rfl rfl)
theorem dJ10_put_2_42 : decode cJ10_put_2 42 = .ok (.invokeinterface 117 3, 5) := by decide +kernel
theorem dJ10_put_2_47 : decode cJ10_put_2 47 = .ok (.istore 5, 2) := dk_54 5 (dk_at dksJ10_put_2_2 0 rfl rfl)
theorem dJ10_put_2_49 : decode cJ10_put_2 49 = .ok (.iload 5, 2) := dk_21 5 (dk_at dksJ10_put_2_2 2 rfl rfl)
theorem dJ10_put_2_51 : decode cJ10_put_2 51 = .ok (.ifCond .ge 13, 3) := dk_156 0 13 (dk_at dksJ10_put_2_2 4 rfl rfl)
theorem dJ10_put_2_54 : decode cJ10_put_2 54 = .ok (.aload 4, 2) := dk_25 4 (dk_at dksJ10_put_2_2 7 rfl rfl)
theorem dJ10_put_2_56 : decode cJ10_put_2 56 = .ok (.getfield 111, 3) := dk_180 0 111 (dk_at dksJ10_put_2_2 9 rfl rfl)
theorem dJ10_put_2_59 : decode cJ10_put_2 59 = .ok (.astore 4, 2) := dk_58 4 (dk_at dksJ10_put_2_2 12 rfl rfl)
theorem dJ10_put_2_61 : decode cJ10_put_2 61 = .ok (.goto 43, 3) := dk_167 0 43 (dk_at dksJ10_put_2_2 14 rfl rfl)
theorem dJ10_put_2_64 : decode cJ10_put_2 64 = .ok (.iload 5, 2) := dk_21 5 (dk_at dksJ10_put_2_2 17 rfl rfl)
theorem dJ10_put_2_66 : decode cJ10_put_2 66 = .ok (.ifCond .le 13, 3) := dk_158 0 13 (dk_at dksJ10_put_2_2 19 rfl rfl)
theorem dJ10_put_2_69 : decode cJ10_put_2 69 = .ok (.aload 4, 2) := dk_25 4 (dk_at dksJ10_put_2_2 22 rfl rfl)
theorem dJ10_put_2_71 : decode cJ10_put_2 71 = .ok (.getfield 114, 3) := dk_180 0 114 (dk_at dksJ10_put_2_3 0 rfl rfl)
theorem dJ10_put_2_74 : decode cJ10_put_2 74 = .ok (.astore 4, 2) := dk_58 4 (dk_at dksJ10_put_2_3 3 rfl rfl)
theorem dJ10_put_2_76 : decode cJ10_put_2 76 = .ok (.goto 28, 3) := dk_167 0 28 (dk_at dksJ10_put_2_3 5 rfl rfl)
theorem dJ10_put_2_79 : decode cJ10_put_2 79 = .ok (.aload 4, 2) := dk_25 4 (dk_at dksJ10_put_2_3 8 rfl rfl)
theorem dJ10_put_2_81 : decode cJ10_put_2 81 = .ok (.getfield 58, 3) := dk_180 0 58 (dk_at dksJ10_put_2_3 10 rfl rfl)
theorem dJ10_put_2_84 : decode cJ10_put_2 84 = .ok (.astore 8, 2) := dk_58 8 (dk_at dksJ10_put_2_3 13 rfl rfl)
theorem dJ10_put_2_86 : decode cJ10_put_2 86 = .ok (.iload_n 3, 1) := dk_29 (dk_at dksJ10_put_2_3 15 rfl rfl)
theorem dJ10_put_2_87 : decode cJ10_put_2 87 = .ok (.ifCond .ne 8, 3) := dk_154 0 8 (dk_at dksJ10_put_2_3 16 rfl rfl)
theorem dJ10_put_2_90 : decode cJ10_put_2 90 = .ok (.aload 8, 2) := dk_25 8 (dk_at dksJ10_put_2_3 19 rfl rfl)
theorem dJ10_put_2_92 : decode cJ10_put_2 92 = .ok (.ifnonnull 9, 3) := dk_199 0 9 (dk_at dksJ10_put_2_3 21 rfl rfl)
theorem dJ10_put_2_95 : decode cJ10_put_2 95 = .ok (.aload 4, 2) := dk_25 4 (dk_at dksJ10_put_2_4 0 rfl rfl)
theorem dJ10_put_2_97 : decode cJ10_put_2 97 = .ok (.aload_n 2, 1) := dk_44 (dk_at dksJ10_put_2_4 2 rfl rfl)
theorem dJ10_put_2_98 : decode cJ10_put_2 98 = .ok (.putfield 58, 3) := dk_181 0 58 (dk_at dksJ10_put_2_4 3 rfl rfl)
theorem dJ10_put_2_101 : decode cJ10_put_2 101 = .ok (.aload 8, 2) := dk_25 8 (dk_at dksJ10_put_2_4 6 rfl rfl)
theorem dJ10_put_2_103 : decode cJ10_put_2 103 = .ok (.areturn, 1) := dk_176 (dk_at dksJ10_put_2_4 8 rfl rfl)
theorem dJ10_put_2_104 : decode cJ10_put_2 104 = .ok (.aload 4, 2) := dk_25 4 (dk_at dksJ10_put_2_4 9 rfl rfl)
theorem dJ10_put_2_106 : decode cJ10_put_2 106 = .ok (.ifnonnull (-76), 3) := dk_199 255 180 (dk_at dksJ10_put_2_4 11 rfl rfl)
theorem dJ10_put_2_109 : decode cJ10_put_2 109 = .ok (.goto 92, 3) := dk_167 0 92 (dk_at dksJ10_put_2_4 14 rfl rfl)
theorem dJ10_put_2_112 : decode cJ10_put_2 112 = .ok (.aload_n 1, 1) := dk_43 (dk_at dksJ10_put_2_4 17 rfl rfl)
theorem dJ10_put_2_113 : decode cJ10_put_2 113 = .ok (.invokestatic 95, 3) := dk_184 0 95 (dk_at dksJ10_put_2_4 18 rfl rfl)
theorem dJ10_put_2_116 : decode cJ10_put_2 116 = .ok (.pop, 1) := dk_87 (dk_at dksJ10_put_2_4 21 rfl rfl)
theorem dJ10_put_2_117 : decode cJ10_put_2 117 = .ok (.aload_n 1, 1) := dk_43 (dk_at dksJ10_put_2_4 22 rfl rfl)
theorem dJ10_put_2_118 : decode cJ10_put_2 118 = .ok (.checkcast 99, 3) := dk_192 0 99 (dk_at dksJ10_put_2_5 0 rfl rfl)
theorem dJ10_put_2_121 : decode cJ10_put_2 121 = .ok (.astore 8, 2) := dk_58 8 (dk_at dksJ10_put_2_5 3 rfl rfl)
theorem dJ10_put_2_123 : decode cJ10_put_2 123 = .ok (.aload 4, 2) := dk_25 4 (dk_at dksJ10_put_2_5 5 rfl rfl)
theorem dJ10_put_2_125 : decode cJ10_put_2 125 = .ok (.astore 6, 2) := dk_58 6 (dk_at dksJ10_put_2_5 7 rfl rfl)
theorem dJ10_put_2_127 : decode cJ10_put_2 127 = .ok (.aload 8, 2) := dk_25 8 (dk_at dksJ10_put_2_5 9 rfl rfl)
theorem dJ10_put_2_129 : decode cJ10_put_2 129 = .ok (.aload 4, 2) := dk_25 4 (dk_at dksJ10_put_2_5 11 rfl rfl)
theorem dJ10_put_2_131 : decode cJ10_put_2 131 = .ok (.getfield 105, 3) := dk_180 0 105 (dk_at dksJ10_put_2_5 13 rfl rfl)
theorem dJ10_put_2_134 : decode cJ10_put_2 134 = .ok (.invokeinterface 107 2, 5) := by decide +kernel
theorem dJ10_put_2_139 : decode cJ10_put_2 139 = .ok (.istore 5, 2) := dk_54 5 (dk_at dksJ10_put_2_5 21 rfl rfl)
theorem dJ10_put_2_141 : decode cJ10_put_2 141 = .ok (.iload 5, 2) := dk_21 5 (dk_at dksJ10_put_2_6 0 rfl rfl)
theorem dJ10_put_2_143 : decode cJ10_put_2 143 = .ok (.ifCond .ge 13, 3) := dk_156 0 13 (dk_at dksJ10_put_2_6 2 rfl rfl)
theorem dJ10_put_2_146 : decode cJ10_put_2 146 = .ok (.aload 4, 2) := dk_25 4 (dk_at dksJ10_put_2_6 5 rfl rfl)
theorem dJ10_put_2_148 : decode cJ10_put_2 148 = .ok (.getfield 111, 3) := dk_180 0 111 (dk_at dksJ10_put_2_6 7 rfl rfl)
theorem dJ10_put_2_151 : decode cJ10_put_2 151 = .ok (.astore 4, 2) := dk_58 4 (dk_at dksJ10_put_2_6 10 rfl rfl)
theorem dJ10_put_2_153 : decode cJ10_put_2 153 = .ok (.goto 43, 3) := dk_167 0 43 (dk_at dksJ10_put_2_6 12 rfl rfl)
theorem dJ10_put_2_156 : decode cJ10_put_2 156 = .ok (.iload 5, 2) := dk_21 5 (dk_at dksJ10_put_2_6 15 rfl rfl)
theorem dJ10_put_2_158 : decode cJ10_put_2 158 = .ok (.ifCond .le 13, 3) := dk_158 0 13 (dk_at dksJ10_put_2_6 17 rfl rfl)
theorem dJ10_put_2_161 : decode cJ10_put_2 161 = .ok (.aload 4, 2) := dk_25 4 (dk_at dksJ10_put_2_6 20 rfl rfl)
theorem dJ10_put_2_163 : decode cJ10_put_2 163 = .ok (.getfield 114, 3) := dk_180 0 114 (dk_at dksJ10_put_2_7 0 rfl rfl)
theorem dJ10_put_2_166 : decode cJ10_put_2 166 = .ok (.astore 4, 2) := dk_58 4 (dk_at dksJ10_put_2_7 3 rfl rfl)
theorem dJ10_put_2_168 : decode cJ10_put_2 168 = .ok (.goto 28, 3) := dk_167 0 28 (dk_at dksJ10_put_2_7 5 rfl rfl)
theorem dJ10_put_2_171 : decode cJ10_put_2 171 = .ok (.aload 4, 2) := dk_25 4 (dk_at dksJ10_put_2_7 8 rfl rfl)
theorem dJ10_put_2_173 : decode cJ10_put_2 173 = .ok (.getfield 58, 3) := dk_180 0 58 (dk_at dksJ10_put_2_7 10 rfl rfl)
theorem dJ10_put_2_176 : decode cJ10_put_2 176 = .ok (.astore 9, 2) := dk_58 9 (dk_at dksJ10_put_2_7 13 rfl rfl)
theorem dJ10_put_2_178 : decode cJ10_put_2 178 = .ok (.iload_n 3, 1) := dk_29 (dk_at dksJ10_put_2_7 15 rfl rfl)
theorem dJ10_put_2_179 : decode cJ10_put_2 179 = .ok (.ifCond .ne 8, 3) := dk_154 0 8 (dk_at dksJ10_put_2_7 16 rfl rfl)
theorem dJ10_put_2_182 : decode cJ10_put_2 182 = .ok (.aload 9, 2) := dk_25 9 (dk_at dksJ10_put_2_7 19 rfl rfl)
theorem dJ10_put_2_184 : decode cJ10_put_2 184 = .ok (.ifnonnull 9, 3) := dk_199 0 9 (dk_at dksJ10_put_2_7 21 rfl rfl)
theorem dJ10_put_2_187 : decode cJ10_put_2 187 = .ok (.aload 4, 2) := dk_25 4 (dk_at dksJ10_put_2_8 0 rfl rfl)
theorem dJ10_put_2_189 : decode cJ10_put_2 189 = .ok (.aload_n 2, 1) := dk_44 (dk_at dksJ10_put_2_8 2 rfl rfl)
theorem dJ10_put_2_190 : decode cJ10_put_2 190 = .ok (.putfield 58, 3) := dk_181 0 58 (dk_at dksJ10_put_2_8 3 rfl rfl)
theorem dJ10_put_2_193 : decode cJ10_put_2 193 = .ok (.aload 9, 2) := dk_25 9 (dk_at dksJ10_put_2_8 6 rfl rfl)
theorem dJ10_put_2_195 : decode cJ10_put_2 195 = .ok (.areturn, 1) := dk_176 (dk_at dksJ10_put_2_8 8 rfl rfl)
theorem dJ10_put_2_196 : decode cJ10_put_2 196 = .ok (.aload 4, 2) := dk_25 4 (dk_at dksJ10_put_2_8 9 rfl rfl)
theorem dJ10_put_2_198 : decode cJ10_put_2 198 = .ok (.ifnonnull (-75), 3) := dk_199 255 181 (dk_at dksJ10_put_2_8 11 rfl rfl)
theorem dJ10_put_2_201 : decode cJ10_put_2 201 = .ok (.aload_n 0, 1) := dk_42 (dk_at dksJ10_put_2_8 14 rfl rfl)
theorem dJ10_put_2_202 : decode cJ10_put_2 202 = .ok (.aload_n 1, 1) := dk_43 (dk_at dksJ10_put_2_8 15 rfl rfl)
theorem dJ10_put_2_203 : decode cJ10_put_2 203 = .ok (.aload_n 2, 1) := dk_44 (dk_at dksJ10_put_2_8 16 rfl rfl)
theorem dJ10_put_2_204 : decode cJ10_put_2 204 = .ok (.aload 6, 2) := dk_25 6 (dk_at dksJ10_put_2_8 17 rfl rfl)
theorem dJ10_put_2_206 : decode cJ10_put_2 206 = .ok (.iload 5, 2) := dk_21 5 (dk_at dksJ10_put_2_8 19 rfl rfl)
theorem dJ10_put_2_208 : decode cJ10_put_2 208 = .ok (.ifCond .ge 7, 3) := dk_156 0 7 (dk_at dksJ10_put_2_8 21 rfl rfl)
theorem dJ10_put_2_211 : decode cJ10_put_2 211 = .ok (.iconst 1, 1) := dk_4 (dk_at dksJ10_put_2_9 0 rfl rfl)
theorem dJ10_put_2_212 : decode cJ10_put_2 212 = .ok (.goto 4, 3) := dk_167 0 4 (dk_at dksJ10_put_2_9 1 rfl rfl)
theorem dJ10_put_2_215 : decode cJ10_put_2 215 = .ok (.iconst 0, 1) := dk_3 (dk_at dksJ10_put_2_9 4 rfl rfl)
theorem dJ10_put_2_216 : decode cJ10_put_2 216 = .ok (.invokevirtual 139, 3) := dk_182 0 139 (dk_at dksJ10_put_2_9 5 rfl rfl)
theorem dJ10_put_2_219 : decode cJ10_put_2 219 = .ok (.aconst_null, 1) := dk_1 (dk_at dksJ10_put_2_9 8 rfl rfl)
theorem dJ10_put_2_220 : decode cJ10_put_2 220 = .ok (.areturn, 1) := dk_176 (dk_at dksJ10_put_2_9 9 rfl rfl)
def dkwJ10_addEntryToEmptyMap_1 : List UInt8 := [181, 0, 7, 42, 89, 180, 0, 13, 4, 96, 181, 0, 13, 177]
abbrev dktJ10_addEntryToEmptyMap_1 : List UInt8 := dkwJ10_addEntryToEmptyMap_1 ++ []
def dkwJ10_addEntryToEmptyMap_0 : List UInt8 := [42, 43, 43, 182, 0, 123, 87, 42, 187, 0, 59, 89, 43, 44, 1, 183, 0, 167, 181, 0, 101, 42, 4]
abbrev dktJ10_addEntryToEmptyMap_0 : List UInt8 := dkwJ10_addEntryToEmptyMap_0 ++ dktJ10_addEntryToEmptyMap_1
theorem dksJ10_addEntryToEmptyMap_0 : cJ10_addEntryToEmptyMap.data.toList.drop 0 = dktJ10_addEntryToEmptyMap_0 := by decide +kernel
theorem dksJ10_addEntryToEmptyMap_1 : cJ10_addEntryToEmptyMap.data.toList.drop 23 = dktJ10_addEntryToEmptyMap_1 := dk_seg dksJ10_addEntryToEmptyMap_0 23 rfl rfl
theorem dJ10_addEntryToEmptyMap_0 : decode cJ10_addEntryToEmptyMap 0 = .ok (.aload_n 0, 1) := dk_42 (dk_at dksJ10_addEntryToEmptyMap_0 0 rfl rfl)
theorem dJ10_addEntryToEmptyMap_1 : decode cJ10_addEntryToEmptyMap 1 = .ok (.aload_n 1, 1) := dk_43 (dk_at dksJ10_addEntryToEmptyMap_0 1 rfl rfl)
theorem dJ10_addEntryToEmptyMap_2 : decode cJ10_addEntryToEmptyMap 2 = .ok (.aload_n 1, 1) := dk_43 (dk_at dksJ10_addEntryToEmptyMap_0 2 rfl rfl)
theorem dJ10_addEntryToEmptyMap_3 : decode cJ10_addEntryToEmptyMap 3 = .ok (.invokevirtual 123, 3) := dk_182 0 123 (dk_at dksJ10_addEntryToEmptyMap_0 3 rfl rfl)
theorem dJ10_addEntryToEmptyMap_6 : decode cJ10_addEntryToEmptyMap 6 = .ok (.pop, 1) := dk_87 (dk_at dksJ10_addEntryToEmptyMap_0 6 rfl rfl)
theorem dJ10_addEntryToEmptyMap_7 : decode cJ10_addEntryToEmptyMap 7 = .ok (.aload_n 0, 1) := dk_42 (dk_at dksJ10_addEntryToEmptyMap_0 7 rfl rfl)
theorem dJ10_addEntryToEmptyMap_8 : decode cJ10_addEntryToEmptyMap 8 = .ok (.new 59, 3) := dk_187 0 59 (dk_at dksJ10_addEntryToEmptyMap_0 8 rfl rfl)
theorem dJ10_addEntryToEmptyMap_11 : decode cJ10_addEntryToEmptyMap 11 = .ok (.dup, 1) := dk_89 (dk_at dksJ10_addEntryToEmptyMap_0 11 rfl rfl)
theorem dJ10_addEntryToEmptyMap_12 : decode cJ10_addEntryToEmptyMap 12 = .ok (.aload_n 1, 1) := dk_43 (dk_at dksJ10_addEntryToEmptyMap_0 12 rfl rfl)
theorem dJ10_addEntryToEmptyMap_13 : decode cJ10_addEntryToEmptyMap 13 = .ok (.aload_n 2, 1) := dk_44 (dk_at dksJ10_addEntryToEmptyMap_0 13 rfl rfl)
theorem dJ10_addEntryToEmptyMap_14 : decode cJ10_addEntryToEmptyMap 14 = .ok (.aconst_null, 1) := dk_1 (dk_at dksJ10_addEntryToEmptyMap_0 14 rfl rfl)
theorem dJ10_addEntryToEmptyMap_15 : decode cJ10_addEntryToEmptyMap 15 = .ok (.invokespecial 167, 3) := dk_183 0 167 (dk_at dksJ10_addEntryToEmptyMap_0 15 rfl rfl)
theorem dJ10_addEntryToEmptyMap_18 : decode cJ10_addEntryToEmptyMap 18 = .ok (.putfield 101, 3) := dk_181 0 101 (dk_at dksJ10_addEntryToEmptyMap_0 18 rfl rfl)
theorem dJ10_addEntryToEmptyMap_21 : decode cJ10_addEntryToEmptyMap 21 = .ok (.aload_n 0, 1) := dk_42 (dk_at dksJ10_addEntryToEmptyMap_0 21 rfl rfl)
theorem dJ10_addEntryToEmptyMap_22 : decode cJ10_addEntryToEmptyMap 22 = .ok (.iconst 1, 1) := dk_4 (dk_at dksJ10_addEntryToEmptyMap_0 22 rfl rfl)
theorem dJ10_addEntryToEmptyMap_23 : decode cJ10_addEntryToEmptyMap 23 = .ok (.putfield 7, 3) := dk_181 0 7 (dk_at dksJ10_addEntryToEmptyMap_1 0 rfl rfl)
theorem dJ10_addEntryToEmptyMap_26 : decode cJ10_addEntryToEmptyMap 26 = .ok (.aload_n 0, 1) := dk_42 (dk_at dksJ10_addEntryToEmptyMap_1 3 rfl rfl)
theorem dJ10_addEntryToEmptyMap_27 : decode cJ10_addEntryToEmptyMap 27 = .ok (.dup, 1) := dk_89 (dk_at dksJ10_addEntryToEmptyMap_1 4 rfl rfl)
theorem dJ10_addEntryToEmptyMap_28 : decode cJ10_addEntryToEmptyMap 28 = .ok (.getfield 13, 3) := dk_180 0 13 (dk_at dksJ10_addEntryToEmptyMap_1 5 rfl rfl)
theorem dJ10_addEntryToEmptyMap_31 : decode cJ10_addEntryToEmptyMap 31 = .ok (.iconst 1, 1) := dk_4 (dk_at dksJ10_addEntryToEmptyMap_1 8 rfl rfl)
theorem dJ10_addEntryToEmptyMap_32 : decode cJ10_addEntryToEmptyMap 32 = .ok (.iadd, 1) := dk_96 (dk_at dksJ10_addEntryToEmptyMap_1 9 rfl rfl)
theorem dJ10_addEntryToEmptyMap_33 : decode cJ10_addEntryToEmptyMap 33 = .ok (.putfield 13, 3) := dk_181 0 13 (dk_at dksJ10_addEntryToEmptyMap_1 10 rfl rfl)
theorem dJ10_addEntryToEmptyMap_36 : decode cJ10_addEntryToEmptyMap 36 = .ok (.return_, 1) := dk_177 (dk_at dksJ10_addEntryToEmptyMap_1 13 rfl rfl)
def dkwJ10_compare_1 : List UInt8 := [43, 44, 185, 0, 117, 3, 0, 172]
abbrev dktJ10_compare_1 : List UInt8 := dkwJ10_compare_1 ++ []
def dkwJ10_compare_0 : List UInt8 := [42, 180, 0, 16, 199, 0, 16, 43, 192, 0, 99, 44, 185, 0, 107, 2, 0, 167, 0, 14, 42, 180, 0, 16]
abbrev dktJ10_compare_0 : List UInt8 := dkwJ10_compare_0 ++ dktJ10_compare_1
theorem dksJ10_compare_0 : cJ10_compare.data.toList.drop 0 = dktJ10_compare_0 := by decide +kernel
theorem dksJ10_compare_1 : cJ10_compare.data.toList.drop 24 = dktJ10_compare_1 := dk_seg dksJ10_compare_0 24 rfl rfl
theorem dJ10_compare_0 : decode cJ10_compare 0 = .ok (.aload_n 0, 1) := dk_42 (dk_at dksJ10_compare_0 0 rfl rfl)
theorem dJ10_compare_1 : decode cJ10_compare 1 = .ok (.getfield 16, 3) := dk_180 0 16 (dk_at dksJ10_compare_0 1 rfl rfl)
theorem dJ10_compare_4 : decode cJ10_compare 4 = .ok (.ifnonnull 16, 3) := dk_199 0 16 (dk_at dksJ10_compare_0 4 rfl rfl)
theorem dJ10_compare_7 : decode cJ10_compare 7 = .ok (.aload_n 1, 1) := dk_43 (dk_at dksJ10_compare_0 7 rfl rfl)
theorem dJ10_compare_8 : decode cJ10_compare 8 = .ok (.checkcast 99, 3) := dk_192 0 99 (dk_at dksJ10_compare_0 8 rfl rfl)
theorem dJ10_compare_11 : decode cJ10_compare 11 = .ok (.aload_n 2, 1) := dk_44 (dk_at dksJ10_compare_0 11 rfl rfl)
theorem dJ10_compare_12 : decode cJ10_compare 12 = .ok (.invokeinterface 107 2, 5) := by decide +kernel
theorem dJ10_compare_17 : decode cJ10_compare 17 = .ok (.goto 14, 3) := dk_167 0 14 (dk_at dksJ10_compare_0 17 rfl rfl)
theorem dJ10_compare_20 : decode cJ10_compare 20 = .ok (.aload_n 0, 1) := dk_42 (dk_at dksJ10_compare_0 20 rfl rfl)
theorem dJ10_compare_21 : decode cJ10_compare 21 = .ok (.getfield 16, 3) := dk_180 0 16 (dk_at dksJ10_compare_0 21 rfl rfl)
theorem dJ10_compare_24 : decode cJ10_compare 24 = .ok (.aload_n 1, 1) := dk_43 (dk_at dksJ10_compare_1 0 rfl rfl)
theorem dJ10_compare_25 : decode cJ10_compare 25 = .ok (.aload_n 2, 1) := dk_44 (dk_at dksJ10_compare_1 1 rfl rfl)
theorem dJ10_compare_26 : decode cJ10_compare 26 = .ok (.invokeinterface 117 3, 5) := by decide +kernel
theorem dJ10_compare_31 : decode cJ10_compare 31 = .ok (.ireturn, 1) := dk_172 (dk_at dksJ10_compare_1 7 rfl rfl)
def dkwJ10_addEntry_2 : List UInt8 := [181, 0, 7, 42, 89, 180, 0, 13, 4, 96, 181, 0, 13, 177]
abbrev dktJ10_addEntry_2 : List UInt8 := dkwJ10_addEntry_2 ++ []
def dkwJ10_addEntry_1 : List UInt8 := [167, 0, 9, 45, 25, 5, 181, 0, 114, 42, 25, 5, 182, 0, 170, 42, 89, 180, 0, 7, 4, 96]
abbrev dktJ10_addEntry_1 : List UInt8 := dkwJ10_addEntry_1 ++ dktJ10_addEntry_2
def dkwJ10_addEntry_0 : List UInt8 := [187, 0, 59, 89, 43, 44, 45, 183, 0, 167, 58, 5, 21, 4, 153, 0, 12, 45, 25, 5, 181, 0, 111]
abbrev dktJ10_addEntry_0 : List UInt8 := dkwJ10_addEntry_0 ++ dktJ10_addEntry_1
theorem dksJ10_addEntry_0 : cJ10_addEntry.data.toList.drop 0 = dktJ10_addEntry_0 := by decide +kernel
theorem dksJ10_addEntry_1 : cJ10_addEntry.data.toList.drop 23 = dktJ10_addEntry_1 := dk_seg dksJ10_addEntry_0 23 rfl rfl
theorem dksJ10_addEntry_2 : cJ10_addEntry.data.toList.drop 45 = dktJ10_addEntry_2 := dk_seg dksJ10_addEntry_1 22 rfl rfl
theorem dJ10_addEntry_0 : decode cJ10_addEntry 0 = .ok (.new 59, 3) := dk_187 0 59 (dk_at dksJ10_addEntry_0 0 rfl rfl)
theorem dJ10_addEntry_3 : decode cJ10_addEntry 3 = .ok (.dup, 1) := dk_89 (dk_at dksJ10_addEntry_0 3 rfl rfl)
theorem dJ10_addEntry_4 : decode cJ10_addEntry 4 = .ok (.aload_n 1, 1) := dk_43 (dk_at dksJ10_addEntry_0 4 rfl rfl)
theorem dJ10_addEntry_5 : decode cJ10_addEntry 5 = .ok (.aload_n 2, 1) := dk_44 (dk_at dksJ10_addEntry_0 5 rfl rfl)
theorem dJ10_addEntry_6 : decode cJ10_addEntry 6 = .ok (.aload_n 3, 1) := dk_45 (dk_at dksJ10_addEntry_0 6 rfl rfl)
theorem dJ10_addEntry_7 : decode cJ10_addEntry 7 = .ok (.invokespecial 167, 3) := dk_183 0 167 (dk_at dksJ10_addEntry_0 7 rfl rfl)
theorem dJ10_addEntry_10 : decode cJ10_addEntry 10 = .ok (.astore 5, 2) := dk_58 5 (dk_at dksJ10_addEntry_0 10 rfl rfl)
theorem dJ10_addEntry_12 : decode cJ10_addEntry 12 = .ok (.iload 4, 2) := dk_21 4 (dk_at dksJ10_addEntry_0 12 rfl rfl)
theorem dJ10_addEntry_14 : decode cJ10_addEntry 14 = .ok (.ifCond .eq 12, 3) := dk_153 0 12 (dk_at dksJ10_addEntry_0 14 rfl rfl)
theorem dJ10_addEntry_17 : decode cJ10_addEntry 17 = .ok (.aload_n 3, 1) := dk_45 (dk_at dksJ10_addEntry_0 17 rfl rfl)
theorem dJ10_addEntry_18 : decode cJ10_addEntry 18 = .ok (.aload 5, 2) := dk_25 5 (dk_at dksJ10_addEntry_0 18 rfl rfl)
theorem dJ10_addEntry_20 : decode cJ10_addEntry 20 = .ok (.putfield 111, 3) := dk_181 0 111 (dk_at dksJ10_addEntry_0 20 rfl rfl)
theorem dJ10_addEntry_23 : decode cJ10_addEntry 23 = .ok (.goto 9, 3) := dk_167 0 9 (dk_at dksJ10_addEntry_1 0 rfl rfl)
theorem dJ10_addEntry_26 : decode cJ10_addEntry 26 = .ok (.aload_n 3, 1) := dk_45 (dk_at dksJ10_addEntry_1 3 rfl rfl)
theorem dJ10_addEntry_27 : decode cJ10_addEntry 27 = .ok (.aload 5, 2) := dk_25 5 (dk_at dksJ10_addEntry_1 4 rfl rfl)
theorem dJ10_addEntry_29 : decode cJ10_addEntry 29 = .ok (.putfield 114, 3) := dk_181 0 114 (dk_at dksJ10_addEntry_1 6 rfl rfl)
theorem dJ10_addEntry_32 : decode cJ10_addEntry 32 = .ok (.aload_n 0, 1) := dk_42 (dk_at dksJ10_addEntry_1 9 rfl rfl)
theorem dJ10_addEntry_33 : decode cJ10_addEntry 33 = .ok (.aload 5, 2) := dk_25 5 (dk_at dksJ10_addEntry_1 10 rfl rfl)
theorem dJ10_addEntry_35 : decode cJ10_addEntry 35 = .ok (.invokevirtual 170, 3) := dk_182 0 170 (dk_at dksJ10_addEntry_1 12 rfl rfl)
theorem dJ10_addEntry_38 : decode cJ10_addEntry 38 = .ok (.aload_n 0, 1) := dk_42 (dk_at dksJ10_addEntry_1 15 rfl rfl)
theorem dJ10_addEntry_39 : decode cJ10_addEntry 39 = .ok (.dup, 1) := dk_89 (dk_at dksJ10_addEntry_1 16 rfl rfl)
theorem dJ10_addEntry_40 : decode cJ10_addEntry 40 = .ok (.getfield 7, 3) := dk_180 0 7 (dk_at dksJ10_addEntry_1 17 rfl rfl)
theorem dJ10_addEntry_43 : decode cJ10_addEntry 43 = .ok (.iconst 1, 1) := dk_4 (dk_at dksJ10_addEntry_1 20 rfl rfl)
theorem dJ10_addEntry_44 : decode cJ10_addEntry 44 = .ok (.iadd, 1) := dk_96 (dk_at dksJ10_addEntry_1 21 rfl rfl)
theorem dJ10_addEntry_45 : decode cJ10_addEntry 45 = .ok (.putfield 7, 3) := dk_181 0 7 (dk_at dksJ10_addEntry_2 0 rfl rfl)
theorem dJ10_addEntry_48 : decode cJ10_addEntry 48 = .ok (.aload_n 0, 1) := dk_42 (dk_at dksJ10_addEntry_2 3 rfl rfl)
theorem dJ10_addEntry_49 : decode cJ10_addEntry 49 = .ok (.dup, 1) := dk_89 (dk_at dksJ10_addEntry_2 4 rfl rfl)
theorem dJ10_addEntry_50 : decode cJ10_addEntry 50 = .ok (.getfield 13, 3) := dk_180 0 13 (dk_at dksJ10_addEntry_2 5 rfl rfl)
theorem dJ10_addEntry_53 : decode cJ10_addEntry 53 = .ok (.iconst 1, 1) := dk_4 (dk_at dksJ10_addEntry_2 8 rfl rfl)
theorem dJ10_addEntry_54 : decode cJ10_addEntry 54 = .ok (.iadd, 1) := dk_96 (dk_at dksJ10_addEntry_2 9 rfl rfl)
theorem dJ10_addEntry_55 : decode cJ10_addEntry 55 = .ok (.putfield 13, 3) := dk_181 0 13 (dk_at dksJ10_addEntry_2 10 rfl rfl)
theorem dJ10_addEntry_58 : decode cJ10_addEntry 58 = .ok (.return_, 1) := dk_177 (dk_at dksJ10_addEntry_2 13 rfl rfl)
def dkwJ10_containsKey_0 : List UInt8 := [42, 43, 182, 0, 50, 198, 0, 7, 4, 167, 0, 4, 3, 172]
abbrev dktJ10_containsKey_0 : List UInt8 := dkwJ10_containsKey_0 ++ []
theorem dksJ10_containsKey_0 : cJ10_containsKey.data.toList.drop 0 = dktJ10_containsKey_0 := by decide +kernel
theorem dJ10_containsKey_0 : decode cJ10_containsKey 0 = .ok (.aload_n 0, 1) := dk_42 (dk_at dksJ10_containsKey_0 0 rfl rfl)
theorem dJ10_containsKey_1 : decode cJ10_containsKey 1 = .ok (.aload_n 1, 1) := dk_43 (dk_at dksJ10_containsKey_0 1 rfl rfl)
theorem dJ10_containsKey_2 : decode cJ10_containsKey 2 = .ok (.invokevirtual 50, 3) := dk_182 0 50 (dk_at dksJ10_containsKey_0 2 rfl rfl)
theorem dJ10_containsKey_5 : decode cJ10_containsKey 5 = .ok (.ifnull 7, 3) := dk_198 0 7 (dk_at dksJ10_containsKey_0 5 rfl rfl)
theorem dJ10_containsKey_8 : decode cJ10_containsKey 8 = .ok (.iconst 1, 1) := dk_4 (dk_at dksJ10_containsKey_0 8 rfl rfl)
theorem dJ10_containsKey_9 : decode cJ10_containsKey 9 = .ok (.goto 4, 3) := dk_167 0 4 (dk_at dksJ10_containsKey_0 9 rfl rfl)
theorem dJ10_containsKey_12 : decode cJ10_containsKey 12 = .ok (.iconst 0, 1) := dk_3 (dk_at dksJ10_containsKey_0 12 rfl rfl)
theorem dJ10_containsKey_13 : decode cJ10_containsKey 13 = .ok (.ireturn, 1) := dk_172 (dk_at dksJ10_containsKey_0 13 rfl rfl)
def dkwJ10_getEntry_3 : List UInt8 := [45, 176, 167, 255, 212, 1, 176]
abbrev dktJ10_getEntry_3 : List UInt8 := dkwJ10_getEntry_3 ++ []
def dkwJ10_getEntry_2 : List UInt8 := [156, 0, 11, 45, 180, 0, 111, 78, 167, 0, 18, 21, 4, 158, 0, 11, 45, 180, 0, 114, 78, 167, 0, 5]
abbrev dktJ10_getEntry_2 : List UInt8 := dkwJ10_getEntry_2 ++ dktJ10_getEntry_3
def dkwJ10_getEntry_1 : List UInt8 := [180, 0, 101, 78, 45, 198, 0, 46, 44, 45, 180, 0, 105, 185, 0, 107, 2, 0, 54, 4, 21, 4]
abbrev dktJ10_getEntry_1 : List UInt8 := dkwJ10_getEntry_1 ++ dktJ10_getEntry_2
def dkwJ10_getEntry_0 : List UInt8 := [42, 180, 0, 16, 198, 0, 9, 42, 43, 182, 0, 92, 176, 43, 184, 0, 95, 87, 43, 192, 0, 99, 77, 42]
abbrev dktJ10_getEntry_0 : List UInt8 := dkwJ10_getEntry_0 ++ dktJ10_getEntry_1
theorem dksJ10_getEntry_0 : cJ10_getEntry.data.toList.drop 0 = dktJ10_getEntry_0 := by decide +kernel
theorem dksJ10_getEntry_1 : cJ10_getEntry.data.toList.drop 24 = dktJ10_getEntry_1 := dk_seg dksJ10_getEntry_0 24 rfl rfl
theorem dksJ10_getEntry_2 : cJ10_getEntry.data.toList.drop 46 = dktJ10_getEntry_2 := dk_seg dksJ10_getEntry_1 22 rfl rfl
theorem dksJ10_getEntry_3 : cJ10_getEntry.data.toList.drop 70 = dktJ10_getEntry_3 := dk_seg dksJ10_getEntry_2 24 rfl rfl
theorem dJ10_getEntry_0 : decode cJ10_getEntry 0 = .ok (.aload_n 0, 1) := dk_42 (dk_at dksJ10_getEntry_0 0 rfl rfl)
theorem dJ10_getEntry_1 : decode cJ10_getEntry 1 = .ok (.getfield 16, 3) := dk_180 0 16 (dk_at dksJ10_getEntry_0 1 rfl rfl)
theorem dJ10_getEntry_4 : decode cJ10_getEntry 4 = .ok (.ifnull 9, 3) := dk_198 0 9 (dk_at dksJ10_getEntry_0 4 rfl rfl)
theorem dJ10_getEntry_7 : decode cJ10_getEntry 7 = .ok (.aload_n 0, 1) := dk_42 (dk_at dksJ10_getEntry_0 7 rfl rfl)
theorem dJ10_getEntry_8 : decode cJ10_getEntry 8 = .ok (.aload_n 1, 1) := dk_43 (dk_at dksJ10_getEntry_0 8 rfl rfl)
theorem dJ10_getEntry_9 : decode cJ10_getEntry 9 = .ok (.invokevirtual 92, 3) := dk_182 0 92 (dk_at dksJ10_getEntry_0 9 rfl rfl)
theorem dJ10_getEntry_12 : decode cJ10_getEntry 12 = .ok (.areturn, 1) := dk_176 (dk_at dksJ10_getEntry_0 12 rfl rfl)
theorem dJ10_getEntry_13 : decode cJ10_getEntry 13 = .ok (.aload_n 1, 1) := dk_43 (dk_at dksJ10_getEntry_0 13 rfl rfl)
theorem dJ10_getEntry_14 : decode cJ10_getEntry 14 = .ok (.invokestatic 95, 3) := dk_184 0 95 (dk_at dksJ10_getEntry_0 14 rfl rfl)
theorem dJ10_getEntry_17 : decode cJ10_getEntry 17 = .ok (.pop, 1) := dk_87 (dk_at dksJ10_getEntry_0 17 rfl rfl)
theorem dJ10_getEntry_18 : decode cJ10_getEntry 18 = .ok (.aload_n 1, 1) := dk_43 (dk_at dksJ10_getEntry_0 18 rfl rfl)
theorem dJ10_getEntry_19 : decode cJ10_getEntry 19 = .ok (.checkcast 99, 3) := dk_192 0 99 (dk_at dksJ10_getEntry_0 19 rfl rfl)
theorem dJ10_getEntry_22 : decode cJ10_getEntry 22 = .ok (.astore_n 2, 1) := dk_77 (dk_at dksJ10_getEntry_0 22 rfl rfl)
theorem dJ10_getEntry_23 : decode cJ10_getEntry 23 = .ok (.aload_n 0, 1) := dk_42 (dk_at dksJ10_getEntry_0 23 rfl rfl)
theorem dJ10_getEntry_24 : decode cJ10_getEntry 24 = .ok (.getfield 101, 3) := dk_180 0 101 (dk_at dksJ10_getEntry_1 0 rfl rfl)
theorem dJ10_getEntry_27 : decode cJ10_getEntry 27 = .ok (.astore_n 3, 1) := dk_78 (dk_at dksJ10_getEntry_1 3 rfl rfl)
theorem dJ10_getEntry_28 : decode cJ10_getEntry 28 = .ok (.aload_n 3, 1) := dk_45 (dk_at dksJ10_getEntry_1 4 rfl rfl)
theorem dJ10_getEntry_29 : decode cJ10_getEntry 29 = .ok (.ifnull 46, 3) := dk_198 0 46 (dk_at dksJ10_getEntry_1 5 rfl rfl)
theorem dJ10_getEntry_32 : decode cJ10_getEntry 32 = .ok (.aload_n 2, 1) := dk_44 (dk_at dksJ10_getEntry_1 8 rfl rfl)
theorem dJ10_getEntry_33 : decode cJ10_getEntry 33 = .ok (.aload_n 3, 1) := dk_45 (dk_at dksJ10_getEntry_1 9 rfl rfl)
theorem dJ10_getEntry_34 : decode cJ10_getEntry 34 = .ok (.getfield 105, 3) := dk_180 0 105 (dk_at dksJ10_getEntry_1 10 rfl rfl)
theorem dJ10_getEntry_37 : decode cJ10_getEntry 37 = .ok (.invokeinterface 107 2, 5) := by decide +kernel
theorem dJ10_getEntry_42 : decode cJ10_getEntry 42 = .ok (.istore 4, 2) := dk_54 4 (dk_at dksJ10_getEntry_1 18 rfl rfl)
theorem dJ10_getEntry_44 : decode cJ10_getEntry 44 = .ok (.iload 4, 2) := dk_21 4 (dk_at dksJ10_getEntry_1 20 rfl rfl)
theorem dJ10_getEntry_46 : decode cJ10_getEntry 46 = .ok (.ifCond .ge 11, 3) := dk_156 0 11 (dk_at dksJ10_getEntry_2 0 rfl rfl)
theorem dJ10_getEntry_49 : decode cJ10_getEntry 49 = .ok (.aload_n 3, 1) := dk_45 (dk_at dksJ10_getEntry_2 3 rfl rfl)
theorem dJ10_getEntry_50 : decode cJ10_getEntry 50 = .ok (.getfield 111, 3) := dk_180 0 111 (dk_at dksJ10_getEntry_2 4 rfl rfl)
theorem dJ10_getEntry_53 : decode cJ10_getEntry 53 = .ok (.astore_n 3, 1) := dk_78 (dk_at dksJ10_getEntry_2 7 rfl rfl)
theorem dJ10_getEntry_54 : decode cJ10_getEntry 54 = .ok (.goto 18, 3) := dk_167 0 18 (dk_at dksJ10_getEntry_2 8 rfl rfl)
theorem dJ10_getEntry_57 : decode cJ10_getEntry 57 = .ok (.iload 4, 2) := dk_21 4 (dk_at dksJ10_getEntry_2 11 rfl rfl)
theorem dJ10_getEntry_59 : decode cJ10_getEntry 59 = .ok (.ifCond .le 11, 3) := dk_158 0 11 (dk_at dksJ10_getEntry_2 13 rfl rfl)
theorem dJ10_getEntry_62 : decode cJ10_getEntry 62 = .ok (.aload_n 3, 1) := dk_45 (dk_at dksJ10_getEntry_2 16 rfl rfl)
theorem dJ10_getEntry_63 : decode cJ10_getEntry 63 = .ok (.getfield 114, 3) := dk_180 0 114 (dk_at dksJ10_getEntry_2 17 rfl rfl)
theorem dJ10_getEntry_66 : decode cJ10_getEntry 66 = .ok (.astore_n 3, 1) := dk_78 (dk_at dksJ10_getEntry_2 20 rfl rfl)
theorem dJ10_getEntry_67 : decode cJ10_getEntry 67 = .ok (.goto 5, 3) := dk_167 0 5 (dk_at dksJ10_getEntry_2 21 rfl rfl)
theorem dJ10_getEntry_70 : decode cJ10_getEntry 70 = .ok (.aload_n 3, 1) := dk_45 (dk_at dksJ10_getEntry_3 0 rfl rfl)
theorem dJ10_getEntry_71 : decode cJ10_getEntry 71 = .ok (.areturn, 1) := dk_176 (dk_at dksJ10_getEntry_3 1 rfl rfl)
theorem dJ10_getEntry_72 : decode cJ10_getEntry 72 = .ok (.goto (-44), 3) := dk_167 255 212 (dk_at dksJ10_getEntry_3 2 rfl rfl)
theorem dJ10_getEntry_75 : decode cJ10_getEntry 75 = .ok (.aconst_null, 1) := dk_1 (dk_at dksJ10_getEntry_3 5 rfl rfl)
theorem dJ10_getEntry_76 : decode cJ10_getEntry 76 = .ok (.areturn, 1) := dk_176 (dk_at dksJ10_getEntry_3 6 rfl rfl)
def dkwJ10_get_0 : List UInt8 := [42, 43, 182, 0, 50, 77, 44, 199, 0, 7, 1, 167, 0, 7, 44, 180, 0, 58, 176]
abbrev dktJ10_get_0 : List UInt8 := dkwJ10_get_0 ++ []
theorem dksJ10_get_0 : cJ10_get.data.toList.drop 0 = dktJ10_get_0 := by decide +kernel
theorem dJ10_get_0 : decode cJ10_get 0 = .ok (.aload_n 0, 1) := dk_42 (dk_at dksJ10_get_0 0 rfl rfl)
theorem dJ10_get_1 : decode cJ10_get 1 = .ok (.aload_n 1, 1) := dk_43 (dk_at dksJ10_get_0 1 rfl rfl)
theorem dJ10_get_2 : decode cJ10_get 2 = .ok (.invokevirtual 50, 3) := dk_182 0 50 (dk_at dksJ10_get_0 2 rfl rfl)
theorem dJ10_get_5 : decode cJ10_get 5 = .ok (.astore_n 2, 1) := dk_77 (dk_at dksJ10_get_0 5 rfl rfl)
theorem dJ10_get_6 : decode cJ10_get 6 = .ok (.aload_n 2, 1) := dk_44 (dk_at dksJ10_get_0 6 rfl rfl)
theorem dJ10_get_7 : decode cJ10_get 7 = .ok (.ifnonnull 7, 3) := dk_199 0 7 (dk_at dksJ10_get_0 7 rfl rfl)
theorem dJ10_get_10 : decode cJ10_get 10 = .ok (.aconst_null, 1) := dk_1 (dk_at dksJ10_get_0 10 rfl rfl)
theorem dJ10_get_11 : decode cJ10_get 11 = .ok (.goto 7, 3) := dk_167 0 7 (dk_at dksJ10_get_0 11 rfl rfl)
theorem dJ10_get_14 : decode cJ10_get 14 = .ok (.aload_n 2, 1) := dk_44 (dk_at dksJ10_get_0 14 rfl rfl)
theorem dJ10_get_15 : decode cJ10_get 15 = .ok (.getfield 58, 3) := dk_180 0 58 (dk_at dksJ10_get_0 15 rfl rfl)
theorem dJ10_get_18 : decode cJ10_get 18 = .ok (.areturn, 1) := dk_176 (dk_at dksJ10_get_0 18 rfl rfl)
theorem dJ10_size_0 : decode cJ10_size 0 = .ok (.aload_n 0, 1) := by decide +kernel
theorem dJ10_size_1 : decode cJ10_size 1 = .ok (.getfield 7, 3) := by decide +kernel
theorem dJ10_size_4 : decode cJ10_size 4 = .ok (.ireturn, 1) := by decide +kernel
def dkwJ10_floorKey_0 : List UInt8 := [42, 43, 182, 0, 210, 184, 0, 207, 176]
abbrev dktJ10_floorKey_0 : List UInt8 := dkwJ10_floorKey_0 ++ []
theorem dksJ10_floorKey_0 : cJ10_floorKey.data.toList.drop 0 = dktJ10_floorKey_0 := by decide +kernel
theorem dJ10_floorKey_0 : decode cJ10_floorKey 0 = .ok (.aload_n 0, 1) := dk_42 (dk_at dksJ10_floorKey_0 0 rfl rfl)
theorem dJ10_floorKey_1 : decode cJ10_floorKey 1 = .ok (.aload_n 1, 1) := dk_43 (dk_at dksJ10_floorKey_0 1 rfl rfl)
theorem dJ10_floorKey_2 : decode cJ10_floorKey 2 = .ok (.invokevirtual 210, 3) := dk_182 0 210 (dk_at dksJ10_floorKey_0 2 rfl rfl)
theorem dJ10_floorKey_5 : decode cJ10_floorKey 5 = .ok (.invokestatic 207, 3) := dk_184 0 207 (dk_at dksJ10_floorKey_0 5 rfl rfl)
theorem dJ10_floorKey_8 : decode cJ10_floorKey 8 = .ok (.areturn, 1) := dk_176 (dk_at dksJ10_floorKey_0 8 rfl rfl)
def dkwJ10_getFloorEntry_4 : List UInt8 := [167, 255, 230, 25, 4, 176, 44, 176, 167, 255, 159, 1, 176]
abbrev dktJ10_getFloorEntry_4 : List UInt8 := dkwJ10_getFloorEntry_4 ++ []
def dkwJ10_getFloorEntry_3 : List UInt8 := [198, 0, 27, 25, 5, 25, 4, 180, 0, 111, 166, 0, 17, 25, 4, 58, 5, 25, 4, 180, 0, 124, 58, 4]
abbrev dktJ10_getFloorEntry_3 : List UInt8 := dkwJ10_getFloorEntry_3 ++ dktJ10_getFloorEntry_4
def dkwJ10_getFloorEntry_2 : List UInt8 := [198, 0, 11, 44, 180, 0, 111, 77, 167, 0, 46, 44, 180, 0, 124, 58, 4, 44, 58, 5, 25, 4]
abbrev dktJ10_getFloorEntry_2 : List UInt8 := dkwJ10_getFloorEntry_2 ++ dktJ10_getFloorEntry_3
def dkwJ10_getFloorEntry_1 : List UInt8 := [180, 0, 114, 198, 0, 11, 44, 180, 0, 114, 77, 167, 0, 67, 44, 176, 29, 156, 0, 59, 44, 180, 0, 111]
abbrev dktJ10_getFloorEntry_1 : List UInt8 := dkwJ10_getFloorEntry_1 ++ dktJ10_getFloorEntry_2
def dkwJ10_getFloorEntry_0 : List UInt8 := [42, 180, 0, 101, 77, 44, 198, 0, 99, 42, 43, 44, 180, 0, 105, 182, 0, 123, 62, 29, 158, 0, 20, 44]
abbrev dktJ10_getFloorEntry_0 : List UInt8 := dkwJ10_getFloorEntry_0 ++ dktJ10_getFloorEntry_1
theorem dksJ10_getFloorEntry_0 : cJ10_getFloorEntry.data.toList.drop 0 = dktJ10_getFloorEntry_0 := by decide +kernel
theorem dksJ10_getFloorEntry_1 : cJ10_getFloorEntry.data.toList.drop 24 = dktJ10_getFloorEntry_1 := dk_seg dksJ10_getFloorEntry_0 24 rfl rfl
theorem dksJ10_getFloorEntry_2 : cJ10_getFloorEntry.data.toList.drop 48 = dktJ10_getFloorEntry_2 := dk_seg dksJ10_getFloorEntry_1 24 rfl rfl
theorem dksJ10_getFloorEntry_3 : cJ10_getFloorEntry.data.toList.drop 70 = dktJ10_getFloorEntry_3 := dk_seg dksJ10_getFloorEntry_2 22 rfl rfl
theorem dksJ10_getFloorEntry_4 : cJ10_getFloorEntry.data.toList.drop 94 = dktJ10_getFloorEntry_4 := dk_seg dksJ10_getFloorEntry_3 24 rfl rfl
theorem dJ10_getFloorEntry_0 : decode cJ10_getFloorEntry 0 = .ok (.aload_n 0, 1) := dk_42 (dk_at dksJ10_getFloorEntry_0 0 rfl rfl)
theorem dJ10_getFloorEntry_1 : decode cJ10_getFloorEntry 1 = .ok (.getfield 101, 3) := dk_180 0 101 (dk_at dksJ10_getFloorEntry_0 1 rfl rfl)
theorem dJ10_getFloorEntry_4 : decode cJ10_getFloorEntry 4 = .ok (.astore_n 2, 1) := dk_77 (dk_at dksJ10_getFloorEntry_0 4 rfl rfl)
theorem dJ10_getFloorEntry_5 : decode cJ10_getFloorEntry 5 = .ok (.aload_n 2, 1) := dk_44 (dk_at dksJ10_getFloorEntry_0 5 rfl rfl)
theorem dJ10_getFloorEntry_6 : decode cJ10_getFloorEntry 6 = .ok (.ifnull 99, 3) := dk_198 0 99 (dk_at dksJ10_getFloorEntry_0 6 rfl rfl)
theorem dJ10_getFloorEntry_9 : decode cJ10_getFloorEntry 9 = .ok (.aload_n 0, 1) := dk_42 (dk_at dksJ10_getFloorEntry_0 9 rfl rfl)
theorem dJ10_getFloorEntry_10 : decode cJ10_getFloorEntry 10 = .ok (.aload_n 1, 1) := dk_43 (dk_at dksJ10_getFloorEntry_0 10 rfl rfl)
theorem dJ10_getFloorEntry_11 : decode cJ10_getFloorEntry 11 = .ok (.aload_n 2, 1) := dk_44 (dk_at dksJ10_getFloorEntry_0 11 rfl rfl)
theorem dJ10_getFloorEntry_12 : decode cJ10_getFloorEntry 12 = .ok (.getfield 105, 3) := dk_180 0 105 (dk_at dksJ10_getFloorEntry_0 12 rfl rfl)
theorem dJ10_getFloorEntry_15 : decode cJ10_getFloorEntry 15 = .ok (.invokevirtual 123, 3) := dk_182 0 123 (dk_at dksJ10_getFloorEntry_0 15 rfl rfl)
theorem dJ10_getFloorEntry_18 : decode cJ10_getFloorEntry 18 = .ok (.istore_n 3, 1) := dk_62 (dk_at dksJ10_getFloorEntry_0 18 rfl rfl)
theorem dJ10_getFloorEntry_19 : decode cJ10_getFloorEntry 19 = .ok (.iload_n 3, 1) := dk_29 (dk_at dksJ10_getFloorEntry_0 19 rfl rfl)
theorem dJ10_getFloorEntry_20 : decode cJ10_getFloorEntry 20 = .ok (.ifCond .le 20, 3) := dk_158 0 20 (dk_at dksJ10_getFloorEntry_0 20 rfl rfl)
theorem dJ10_getFloorEntry_23 : decode cJ10_getFloorEntry 23 = .ok (.aload_n 2, 1) := dk_44 (dk_at dksJ10_getFloorEntry_0 23 rfl rfl)
theorem dJ10_getFloorEntry_24 : decode cJ10_getFloorEntry 24 = .ok (.getfield 114, 3) := dk_180 0 114 (dk_at dksJ10_getFloorEntry_1 0 rfl rfl)
theorem dJ10_getFloorEntry_27 : decode cJ10_getFloorEntry 27 = .ok (.ifnull 11, 3) := dk_198 0 11 (dk_at dksJ10_getFloorEntry_1 3 rfl rfl)
theorem dJ10_getFloorEntry_30 : decode cJ10_getFloorEntry 30 = .ok (.aload_n 2, 1) := dk_44 (dk_at dksJ10_getFloorEntry_1 6 rfl rfl)
theorem dJ10_getFloorEntry_31 : decode cJ10_getFloorEntry 31 = .ok (.getfield 114, 3) := dk_180 0 114 (dk_at dksJ10_getFloorEntry_1 7 rfl rfl)
theorem dJ10_getFloorEntry_34 : decode cJ10_getFloorEntry 34 = .ok (.astore_n 2, 1) := dk_77 (dk_at dksJ10_getFloorEntry_1 10 rfl rfl)
theorem dJ10_getFloorEntry_35 : decode cJ10_getFloorEntry 35 = .ok (.goto 67, 3) := dk_167 0 67 (dk_at dksJ10_getFloorEntry_1 11 rfl rfl)
theorem dJ10_getFloorEntry_38 : decode cJ10_getFloorEntry 38 = .ok (.aload_n 2, 1) := dk_44 (dk_at dksJ10_getFloorEntry_1 14 rfl rfl)
theorem dJ10_getFloorEntry_39 : decode cJ10_getFloorEntry 39 = .ok (.areturn, 1) := dk_176 (dk_at dksJ10_getFloorEntry_1 15 rfl rfl)
theorem dJ10_getFloorEntry_40 : decode cJ10_getFloorEntry 40 = .ok (.iload_n 3, 1) := dk_29 (dk_at dksJ10_getFloorEntry_1 16 rfl rfl)
theorem dJ10_getFloorEntry_41 : decode cJ10_getFloorEntry 41 = .ok (.ifCond .ge 59, 3) := dk_156 0 59 (dk_at dksJ10_getFloorEntry_1 17 rfl rfl)
theorem dJ10_getFloorEntry_44 : decode cJ10_getFloorEntry 44 = .ok (.aload_n 2, 1) := dk_44 (dk_at dksJ10_getFloorEntry_1 20 rfl rfl)
theorem dJ10_getFloorEntry_45 : decode cJ10_getFloorEntry 45 = .ok (.getfield 111, 3) := dk_180 0 111 (dk_at dksJ10_getFloorEntry_1 21 rfl rfl)
theorem dJ10_getFloorEntry_48 : decode cJ10_getFloorEntry 48 = .ok (.ifnull 11, 3) := dk_198 0 11 (dk_at dksJ10_getFloorEntry_2 0 rfl rfl)
theorem dJ10_getFloorEntry_51 : decode cJ10_getFloorEntry 51 = .ok (.aload_n 2, 1) := dk_44 (dk_at dksJ10_getFloorEntry_2 3 rfl rfl)
theorem dJ10_getFloorEntry_52 : decode cJ10_getFloorEntry 52 = .ok (.getfield 111, 3) := dk_180 0 111 (dk_at dksJ10_getFloorEntry_2 4 rfl rfl)
theorem dJ10_getFloorEntry_55 : decode cJ10_getFloorEntry 55 = .ok (.astore_n 2, 1) := dk_77 (dk_at dksJ10_getFloorEntry_2 7 rfl rfl)
theorem dJ10_getFloorEntry_56 : decode cJ10_getFloorEntry 56 = .ok (.goto 46, 3) := dk_167 0 46 (dk_at dksJ10_getFloorEntry_2 8 rfl rfl)
theorem dJ10_getFloorEntry_59 : decode cJ10_getFloorEntry 59 = .ok (.aload_n 2, 1) := dk_44 (dk_at dksJ10_getFloorEntry_2 11 rfl rfl)
theorem dJ10_getFloorEntry_60 : decode cJ10_getFloorEntry 60 = .ok (.getfield 124, 3) := dk_180 0 124 (dk_at dksJ10_getFloorEntry_2 12 rfl rfl)
theorem dJ10_getFloorEntry_63 : decode cJ10_getFloorEntry 63 = .ok (.astore 4, 2) := dk_58 4 (dk_at dksJ10_getFloorEntry_2 15 rfl rfl)
theorem dJ10_getFloorEntry_65 : decode cJ10_getFloorEntry 65 = .ok (.aload_n 2, 1) := dk_44 (dk_at dksJ10_getFloorEntry_2 17 rfl rfl)
theorem dJ10_getFloorEntry_66 : decode cJ10_getFloorEntry 66 = .ok (.astore 5, 2) := dk_58 5 (dk_at dksJ10_getFloorEntry_2 18 rfl rfl)
theorem dJ10_getFloorEntry_68 : decode cJ10_getFloorEntry 68 = .ok (.aload 4, 2) := dk_25 4 (dk_at dksJ10_getFloorEntry_2 20 rfl rfl)
theorem dJ10_getFloorEntry_70 : decode cJ10_getFloorEntry 70 = .ok (.ifnull 27, 3) := dk_198 0 27 (dk_at dksJ10_getFloorEntry_3 0 rfl rfl)
theorem dJ10_getFloorEntry_73 : decode cJ10_getFloorEntry 73 = .ok (.aload 5, 2) := dk_25 5 (dk_at dksJ10_getFloorEntry_3 3 rfl rfl)
theorem dJ10_getFloorEntry_75 : decode cJ10_getFloorEntry 75 = .ok (.aload 4, 2) := dk_25 4 (dk_at dksJ10_getFloorEntry_3 5 rfl rfl)
theorem dJ10_getFloorEntry_77 : decode cJ10_getFloorEntry 77 = .ok (.getfield 111, 3) := dk_180 0 111 (dk_at dksJ10_getFloorEntry_3 7 rfl rfl)
theorem dJ10_getFloorEntry_80 : decode cJ10_getFloorEntry 80 = .ok (.if_acmp .ne 17, 3) := dk_166 0 17 (dk_at dksJ10_getFloorEntry_3 10 rfl rfl)
theorem dJ10_getFloorEntry_83 : decode cJ10_getFloorEntry 83 = .ok (.aload 4, 2) := dk_25 4 (dk_at dksJ10_getFloorEntry_3 13 rfl rfl)
theorem dJ10_getFloorEntry_85 : decode cJ10_getFloorEntry 85 = .ok (.astore 5, 2) := dk_58 5 (dk_at dksJ10_getFloorEntry_3 15 rfl rfl)
theorem dJ10_getFloorEntry_87 : decode cJ10_getFloorEntry 87 = .ok (.aload 4, 2) := dk_25 4 (dk_at dksJ10_getFloorEntry_3 17 rfl rfl)
theorem dJ10_getFloorEntry_89 : decode cJ10_getFloorEntry 89 = .ok (.getfield 124, 3) := dk_180 0 124 (dk_at dksJ10_getFloorEntry_3 19 rfl rfl)
theorem dJ10_getFloorEntry_92 : decode cJ10_getFloorEntry 92 = .ok (.astore 4, 2) := dk_58 4 (dk_at dksJ10_getFloorEntry_3 22 rfl rfl)
theorem dJ10_getFloorEntry_94 : decode cJ10_getFloorEntry 94 = .ok (.goto (-26), 3) := dk_167 255 230 (dk_at dksJ10_getFloorEntry_4 0 rfl rfl)
theorem dJ10_getFloorEntry_97 : decode cJ10_getFloorEntry 97 = .ok (.aload 4, 2) := dk_25 4 (dk_at dksJ10_getFloorEntry_4 3 rfl rfl)
theorem dJ10_getFloorEntry_99 : decode cJ10_getFloorEntry 99 = .ok (.areturn, 1) := dk_176 (dk_at dksJ10_getFloorEntry_4 5 rfl rfl)
theorem dJ10_getFloorEntry_100 : decode cJ10_getFloorEntry 100 = .ok (.aload_n 2, 1) := dk_44 (dk_at dksJ10_getFloorEntry_4 6 rfl rfl)
theorem dJ10_getFloorEntry_101 : decode cJ10_getFloorEntry 101 = .ok (.areturn, 1) := dk_176 (dk_at dksJ10_getFloorEntry_4 7 rfl rfl)
theorem dJ10_getFloorEntry_102 : decode cJ10_getFloorEntry 102 = .ok (.goto (-97), 3) := dk_167 255 159 (dk_at dksJ10_getFloorEntry_4 8 rfl rfl)
theorem dJ10_getFloorEntry_105 : decode cJ10_getFloorEntry 105 = .ok (.aconst_null, 1) := dk_1 (dk_at dksJ10_getFloorEntry_4 11 rfl rfl)
theorem dJ10_getFloorEntry_106 : decode cJ10_getFloorEntry 106 = .ok (.areturn, 1) := dk_176 (dk_at dksJ10_getFloorEntry_4 12 rfl rfl)
def dkwJ10_keyOrNull_0 : List UInt8 := [42, 199, 0, 7, 1, 167, 0, 7, 42, 180, 0, 105, 176]
abbrev dktJ10_keyOrNull_0 : List UInt8 := dkwJ10_keyOrNull_0 ++ []
theorem dksJ10_keyOrNull_0 : cJ10_keyOrNull.data.toList.drop 0 = dktJ10_keyOrNull_0 := by decide +kernel
theorem dJ10_keyOrNull_0 : decode cJ10_keyOrNull 0 = .ok (.aload_n 0, 1) := dk_42 (dk_at dksJ10_keyOrNull_0 0 rfl rfl)
theorem dJ10_keyOrNull_1 : decode cJ10_keyOrNull 1 = .ok (.ifnonnull 7, 3) := dk_199 0 7 (dk_at dksJ10_keyOrNull_0 1 rfl rfl)
theorem dJ10_keyOrNull_4 : decode cJ10_keyOrNull 4 = .ok (.aconst_null, 1) := dk_1 (dk_at dksJ10_keyOrNull_0 4 rfl rfl)
theorem dJ10_keyOrNull_5 : decode cJ10_keyOrNull 5 = .ok (.goto 7, 3) := dk_167 0 7 (dk_at dksJ10_keyOrNull_0 5 rfl rfl)
theorem dJ10_keyOrNull_8 : decode cJ10_keyOrNull 8 = .ok (.aload_n 0, 1) := dk_42 (dk_at dksJ10_keyOrNull_0 8 rfl rfl)
theorem dJ10_keyOrNull_9 : decode cJ10_keyOrNull 9 = .ok (.getfield 105, 3) := dk_180 0 105 (dk_at dksJ10_keyOrNull_0 9 rfl rfl)
theorem dJ10_keyOrNull_12 : decode cJ10_keyOrNull 12 = .ok (.areturn, 1) := dk_176 (dk_at dksJ10_keyOrNull_0 12 rfl rfl)
def dkwJ10_firstKey_0 : List UInt8 := [42, 182, 0, 54, 184, 0, 72, 176]
abbrev dktJ10_firstKey_0 : List UInt8 := dkwJ10_firstKey_0 ++ []
theorem dksJ10_firstKey_0 : cJ10_firstKey.data.toList.drop 0 = dktJ10_firstKey_0 := by decide +kernel
theorem dJ10_firstKey_0 : decode cJ10_firstKey 0 = .ok (.aload_n 0, 1) := dk_42 (dk_at dksJ10_firstKey_0 0 rfl rfl)
theorem dJ10_firstKey_1 : decode cJ10_firstKey 1 = .ok (.invokevirtual 54, 3) := dk_182 0 54 (dk_at dksJ10_firstKey_0 1 rfl rfl)
theorem dJ10_firstKey_4 : decode cJ10_firstKey 4 = .ok (.invokestatic 72, 3) := dk_184 0 72 (dk_at dksJ10_firstKey_0 4 rfl rfl)
theorem dJ10_firstKey_7 : decode cJ10_firstKey 7 = .ok (.areturn, 1) := dk_176 (dk_at dksJ10_firstKey_0 7 rfl rfl)
def dkwJ10_key_0 : List UInt8 := [42, 199, 0, 11, 187, 1, 31, 89, 183, 1, 33, 191, 42, 180, 0, 105, 176]
abbrev dktJ10_key_0 : List UInt8 := dkwJ10_key_0 ++ []
theorem dksJ10_key_0 : cJ10_key.data.toList.drop 0 = dktJ10_key_0 := by decide +kernel
theorem dJ10_key_0 : decode cJ10_key 0 = .ok (.aload_n 0, 1) := dk_42 (dk_at dksJ10_key_0 0 rfl rfl)
theorem dJ10_key_1 : decode cJ10_key 1 = .ok (.ifnonnull 11, 3) := dk_199 0 11 (dk_at dksJ10_key_0 1 rfl rfl)
theorem dJ10_key_4 : decode cJ10_key 4 = .ok (.new 287, 3) := dk_187 1 31 (dk_at dksJ10_key_0 4 rfl rfl)
theorem dJ10_key_7 : decode cJ10_key 7 = .ok (.dup, 1) := dk_89 (dk_at dksJ10_key_0 7 rfl rfl)
theorem dJ10_key_8 : decode cJ10_key 8 = .ok (.invokespecial 289, 3) := dk_183 1 33 (dk_at dksJ10_key_0 8 rfl rfl)
theorem dJ10_key_11 : decode cJ10_key 11 = .ok (.athrow, 1) := dk_191 (dk_at dksJ10_key_0 11 rfl rfl)
theorem dJ10_key_12 : decode cJ10_key 12 = .ok (.aload_n 0, 1) := dk_42 (dk_at dksJ10_key_0 12 rfl rfl)
theorem dJ10_key_13 : decode cJ10_key 13 = .ok (.getfield 105, 3) := dk_180 0 105 (dk_at dksJ10_key_0 13 rfl rfl)
theorem dJ10_key_16 : decode cJ10_key 16 = .ok (.areturn, 1) := dk_176 (dk_at dksJ10_key_0 16 rfl rfl)
def dkwJ10_higherKey_0 : List UInt8 := [42, 43, 182, 0, 216, 184, 0, 207, 176]
abbrev dktJ10_higherKey_0 : List UInt8 := dkwJ10_higherKey_0 ++ []
theorem dksJ10_higherKey_0 : cJ10_higherKey.data.toList.drop 0 = dktJ10_higherKey_0 := by decide +kernel
theorem dJ10_higherKey_0 : decode cJ10_higherKey 0 = .ok (.aload_n 0, 1) := dk_42 (dk_at dksJ10_higherKey_0 0 rfl rfl)
theorem dJ10_higherKey_1 : decode cJ10_higherKey 1 = .ok (.aload_n 1, 1) := dk_43 (dk_at dksJ10_higherKey_0 1 rfl rfl)
theorem dJ10_higherKey_2 : decode cJ10_higherKey 2 = .ok (.invokevirtual 216, 3) := dk_182 0 216 (dk_at dksJ10_higherKey_0 2 rfl rfl)
theorem dJ10_higherKey_5 : decode cJ10_higherKey 5 = .ok (.invokestatic 207, 3) := dk_184 0 207 (dk_at dksJ10_higherKey_0 5 rfl rfl)
theorem dJ10_higherKey_8 : decode cJ10_higherKey 8 = .ok (.areturn, 1) := dk_176 (dk_at dksJ10_higherKey_0 8 rfl rfl)
def dkwJ10_getHigherEntry_4 : List UInt8 := [176, 167, 255, 165, 1, 176]
abbrev dktJ10_getHigherEntry_4 : List UInt8 := dkwJ10_getHigherEntry_4 ++ []
def dkwJ10_getHigherEntry_3 : List UInt8 := [25, 4, 180, 0, 114, 166, 0, 17, 25, 4, 58, 5, 25, 4, 180, 0, 124, 58, 4, 167, 255, 230, 25, 4]
abbrev dktJ10_getHigherEntry_3 : List UInt8 := dkwJ10_getHigherEntry_3 ++ dktJ10_getHigherEntry_4
def dkwJ10_getHigherEntry_2 : List UInt8 := [180, 0, 114, 77, 167, 0, 44, 44, 180, 0, 124, 58, 4, 44, 58, 5, 25, 4, 198, 0, 27, 25, 5]
abbrev dktJ10_getHigherEntry_2 : List UInt8 := dkwJ10_getHigherEntry_2 ++ dktJ10_getHigherEntry_3
def dkwJ10_getHigherEntry_1 : List UInt8 := [180, 0, 111, 198, 0, 11, 44, 180, 0, 111, 77, 167, 0, 61, 44, 176, 44, 180, 0, 114, 198, 0, 11, 44]
abbrev dktJ10_getHigherEntry_1 : List UInt8 := dkwJ10_getHigherEntry_1 ++ dktJ10_getHigherEntry_2
def dkwJ10_getHigherEntry_0 : List UInt8 := [42, 180, 0, 101, 77, 44, 198, 0, 93, 42, 43, 44, 180, 0, 105, 182, 0, 123, 62, 29, 156, 0, 20, 44]
abbrev dktJ10_getHigherEntry_0 : List UInt8 := dkwJ10_getHigherEntry_0 ++ dktJ10_getHigherEntry_1
theorem dksJ10_getHigherEntry_0 : cJ10_getHigherEntry.data.toList.drop 0 = dktJ10_getHigherEntry_0 := by decide +kernel
theorem dksJ10_getHigherEntry_1 : cJ10_getHigherEntry.data.toList.drop 24 = dktJ10_getHigherEntry_1 := dk_seg dksJ10_getHigherEntry_0 24 rfl rfl
theorem dksJ10_getHigherEntry_2 : cJ10_getHigherEntry.data.toList.drop 48 = dktJ10_getHigherEntry_2 := dk_seg dksJ10_getHigherEntry_1 24 rfl rfl
theorem dksJ10_getHigherEntry_3 : cJ10_getHigherEntry.data.toList.drop 71 = dktJ10_getHigherEntry_3 := dk_seg dksJ10_getHigherEntry_2 23 rfl rfl
theorem dksJ10_getHigherEntry_4 : cJ10_getHigherEntry.data.toList.drop 95 = dktJ10_getHigherEntry_4 := dk_seg dksJ10_getHigherEntry_3 24 rfl rfl
theorem dJ10_getHigherEntry_0 : decode cJ10_getHigherEntry 0 = .ok (.aload_n 0, 1) := dk_42 (dk_at dksJ10_getHigherEntry_0 0 rfl rfl)
theorem dJ10_getHigherEntry_1 : decode cJ10_getHigherEntry 1 = .ok (.getfield 101, 3) := dk_180 0 101 (dk_at dksJ10_getHigherEntry_0 1 rfl rfl)
theorem dJ10_getHigherEntry_4 : decode cJ10_getHigherEntry 4 = .ok (.astore_n 2, 1) := dk_77 (dk_at dksJ10_getHigherEntry_0 4 rfl rfl)
theorem dJ10_getHigherEntry_5 : decode cJ10_getHigherEntry 5 = .ok (.aload_n 2, 1) := dk_44 (dk_at dksJ10_getHigherEntry_0 5 rfl rfl)
theorem dJ10_getHigherEntry_6 : decode cJ10_getHigherEntry 6 = .ok (.ifnull 93, 3) := dk_198 0 93 (dk_at dksJ10_getHigherEntry_0 6 rfl rfl)
theorem dJ10_getHigherEntry_9 : decode cJ10_getHigherEntry 9 = .ok (.aload_n 0, 1) := dk_42 (dk_at dksJ10_getHigherEntry_0 9 rfl rfl)
theorem dJ10_getHigherEntry_10 : decode cJ10_getHigherEntry 10 = .ok (.aload_n 1, 1) := dk_43 (dk_at dksJ10_getHigherEntry_0 10 rfl rfl)
theorem dJ10_getHigherEntry_11 : decode cJ10_getHigherEntry 11 = .ok (.aload_n 2, 1) := dk_44 (dk_at dksJ10_getHigherEntry_0 11 rfl rfl)
theorem dJ10_getHigherEntry_12 : decode cJ10_getHigherEntry 12 = .ok (.getfield 105, 3) := dk_180 0 105 (dk_at dksJ10_getHigherEntry_0 12 rfl rfl)
theorem dJ10_getHigherEntry_15 : decode cJ10_getHigherEntry 15 = .ok (.invokevirtual 123, 3) := dk_182 0 123 (dk_at dksJ10_getHigherEntry_0 15 rfl rfl)
theorem dJ10_getHigherEntry_18 : decode cJ10_getHigherEntry 18 = .ok (.istore_n 3, 1) := dk_62 (dk_at dksJ10_getHigherEntry_0 18 rfl rfl)
theorem dJ10_getHigherEntry_19 : decode cJ10_getHigherEntry 19 = .ok (.iload_n 3, 1) := dk_29 (dk_at dksJ10_getHigherEntry_0 19 rfl rfl)
theorem dJ10_getHigherEntry_20 : decode cJ10_getHigherEntry 20 = .ok (.ifCond .ge 20, 3) := dk_156 0 20 (dk_at dksJ10_getHigherEntry_0 20 rfl rfl)
theorem dJ10_getHigherEntry_23 : decode cJ10_getHigherEntry 23 = .ok (.aload_n 2, 1) := dk_44 (dk_at dksJ10_getHigherEntry_0 23 rfl rfl)
theorem dJ10_getHigherEntry_24 : decode cJ10_getHigherEntry 24 = .ok (.getfield 111, 3) := dk_180 0 111 (dk_at dksJ10_getHigherEntry_1 0 rfl rfl)
theorem dJ10_getHigherEntry_27 : decode cJ10_getHigherEntry 27 = .ok (.ifnull 11, 3) := dk_198 0 11 (dk_at dksJ10_getHigherEntry_1 3 rfl rfl)
theorem dJ10_getHigherEntry_30 : decode cJ10_getHigherEntry 30 = .ok (.aload_n 2, 1) := dk_44 (dk_at dksJ10_getHigherEntry_1 6 rfl rfl)
theorem dJ10_getHigherEntry_31 : decode cJ10_getHigherEntry 31 = .ok (.getfield 111, 3) := dk_180 0 111 (dk_at dksJ10_getHigherEntry_1 7 rfl rfl)
theorem dJ10_getHigherEntry_34 : decode cJ10_getHigherEntry 34 = .ok (.astore_n 2, 1) := dk_77 (dk_at dksJ10_getHigherEntry_1 10 rfl rfl)
theorem dJ10_getHigherEntry_35 : decode cJ10_getHigherEntry 35 = .ok (.goto 61, 3) := dk_167 0 61 (dk_at dksJ10_getHigherEntry_1 11 rfl rfl)
theorem dJ10_getHigherEntry_38 : decode cJ10_getHigherEntry 38 = .ok (.aload_n 2, 1) := dk_44 (dk_at dksJ10_getHigherEntry_1 14 rfl rfl)
theorem dJ10_getHigherEntry_39 : decode cJ10_getHigherEntry 39 = .ok (.areturn, 1) := dk_176 (dk_at dksJ10_getHigherEntry_1 15 rfl rfl)
theorem dJ10_getHigherEntry_40 : decode cJ10_getHigherEntry 40 = .ok (.aload_n 2, 1) := dk_44 (dk_at dksJ10_getHigherEntry_1 16 rfl rfl)
theorem dJ10_getHigherEntry_41 : decode cJ10_getHigherEntry 41 = .ok (.getfield 114, 3) := dk_180 0 114 (dk_at dksJ10_getHigherEntry_1 17 rfl rfl)
theorem dJ10_getHigherEntry_44 : decode cJ10_getHigherEntry 44 = .ok (.ifnull 11, 3) := dk_198 0 11 (dk_at dksJ10_getHigherEntry_1 20 rfl rfl)
theorem dJ10_getHigherEntry_47 : decode cJ10_getHigherEntry 47 = .ok (.aload_n 2, 1) := dk_44 (dk_at dksJ10_getHigherEntry_1 23 rfl rfl)
theorem dJ10_getHigherEntry_48 : decode cJ10_getHigherEntry 48 = .ok (.getfield 114, 3) := dk_180 0 114 (dk_at dksJ10_getHigherEntry_2 0 rfl rfl)
theorem dJ10_getHigherEntry_51 : decode cJ10_getHigherEntry 51 = .ok (.astore_n 2, 1) := dk_77 (dk_at dksJ10_getHigherEntry_2 3 rfl rfl)
theorem dJ10_getHigherEntry_52 : decode cJ10_getHigherEntry 52 = .ok (.goto 44, 3) := dk_167 0 44 (dk_at dksJ10_getHigherEntry_2 4 rfl rfl)
theorem dJ10_getHigherEntry_55 : decode cJ10_getHigherEntry 55 = .ok (.aload_n 2, 1) := dk_44 (dk_at dksJ10_getHigherEntry_2 7 rfl rfl)
theorem dJ10_getHigherEntry_56 : decode cJ10_getHigherEntry 56 = .ok (.getfield 124, 3) := dk_180 0 124 (dk_at dksJ10_getHigherEntry_2 8 rfl rfl)
theorem dJ10_getHigherEntry_59 : decode cJ10_getHigherEntry 59 = .ok (.astore 4, 2) := dk_58 4 (dk_at dksJ10_getHigherEntry_2 11 rfl rfl)
theorem dJ10_getHigherEntry_61 : decode cJ10_getHigherEntry 61 = .ok (.aload_n 2, 1) := dk_44 (dk_at dksJ10_getHigherEntry_2 13 rfl rfl)
theorem dJ10_getHigherEntry_62 : decode cJ10_getHigherEntry 62 = .ok (.astore 5, 2) := dk_58 5 (dk_at dksJ10_getHigherEntry_2 14 rfl rfl)
theorem dJ10_getHigherEntry_64 : decode cJ10_getHigherEntry 64 = .ok (.aload 4, 2) := dk_25 4 (dk_at dksJ10_getHigherEntry_2 16 rfl rfl)
theorem dJ10_getHigherEntry_66 : decode cJ10_getHigherEntry 66 = .ok (.ifnull 27, 3) := dk_198 0 27 (dk_at dksJ10_getHigherEntry_2 18 rfl rfl)
theorem dJ10_getHigherEntry_69 : decode cJ10_getHigherEntry 69 = .ok (.aload 5, 2) := dk_25 5 (dk_at dksJ10_getHigherEntry_2 21 rfl rfl)
theorem dJ10_getHigherEntry_71 : decode cJ10_getHigherEntry 71 = .ok (.aload 4, 2) := dk_25 4 (dk_at dksJ10_getHigherEntry_3 0 rfl rfl)
theorem dJ10_getHigherEntry_73 : decode cJ10_getHigherEntry 73 = .ok (.getfield 114, 3) := dk_180 0 114 (dk_at dksJ10_getHigherEntry_3 2 rfl rfl)
theorem dJ10_getHigherEntry_76 : decode cJ10_getHigherEntry 76 = .ok (.if_acmp .ne 17, 3) := dk_166 0 17 (dk_at dksJ10_getHigherEntry_3 5 rfl rfl)
theorem dJ10_getHigherEntry_79 : decode cJ10_getHigherEntry 79 = .ok (.aload 4, 2) := dk_25 4 (dk_at dksJ10_getHigherEntry_3 8 rfl rfl)
theorem dJ10_getHigherEntry_81 : decode cJ10_getHigherEntry 81 = .ok (.astore 5, 2) := dk_58 5 (dk_at dksJ10_getHigherEntry_3 10 rfl rfl)
theorem dJ10_getHigherEntry_83 : decode cJ10_getHigherEntry 83 = .ok (.aload 4, 2) := dk_25 4 (dk_at dksJ10_getHigherEntry_3 12 rfl rfl)
theorem dJ10_getHigherEntry_85 : decode cJ10_getHigherEntry 85 = .ok (.getfield 124, 3) := dk_180 0 124 (dk_at dksJ10_getHigherEntry_3 14 rfl rfl)
theorem dJ10_getHigherEntry_88 : decode cJ10_getHigherEntry 88 = .ok (.astore 4, 2) := dk_58 4 (dk_at dksJ10_getHigherEntry_3 17 rfl rfl)
theorem dJ10_getHigherEntry_90 : decode cJ10_getHigherEntry 90 = .ok (.goto (-26), 3) := dk_167 255 230 (dk_at dksJ10_getHigherEntry_3 19 rfl rfl)
theorem dJ10_getHigherEntry_93 : decode cJ10_getHigherEntry 93 = .ok (.aload 4, 2) := dk_25 4 (dk_at dksJ10_getHigherEntry_3 22 rfl rfl)
theorem dJ10_getHigherEntry_95 : decode cJ10_getHigherEntry 95 = .ok (.areturn, 1) := dk_176 (dk_at dksJ10_getHigherEntry_4 0 rfl rfl)
theorem dJ10_getHigherEntry_96 : decode cJ10_getHigherEntry 96 = .ok (.goto (-91), 3) := dk_167 255 165 (dk_at dksJ10_getHigherEntry_4 1 rfl rfl)
theorem dJ10_getHigherEntry_99 : decode cJ10_getHigherEntry 99 = .ok (.aconst_null, 1) := dk_1 (dk_at dksJ10_getHigherEntry_4 4 rfl rfl)
theorem dJ10_getHigherEntry_100 : decode cJ10_getHigherEntry 100 = .ok (.areturn, 1) := dk_176 (dk_at dksJ10_getHigherEntry_4 5 rfl rfl)
def dkwJ10_remove_0 : List UInt8 := [42, 43, 182, 0, 50, 77, 44, 199, 0, 5, 1, 176, 44, 180, 0, 58, 78, 42, 44, 182, 0, 174, 45, 176]
abbrev dktJ10_remove_0 : List UInt8 := dkwJ10_remove_0 ++ []
theorem dksJ10_remove_0 : cJ10_remove.data.toList.drop 0 = dktJ10_remove_0 := by decide +kernel
theorem dJ10_remove_0 : decode cJ10_remove 0 = .ok (.aload_n 0, 1) := dk_42 (dk_at dksJ10_remove_0 0 rfl rfl)
theorem dJ10_remove_1 : decode cJ10_remove 1 = .ok (.aload_n 1, 1) := dk_43 (dk_at dksJ10_remove_0 1 rfl rfl)
theorem dJ10_remove_2 : decode cJ10_remove 2 = .ok (.invokevirtual 50, 3) := dk_182 0 50 (dk_at dksJ10_remove_0 2 rfl rfl)
theorem dJ10_remove_5 : decode cJ10_remove 5 = .ok (.astore_n 2, 1) := dk_77 (dk_at dksJ10_remove_0 5 rfl rfl)
theorem dJ10_remove_6 : decode cJ10_remove 6 = .ok (.aload_n 2, 1) := dk_44 (dk_at dksJ10_remove_0 6 rfl rfl)
theorem dJ10_remove_7 : decode cJ10_remove 7 = .ok (.ifnonnull 5, 3) := dk_199 0 5 (dk_at dksJ10_remove_0 7 rfl rfl)
theorem dJ10_remove_10 : decode cJ10_remove 10 = .ok (.aconst_null, 1) := dk_1 (dk_at dksJ10_remove_0 10 rfl rfl)
theorem dJ10_remove_11 : decode cJ10_remove 11 = .ok (.areturn, 1) := dk_176 (dk_at dksJ10_remove_0 11 rfl rfl)
theorem dJ10_remove_12 : decode cJ10_remove 12 = .ok (.aload_n 2, 1) := dk_44 (dk_at dksJ10_remove_0 12 rfl rfl)
theorem dJ10_remove_13 : decode cJ10_remove 13 = .ok (.getfield 58, 3) := dk_180 0 58 (dk_at dksJ10_remove_0 13 rfl rfl)
theorem dJ10_remove_16 : decode cJ10_remove 16 = .ok (.astore_n 3, 1) := dk_78 (dk_at dksJ10_remove_0 16 rfl rfl)
theorem dJ10_remove_17 : decode cJ10_remove 17 = .ok (.aload_n 0, 1) := dk_42 (dk_at dksJ10_remove_0 17 rfl rfl)
theorem dJ10_remove_18 : decode cJ10_remove 18 = .ok (.aload_n 2, 1) := dk_44 (dk_at dksJ10_remove_0 18 rfl rfl)
theorem dJ10_remove_19 : decode cJ10_remove 19 = .ok (.invokevirtual 174, 3) := dk_182 0 174 (dk_at dksJ10_remove_0 19 rfl rfl)
theorem dJ10_remove_22 : decode cJ10_remove 22 = .ok (.aload_n 3, 1) := dk_45 (dk_at dksJ10_remove_0 22 rfl rfl)
theorem dJ10_remove_23 : decode cJ10_remove 23 = .ok (.areturn, 1) := dk_176 (dk_at dksJ10_remove_0 23 rfl rfl)
def dkwJ10_deleteEntry_10 : List UInt8 := [180, 0, 124, 1, 181, 0, 114, 43, 1, 181, 0, 124, 177]
abbrev dktJ10_deleteEntry_10 : List UInt8 := dkwJ10_deleteEntry_10 ++ []
def dkwJ10_deleteEntry_9 : List UInt8 := [180, 0, 124, 1, 181, 0, 111, 167, 0, 22, 43, 43, 180, 0, 124, 180, 0, 114, 166, 0, 11, 43]
abbrev dktJ10_deleteEntry_9 : List UInt8 := dkwJ10_deleteEntry_9 ++ dktJ10_deleteEntry_10
def dkwJ10_deleteEntry_8 : List UInt8 := [182, 1, 61, 43, 180, 0, 124, 198, 0, 49, 43, 43, 180, 0, 124, 180, 0, 111, 166, 0, 14, 43]
abbrev dktJ10_deleteEntry_8 : List UInt8 := dkwJ10_deleteEntry_8 ++ dktJ10_deleteEntry_9
def dkwJ10_deleteEntry_7 : List UInt8 := [180, 0, 124, 199, 0, 11, 42, 1, 181, 0, 101, 167, 0, 69, 43, 180, 1, 34, 4, 160, 0, 8, 42, 43]
abbrev dktJ10_deleteEntry_7 : List UInt8 := dkwJ10_deleteEntry_7 ++ dktJ10_deleteEntry_8
def dkwJ10_deleteEntry_6 : List UInt8 := [181, 0, 114, 181, 0, 111, 43, 180, 1, 34, 4, 160, 0, 92, 42, 44, 182, 1, 61, 167, 0, 84, 43]
abbrev dktJ10_deleteEntry_6 : List UInt8 := dkwJ10_deleteEntry_6 ++ dktJ10_deleteEntry_7
def dkwJ10_deleteEntry_5 : List UInt8 := [181, 0, 111, 167, 0, 11, 43, 180, 0, 124, 44, 181, 0, 114, 43, 43, 43, 1, 90, 181, 0, 124, 90]
abbrev dktJ10_deleteEntry_5 : List UInt8 := dkwJ10_deleteEntry_5 ++ dktJ10_deleteEntry_6
def dkwJ10_deleteEntry_4 : List UInt8 := [44, 181, 0, 101, 167, 0, 33, 43, 43, 180, 0, 124, 180, 0, 111, 166, 0, 14, 43, 180, 0, 124, 44]
abbrev dktJ10_deleteEntry_4 : List UInt8 := dkwJ10_deleteEntry_4 ++ dktJ10_deleteEntry_5
def dkwJ10_deleteEntry_3 : List UInt8 := [180, 0, 114, 77, 44, 198, 0, 87, 44, 43, 180, 0, 124, 181, 0, 124, 43, 180, 0, 124, 199, 0, 11, 42]
abbrev dktJ10_deleteEntry_3 : List UInt8 := dkwJ10_deleteEntry_3 ++ dktJ10_deleteEntry_4
def dkwJ10_deleteEntry_2 : List UInt8 := [44, 180, 0, 58, 181, 0, 58, 44, 76, 43, 180, 0, 111, 198, 0, 10, 43, 180, 0, 111, 167, 0, 7, 43]
abbrev dktJ10_deleteEntry_2 : List UInt8 := dkwJ10_deleteEntry_2 ++ dktJ10_deleteEntry_3
def dkwJ10_deleteEntry_1 : List UInt8 := [198, 0, 33, 43, 180, 0, 114, 198, 0, 26, 43, 184, 0, 68, 77, 43, 44, 180, 0, 105, 181, 0, 105, 43]
abbrev dktJ10_deleteEntry_1 : List UInt8 := dkwJ10_deleteEntry_1 ++ dktJ10_deleteEntry_2
def dkwJ10_deleteEntry_0 : List UInt8 := [42, 89, 180, 0, 13, 4, 96, 181, 0, 13, 42, 89, 180, 0, 7, 4, 100, 181, 0, 7, 43, 180, 0, 111]
abbrev dktJ10_deleteEntry_0 : List UInt8 := dkwJ10_deleteEntry_0 ++ dktJ10_deleteEntry_1
theorem dksJ10_deleteEntry_0 : cJ10_deleteEntry.data.toList.drop 0 = dktJ10_deleteEntry_0 := by decide +kernel
theorem dksJ10_deleteEntry_1 : cJ10_deleteEntry.data.toList.drop 24 = dktJ10_deleteEntry_1 := dk_seg dksJ10_deleteEntry_0 24 rfl rfl
theorem dksJ10_deleteEntry_2 : cJ10_deleteEntry.data.toList.drop 48 = dktJ10_deleteEntry_2 := dk_seg dksJ10_deleteEntry_1 24 rfl rfl
theorem dksJ10_deleteEntry_3 : cJ10_deleteEntry.data.toList.drop 72 = dktJ10_deleteEntry_3 := dk_seg dksJ10_deleteEntry_2 24 rfl rfl
theorem dksJ10_deleteEntry_4 : cJ10_deleteEntry.data.toList.drop 96 = dktJ10_deleteEntry_4 := dk_seg dksJ10_deleteEntry_3 24 rfl rfl
theorem dksJ10_deleteEntry_5 : cJ10_deleteEntry.data.toList.drop 119 = dktJ10_deleteEntry_5 := dk_seg dksJ10_deleteEntry_4 23 rfl rfl
theorem dksJ10_deleteEntry_6 : cJ10_deleteEntry.data.toList.drop 142 = dktJ10_deleteEntry_6 := dk_seg dksJ10_deleteEntry_5 23 rfl rfl
theorem dksJ10_deleteEntry_7 : cJ10_deleteEntry.data.toList.drop 165 = dktJ10_deleteEntry_7 := dk_seg dksJ10_deleteEntry_6 23 rfl rfl
theorem dksJ10_deleteEntry_8 : cJ10_deleteEntry.data.toList.drop 189 = dktJ10_deleteEntry_8 := dk_seg dksJ10_deleteEntry_7 24 rfl rfl
theorem dksJ10_deleteEntry_9 : cJ10_deleteEntry.data.toList.drop 211 = dktJ10_deleteEntry_9 := dk_seg dksJ10_deleteEntry_8 22 rfl rfl
theorem dksJ10_deleteEntry_10 : cJ10_deleteEntry.data.toList.drop 233 = dktJ10_deleteEntry_10 := dk_seg dksJ10_deleteEntry_9 22 rfl rfl
theorem dJ10_deleteEntry_0 : decode cJ10_deleteEntry 0 = .ok (.aload_n 0, 1) := dk_42 (dk_at dksJ10_deleteEntry_0 0 rfl rfl)
theorem dJ10_deleteEntry_1 : decode cJ10_deleteEntry 1 = .ok (.dup, 1) := dk_89 (dk_at dksJ10_deleteEntry_0 1 rfl rfl)
theorem dJ10_deleteEntry_2 : decode cJ10_deleteEntry 2 = .ok (.getfield 13, 3) := dk_180 0 13 (dk_at dksJ10_deleteEntry_0 2 rfl rfl)
theorem dJ10_deleteEntry_5 : decode cJ10_deleteEntry 5 = .ok (.iconst 1, 1) := dk_4 (dk_at dksJ10_deleteEntry_0 5 rfl rfl)
theorem dJ10_deleteEntry_6 : decode cJ10_deleteEntry 6 = .ok (.iadd, 1) := dk_96 (dk_at dksJ10_deleteEntry_0 6 rfl rfl)
theorem dJ10_deleteEntry_7 : decode cJ10_deleteEntry 7 = .ok (.putfield 13, 3) := dk_181 0 13 (dk_at dksJ10_deleteEntry_0 7 rfl rfl)
theorem dJ10_deleteEntry_10 : decode cJ10_deleteEntry 10 = .ok (.aload_n 0, 1) := dk_42 (dk_at dksJ10_deleteEntry_0 10 rfl rfl)
theorem dJ10_deleteEntry_11 : decode cJ10_deleteEntry 11 = .ok (.dup, 1) := dk_89 (dk_at dksJ10_deleteEntry_0 11 rfl rfl)
theorem dJ10_deleteEntry_12 : decode cJ10_deleteEntry 12 = .ok (.getfield 7, 3) := dk_180 0 7 (dk_at dksJ10_deleteEntry_0 12 rfl rfl)
theorem dJ10_deleteEntry_15 : decode cJ10_deleteEntry 15 = .ok (.iconst 1, 1) := dk_4 (dk_at dksJ10_deleteEntry_0 15 rfl rfl)
theorem dJ10_deleteEntry_16 : decode cJ10_deleteEntry 16 = .ok (.isub, 1) := dk_100 (dk_at dksJ10_deleteEntry_0 16 rfl rfl)
theorem dJ10_deleteEntry_17 : decode cJ10_deleteEntry 17 = .ok (.putfield 7, 3) := dk_181 0 7 (dk_at dksJ10_deleteEntry_0 17 rfl rfl)
theorem dJ10_deleteEntry_20 : decode cJ10_deleteEntry 20 = .ok (.aload_n 1, 1) := dk_43 (dk_at dksJ10_deleteEntry_0 20 rfl rfl)
theorem dJ10_deleteEntry_21 : decode cJ10_deleteEntry 21 = .ok (.getfield 111, 3) := dk_180 0 111 (dk_at dksJ10_deleteEntry_0 21 rfl rfl)
theorem dJ10_deleteEntry_24 : decode cJ10_deleteEntry 24 = .ok (.ifnull 33, 3) := dk_198 0 33 (dk_at dksJ10_deleteEntry_1 0 rfl rfl)
theorem dJ10_deleteEntry_27 : decode cJ10_deleteEntry 27 = .ok (.aload_n 1, 1) := dk_43 (dk_at dksJ10_deleteEntry_1 3 rfl rfl)
theorem dJ10_deleteEntry_28 : decode cJ10_deleteEntry 28 = .ok (.getfield 114, 3) := dk_180 0 114 (dk_at dksJ10_deleteEntry_1 4 rfl rfl)
theorem dJ10_deleteEntry_31 : decode cJ10_deleteEntry 31 = .ok (.ifnull 26, 3) := dk_198 0 26 (dk_at dksJ10_deleteEntry_1 7 rfl rfl)
theorem dJ10_deleteEntry_34 : decode cJ10_deleteEntry 34 = .ok (.aload_n 1, 1) := dk_43 (dk_at dksJ10_deleteEntry_1 10 rfl rfl)
theorem dJ10_deleteEntry_35 : decode cJ10_deleteEntry 35 = .ok (.invokestatic 68, 3) := dk_184 0 68 (dk_at dksJ10_deleteEntry_1 11 rfl rfl)
theorem dJ10_deleteEntry_38 : decode cJ10_deleteEntry 38 = .ok (.astore_n 2, 1) := dk_77 (dk_at dksJ10_deleteEntry_1 14 rfl rfl)
theorem dJ10_deleteEntry_39 : decode cJ10_deleteEntry 39 = .ok (.aload_n 1, 1) := dk_43 (dk_at dksJ10_deleteEntry_1 15 rfl rfl)
theorem dJ10_deleteEntry_40 : decode cJ10_deleteEntry 40 = .ok (.aload_n 2, 1) := dk_44 (dk_at dksJ10_deleteEntry_1 16 rfl rfl)
theorem dJ10_deleteEntry_41 : decode cJ10_deleteEntry 41 = .ok (.getfield 105, 3) := dk_180 0 105 (dk_at dksJ10_deleteEntry_1 17 rfl rfl)
theorem dJ10_deleteEntry_44 : decode cJ10_deleteEntry 44 = .ok (.putfield 105, 3) := dk_181 0 105 (dk_at dksJ10_deleteEntry_1 20 rfl rfl)
theorem dJ10_deleteEntry_47 : decode cJ10_deleteEntry 47 = .ok (.aload_n 1, 1) := dk_43 (dk_at dksJ10_deleteEntry_1 23 rfl rfl)
theorem dJ10_deleteEntry_48 : decode cJ10_deleteEntry 48 = .ok (.aload_n 2, 1) := dk_44 (dk_at dksJ10_deleteEntry_2 0 rfl rfl)
theorem dJ10_deleteEntry_49 : decode cJ10_deleteEntry 49 = .ok (.getfield 58, 3) := dk_180 0 58 (dk_at dksJ10_deleteEntry_2 1 rfl rfl)
theorem dJ10_deleteEntry_52 : decode cJ10_deleteEntry 52 = .ok (.putfield 58, 3) := dk_181 0 58 (dk_at dksJ10_deleteEntry_2 4 rfl rfl)
theorem dJ10_deleteEntry_55 : decode cJ10_deleteEntry 55 = .ok (.aload_n 2, 1) := dk_44 (dk_at dksJ10_deleteEntry_2 7 rfl rfl)
theorem dJ10_deleteEntry_56 : decode cJ10_deleteEntry 56 = .ok (.astore_n 1, 1) := dk_76 (dk_at dksJ10_deleteEntry_2 8 rfl rfl)
theorem dJ10_deleteEntry_57 : decode cJ10_deleteEntry 57 = .ok (.aload_n 1, 1) := dk_43 (dk_at dksJ10_deleteEntry_2 9 rfl rfl)
theorem dJ10_deleteEntry_58 : decode cJ10_deleteEntry 58 = .ok (.getfield 111, 3) := dk_180 0 111 (dk_at dksJ10_deleteEntry_2 10 rfl rfl)
theorem dJ10_deleteEntry_61 : decode cJ10_deleteEntry 61 = .ok (.ifnull 10, 3) := dk_198 0 10 (dk_at dksJ10_deleteEntry_2 13 rfl rfl)
theorem dJ10_deleteEntry_64 : decode cJ10_deleteEntry 64 = .ok (.aload_n 1, 1) := dk_43 (dk_at dksJ10_deleteEntry_2 16 rfl rfl)
theorem dJ10_deleteEntry_65 : decode cJ10_deleteEntry 65 = .ok (.getfield 111, 3) := dk_180 0 111 (dk_at dksJ10_deleteEntry_2 17 rfl rfl)
theorem dJ10_deleteEntry_68 : decode cJ10_deleteEntry 68 = .ok (.goto 7, 3) := dk_167 0 7 (dk_at dksJ10_deleteEntry_2 20 rfl rfl)
theorem dJ10_deleteEntry_71 : decode cJ10_deleteEntry 71 = .ok (.aload_n 1, 1) := dk_43 (dk_at dksJ10_deleteEntry_2 23 rfl rfl)
theorem dJ10_deleteEntry_72 : decode cJ10_deleteEntry 72 = .ok (.getfield 114, 3) := dk_180 0 114 (dk_at dksJ10_deleteEntry_3 0 rfl rfl)
theorem dJ10_deleteEntry_75 : decode cJ10_deleteEntry 75 = .ok (.astore_n 2, 1) := dk_77 (dk_at dksJ10_deleteEntry_3 3 rfl rfl)
theorem dJ10_deleteEntry_76 : decode cJ10_deleteEntry 76 = .ok (.aload_n 2, 1) := dk_44 (dk_at dksJ10_deleteEntry_3 4 rfl rfl)
theorem dJ10_deleteEntry_77 : decode cJ10_deleteEntry 77 = .ok (.ifnull 87, 3) := dk_198 0 87 (dk_at dksJ10_deleteEntry_3 5 rfl rfl)
theorem dJ10_deleteEntry_80 : decode cJ10_deleteEntry 80 = .ok (.aload_n 2, 1) := dk_44 (dk_at dksJ10_deleteEntry_3 8 rfl rfl)
theorem dJ10_deleteEntry_81 : decode cJ10_deleteEntry 81 = .ok (.aload_n 1, 1) := dk_43 (dk_at dksJ10_deleteEntry_3 9 rfl rfl)
theorem dJ10_deleteEntry_82 : decode cJ10_deleteEntry 82 = .ok (.getfield 124, 3) := dk_180 0 124 (dk_at dksJ10_deleteEntry_3 10 rfl rfl)
theorem dJ10_deleteEntry_85 : decode cJ10_deleteEntry 85 = .ok (.putfield 124, 3) := dk_181 0 124 (dk_at dksJ10_deleteEntry_3 13 rfl rfl)
theorem dJ10_deleteEntry_88 : decode cJ10_deleteEntry 88 = .ok (.aload_n 1, 1) := dk_43 (dk_at dksJ10_deleteEntry_3 16 rfl rfl)
theorem dJ10_deleteEntry_89 : decode cJ10_deleteEntry 89 = .ok (.getfield 124, 3) := dk_180 0 124 (dk_at dksJ10_deleteEntry_3 17 rfl rfl)
theorem dJ10_deleteEntry_92 : decode cJ10_deleteEntry 92 = .ok (.ifnonnull 11, 3) := dk_199 0 11 (dk_at dksJ10_deleteEntry_3 20 rfl rfl)
theorem dJ10_deleteEntry_95 : decode cJ10_deleteEntry 95 = .ok (.aload_n 0, 1) := dk_42 (dk_at dksJ10_deleteEntry_3 23 rfl rfl)
theorem dJ10_deleteEntry_96 : decode cJ10_deleteEntry 96 = .ok (.aload_n 2, 1) := dk_44 (dk_at dksJ10_deleteEntry_4 0 rfl rfl)
theorem dJ10_deleteEntry_97 : decode cJ10_deleteEntry 97 = .ok (.putfield 101, 3) := dk_181 0 101 (dk_at dksJ10_deleteEntry_4 1 rfl rfl)
theorem dJ10_deleteEntry_100 : decode cJ10_deleteEntry 100 = .ok (.goto 33, 3) := dk_167 0 33 (dk_at dksJ10_deleteEntry_4 4 rfl rfl)
theorem dJ10_deleteEntry_103 : decode cJ10_deleteEntry 103 = .ok (.aload_n 1, 1) := dk_43 (dk_at dksJ10_deleteEntry_4 7 rfl rfl)
theorem dJ10_deleteEntry_104 : decode cJ10_deleteEntry 104 = .ok (.aload_n 1, 1) := dk_43 (dk_at dksJ10_deleteEntry_4 8 rfl rfl)
theorem dJ10_deleteEntry_105 : decode cJ10_deleteEntry 105 = .ok (.getfield 124, 3) := dk_180 0 124 (dk_at dksJ10_deleteEntry_4 9 rfl rfl)
theorem dJ10_deleteEntry_108 : decode cJ10_deleteEntry 108 = .ok (.getfield 111, 3) := dk_180 0 111 (dk_at dksJ10_deleteEntry_4 12 rfl rfl)
theorem dJ10_deleteEntry_111 : decode cJ10_deleteEntry 111 = .ok (.if_acmp .ne 14, 3) := dk_166 0 14 (dk_at dksJ10_deleteEntry_4 15 rfl rfl)
theorem dJ10_deleteEntry_114 : decode cJ10_deleteEntry 114 = .ok (.aload_n 1, 1) := dk_43 (dk_at dksJ10_deleteEntry_4 18 rfl rfl)
theorem dJ10_deleteEntry_115 : decode cJ10_deleteEntry 115 = .ok (.getfield 124, 3) := dk_180 0 124 (dk_at dksJ10_deleteEntry_4 19 rfl rfl)
theorem dJ10_deleteEntry_118 : decode cJ10_deleteEntry 118 = .ok (.aload_n 2, 1) := dk_44 (dk_at dksJ10_deleteEntry_4 22 rfl rfl)
theorem dJ10_deleteEntry_119 : decode cJ10_deleteEntry 119 = .ok (.putfield 111, 3) := dk_181 0 111 (dk_at dksJ10_deleteEntry_5 0 rfl rfl)
theorem dJ10_deleteEntry_122 : decode cJ10_deleteEntry 122 = .ok (.goto 11, 3) := dk_167 0 11 (dk_at dksJ10_deleteEntry_5 3 rfl rfl)
theorem dJ10_deleteEntry_125 : decode cJ10_deleteEntry 125 = .ok (.aload_n 1, 1) := dk_43 (dk_at dksJ10_deleteEntry_5 6 rfl rfl)
theorem dJ10_deleteEntry_126 : decode cJ10_deleteEntry 126 = .ok (.getfield 124, 3) := dk_180 0 124 (dk_at dksJ10_deleteEntry_5 7 rfl rfl)
theorem dJ10_deleteEntry_129 : decode cJ10_deleteEntry 129 = .ok (.aload_n 2, 1) := dk_44 (dk_at dksJ10_deleteEntry_5 10 rfl rfl)
theorem dJ10_deleteEntry_130 : decode cJ10_deleteEntry 130 = .ok (.putfield 114, 3) := dk_181 0 114 (dk_at dksJ10_deleteEntry_5 11 rfl rfl)
theorem dJ10_deleteEntry_133 : decode cJ10_deleteEntry 133 = .ok (.aload_n 1, 1) := dk_43 (dk_at dksJ10_deleteEntry_5 14 rfl rfl)
theorem dJ10_deleteEntry_134 : decode cJ10_deleteEntry 134 = .ok (.aload_n 1, 1) := dk_43 (dk_at dksJ10_deleteEntry_5 15 rfl rfl)
theorem dJ10_deleteEntry_135 : decode cJ10_deleteEntry 135 = .ok (.aload_n 1, 1) := dk_43 (dk_at dksJ10_deleteEntry_5 16 rfl rfl)
theorem dJ10_deleteEntry_136 : decode cJ10_deleteEntry 136 = .ok (.aconst_null, 1) := dk_1 (dk_at dksJ10_deleteEntry_5 17 rfl rfl)
theorem dJ10_deleteEntry_137 : decode cJ10_deleteEntry 137 = .ok (.dup_x1, 1) := dk_90 (dk_at dksJ10_deleteEntry_5 18 rfl rfl)
theorem dJ10_deleteEntry_138 : decode cJ10_deleteEntry 138 = .ok (.putfield 124, 3) := dk_181 0 124 (dk_at dksJ10_deleteEntry_5 19 rfl rfl)
theorem dJ10_deleteEntry_141 : decode cJ10_deleteEntry 141 = .ok (.dup_x1, 1) := dk_90 (dk_at dksJ10_deleteEntry_5 22 rfl rfl)
theorem dJ10_deleteEntry_142 : decode cJ10_deleteEntry 142 = .ok (.putfield 114, 3) := dk_181 0 114 (dk_at dksJ10_deleteEntry_6 0 rfl rfl)
theorem dJ10_deleteEntry_145 : decode cJ10_deleteEntry 145 = .ok (.putfield 111, 3) := dk_181 0 111 (dk_at dksJ10_deleteEntry_6 3 rfl rfl)
theorem dJ10_deleteEntry_148 : decode cJ10_deleteEntry 148 = .ok (.aload_n 1, 1) := dk_43 (dk_at dksJ10_deleteEntry_6 6 rfl rfl)
theorem dJ10_deleteEntry_149 : decode cJ10_deleteEntry 149 = .ok (.getfield 290, 3) := dk_180 1 34 (dk_at dksJ10_deleteEntry_6 7 rfl rfl)
theorem dJ10_deleteEntry_152 : decode cJ10_deleteEntry 152 = .ok (.iconst 1, 1) := dk_4 (dk_at dksJ10_deleteEntry_6 10 rfl rfl)
theorem dJ10_deleteEntry_153 : decode cJ10_deleteEntry 153 = .ok (.if_icmp .ne 92, 3) := dk_160 0 92 (dk_at dksJ10_deleteEntry_6 11 rfl rfl)
theorem dJ10_deleteEntry_156 : decode cJ10_deleteEntry 156 = .ok (.aload_n 0, 1) := dk_42 (dk_at dksJ10_deleteEntry_6 14 rfl rfl)
theorem dJ10_deleteEntry_157 : decode cJ10_deleteEntry 157 = .ok (.aload_n 2, 1) := dk_44 (dk_at dksJ10_deleteEntry_6 15 rfl rfl)
theorem dJ10_deleteEntry_158 : decode cJ10_deleteEntry 158 = .ok (.invokevirtual 317, 3) := dk_182 1 61 (dk_at dksJ10_deleteEntry_6 16 rfl rfl)
theorem dJ10_deleteEntry_161 : decode cJ10_deleteEntry 161 = .ok (.goto 84, 3) := dk_167 0 84 (dk_at dksJ10_deleteEntry_6 19 rfl rfl)
theorem dJ10_deleteEntry_164 : decode cJ10_deleteEntry 164 = .ok (.aload_n 1, 1) := dk_43 (dk_at dksJ10_deleteEntry_6 22 rfl rfl)
theorem dJ10_deleteEntry_165 : decode cJ10_deleteEntry 165 = .ok (.getfield 124, 3) := dk_180 0 124 (dk_at dksJ10_deleteEntry_7 0 rfl rfl)
theorem dJ10_deleteEntry_168 : decode cJ10_deleteEntry 168 = .ok (.ifnonnull 11, 3) := dk_199 0 11 (dk_at dksJ10_deleteEntry_7 3 rfl rfl)
theorem dJ10_deleteEntry_171 : decode cJ10_deleteEntry 171 = .ok (.aload_n 0, 1) := dk_42 (dk_at dksJ10_deleteEntry_7 6 rfl rfl)
theorem dJ10_deleteEntry_172 : decode cJ10_deleteEntry 172 = .ok (.aconst_null, 1) := dk_1 (dk_at dksJ10_deleteEntry_7 7 rfl rfl)
theorem dJ10_deleteEntry_173 : decode cJ10_deleteEntry 173 = .ok (.putfield 101, 3) := dk_181 0 101 (dk_at dksJ10_deleteEntry_7 8 rfl rfl)
theorem dJ10_deleteEntry_176 : decode cJ10_deleteEntry 176 = .ok (.goto 69, 3) := dk_167 0 69 (dk_at dksJ10_deleteEntry_7 11 rfl rfl)
theorem dJ10_deleteEntry_179 : decode cJ10_deleteEntry 179 = .ok (.aload_n 1, 1) := dk_43 (dk_at dksJ10_deleteEntry_7 14 rfl rfl)
theorem dJ10_deleteEntry_180 : decode cJ10_deleteEntry 180 = .ok (.getfield 290, 3) := dk_180 1 34 (dk_at dksJ10_deleteEntry_7 15 rfl rfl)
theorem dJ10_deleteEntry_183 : decode cJ10_deleteEntry 183 = .ok (.iconst 1, 1) := dk_4 (dk_at dksJ10_deleteEntry_7 18 rfl rfl)
theorem dJ10_deleteEntry_184 : decode cJ10_deleteEntry 184 = .ok (.if_icmp .ne 8, 3) := dk_160 0 8 (dk_at dksJ10_deleteEntry_7 19 rfl rfl)
theorem dJ10_deleteEntry_187 : decode cJ10_deleteEntry 187 = .ok (.aload_n 0, 1) := dk_42 (dk_at dksJ10_deleteEntry_7 22 rfl rfl)
theorem dJ10_deleteEntry_188 : decode cJ10_deleteEntry 188 = .ok (.aload_n 1, 1) := dk_43 (dk_at dksJ10_deleteEntry_7 23 rfl rfl)
theorem dJ10_deleteEntry_189 : decode cJ10_deleteEntry 189 = .ok (.invokevirtual 317, 3) := dk_182 1 61 (dk_at dksJ10_deleteEntry_8 0 rfl rfl)
theorem dJ10_deleteEntry_192 : decode cJ10_deleteEntry 192 = .ok (.aload_n 1, 1) := dk_43 (dk_at dksJ10_deleteEntry_8 3 rfl rfl)
theorem dJ10_deleteEntry_193 : decode cJ10_deleteEntry 193 = .ok (.getfield 124, 3) := dk_180 0 124 (dk_at dksJ10_deleteEntry_8 4 rfl rfl)
theorem dJ10_deleteEntry_196 : decode cJ10_deleteEntry 196 = .ok (.ifnull 49, 3) := dk_198 0 49 (dk_at dksJ10_deleteEntry_8 7 rfl rfl)
theorem dJ10_deleteEntry_199 : decode cJ10_deleteEntry 199 = .ok (.aload_n 1, 1) := dk_43 (dk_at dksJ10_deleteEntry_8 10 rfl rfl)
theorem dJ10_deleteEntry_200 : decode cJ10_deleteEntry 200 = .ok (.aload_n 1, 1) := dk_43 (dk_at dksJ10_deleteEntry_8 11 rfl rfl)
theorem dJ10_deleteEntry_201 : decode cJ10_deleteEntry 201 = .ok (.getfield 124, 3) := dk_180 0 124 (dk_at dksJ10_deleteEntry_8 12 rfl rfl)
theorem dJ10_deleteEntry_204 : decode cJ10_deleteEntry 204 = .ok (.getfield 111, 3) := dk_180 0 111 (dk_at dksJ10_deleteEntry_8 15 rfl rfl)
theorem dJ10_deleteEntry_207 : decode cJ10_deleteEntry 207 = .ok (.if_acmp .ne 14, 3) := dk_166 0 14 (dk_at dksJ10_deleteEntry_8 18 rfl rfl)
theorem dJ10_deleteEntry_210 : decode cJ10_deleteEntry 210 = .ok (.aload_n 1, 1) := dk_43 (dk_at dksJ10_deleteEntry_8 21 rfl rfl)
theorem dJ10_deleteEntry_211 : decode cJ10_deleteEntry 211 = .ok (.getfield 124, 3) := dk_180 0 124 (dk_at dksJ10_deleteEntry_9 0 rfl rfl)
theorem dJ10_deleteEntry_214 : decode cJ10_deleteEntry 214 = .ok (.aconst_null, 1) := dk_1 (dk_at dksJ10_deleteEntry_9 3 rfl rfl)
theorem dJ10_deleteEntry_215 : decode cJ10_deleteEntry 215 = .ok (.putfield 111, 3) := dk_181 0 111 (dk_at dksJ10_deleteEntry_9 4 rfl rfl)
theorem dJ10_deleteEntry_218 : decode cJ10_deleteEntry 218 = .ok (.goto 22, 3) := dk_167 0 22 (dk_at dksJ10_deleteEntry_9 7 rfl rfl)
theorem dJ10_deleteEntry_221 : decode cJ10_deleteEntry 221 = .ok (.aload_n 1, 1) := dk_43 (dk_at dksJ10_deleteEntry_9 10 rfl rfl)
theorem dJ10_deleteEntry_222 : decode cJ10_deleteEntry 222 = .ok (.aload_n 1, 1) := dk_43 (dk_at dksJ10_deleteEntry_9 11 rfl rfl)
theorem dJ10_deleteEntry_223 : decode cJ10_deleteEntry 223 = .ok (.getfield 124, 3) := dk_180 0 124 (dk_at dksJ10_deleteEntry_9 12 rfl rfl)
theorem dJ10_deleteEntry_226 : decode cJ10_deleteEntry 226 = .ok (.getfield 114, 3) := dk_180 0 114 (dk_at dksJ10_deleteEntry_9 15 rfl rfl)
theorem dJ10_deleteEntry_229 : decode cJ10_deleteEntry 229 = .ok (.if_acmp .ne 11, 3) := dk_166 0 11 (dk_at dksJ10_deleteEntry_9 18 rfl rfl)
theorem dJ10_deleteEntry_232 : decode cJ10_deleteEntry 232 = .ok (.aload_n 1, 1) := dk_43 (dk_at dksJ10_deleteEntry_9 21 rfl rfl)
theorem dJ10_deleteEntry_233 : decode cJ10_deleteEntry 233 = .ok (.getfield 124, 3) := dk_180 0 124 (dk_at dksJ10_deleteEntry_10 0 rfl rfl)
theorem dJ10_deleteEntry_236 : decode cJ10_deleteEntry 236 = .ok (.aconst_null, 1) := dk_1 (dk_at dksJ10_deleteEntry_10 3 rfl rfl)
theorem dJ10_deleteEntry_237 : decode cJ10_deleteEntry 237 = .ok (.putfield 114, 3) := dk_181 0 114 (dk_at dksJ10_deleteEntry_10 4 rfl rfl)
theorem dJ10_deleteEntry_240 : decode cJ10_deleteEntry 240 = .ok (.aload_n 1, 1) := dk_43 (dk_at dksJ10_deleteEntry_10 7 rfl rfl)
theorem dJ10_deleteEntry_241 : decode cJ10_deleteEntry 241 = .ok (.aconst_null, 1) := dk_1 (dk_at dksJ10_deleteEntry_10 8 rfl rfl)
theorem dJ10_deleteEntry_242 : decode cJ10_deleteEntry 242 = .ok (.putfield 124, 3) := dk_181 0 124 (dk_at dksJ10_deleteEntry_10 9 rfl rfl)
theorem dJ10_deleteEntry_245 : decode cJ10_deleteEntry 245 = .ok (.return_, 1) := dk_177 (dk_at dksJ10_deleteEntry_10 12 rfl rfl)
def dkwJ10_ceilingKey_0 : List UInt8 := [42, 43, 182, 0, 213, 184, 0, 207, 176]
abbrev dktJ10_ceilingKey_0 : List UInt8 := dkwJ10_ceilingKey_0 ++ []
theorem dksJ10_ceilingKey_0 : cJ10_ceilingKey.data.toList.drop 0 = dktJ10_ceilingKey_0 := by decide +kernel
theorem dJ10_ceilingKey_0 : decode cJ10_ceilingKey 0 = .ok (.aload_n 0, 1) := dk_42 (dk_at dksJ10_ceilingKey_0 0 rfl rfl)
theorem dJ10_ceilingKey_1 : decode cJ10_ceilingKey 1 = .ok (.aload_n 1, 1) := dk_43 (dk_at dksJ10_ceilingKey_0 1 rfl rfl)
theorem dJ10_ceilingKey_2 : decode cJ10_ceilingKey 2 = .ok (.invokevirtual 213, 3) := dk_182 0 213 (dk_at dksJ10_ceilingKey_0 2 rfl rfl)
theorem dJ10_ceilingKey_5 : decode cJ10_ceilingKey 5 = .ok (.invokestatic 207, 3) := dk_184 0 207 (dk_at dksJ10_ceilingKey_0 5 rfl rfl)
theorem dJ10_ceilingKey_8 : decode cJ10_ceilingKey 8 = .ok (.areturn, 1) := dk_176 (dk_at dksJ10_ceilingKey_0 8 rfl rfl)
def dkwJ10_getCeilingEntry_4 : List UInt8 := [167, 255, 230, 25, 4, 176, 44, 176, 167, 255, 159, 1, 176]
abbrev dktJ10_getCeilingEntry_4 : List UInt8 := dkwJ10_getCeilingEntry_4 ++ []
def dkwJ10_getCeilingEntry_3 : List UInt8 := [198, 0, 27, 25, 5, 25, 4, 180, 0, 114, 166, 0, 17, 25, 4, 58, 5, 25, 4, 180, 0, 124, 58, 4]
abbrev dktJ10_getCeilingEntry_3 : List UInt8 := dkwJ10_getCeilingEntry_3 ++ dktJ10_getCeilingEntry_4
def dkwJ10_getCeilingEntry_2 : List UInt8 := [198, 0, 11, 44, 180, 0, 114, 77, 167, 0, 46, 44, 180, 0, 124, 58, 4, 44, 58, 5, 25, 4]
abbrev dktJ10_getCeilingEntry_2 : List UInt8 := dkwJ10_getCeilingEntry_2 ++ dktJ10_getCeilingEntry_3
def dkwJ10_getCeilingEntry_1 : List UInt8 := [180, 0, 111, 198, 0, 11, 44, 180, 0, 111, 77, 167, 0, 67, 44, 176, 29, 158, 0, 59, 44, 180, 0, 114]
abbrev dktJ10_getCeilingEntry_1 : List UInt8 := dkwJ10_getCeilingEntry_1 ++ dktJ10_getCeilingEntry_2
def dkwJ10_getCeilingEntry_0 : List UInt8 := [42, 180, 0, 101, 77, 44, 198, 0, 99, 42, 43, 44, 180, 0, 105, 182, 0, 123, 62, 29, 156, 0, 20, 44]
abbrev dktJ10_getCeilingEntry_0 : List UInt8 := dkwJ10_getCeilingEntry_0 ++ dktJ10_getCeilingEntry_1
theorem dksJ10_getCeilingEntry_0 : cJ10_getCeilingEntry.data.toList.drop 0 = dktJ10_getCeilingEntry_0 := by decide +kernel
theorem dksJ10_getCeilingEntry_1 : cJ10_getCeilingEntry.data.toList.drop 24 = dktJ10_getCeilingEntry_1 := dk_seg dksJ10_getCeilingEntry_0 24 rfl rfl
theorem dksJ10_getCeilingEntry_2 : cJ10_getCeilingEntry.data.toList.drop 48 = dktJ10_getCeilingEntry_2 := dk_seg dksJ10_getCeilingEntry_1 24 rfl rfl
theorem dksJ10_getCeilingEntry_3 : cJ10_getCeilingEntry.data.toList.drop 70 = dktJ10_getCeilingEntry_3 := dk_seg dksJ10_getCeilingEntry_2 22 rfl rfl
theorem dksJ10_getCeilingEntry_4 : cJ10_getCeilingEntry.data.toList.drop 94 = dktJ10_getCeilingEntry_4 := dk_seg dksJ10_getCeilingEntry_3 24 rfl rfl
theorem dJ10_getCeilingEntry_0 : decode cJ10_getCeilingEntry 0 = .ok (.aload_n 0, 1) := dk_42 (dk_at dksJ10_getCeilingEntry_0 0 rfl rfl)
theorem dJ10_getCeilingEntry_1 : decode cJ10_getCeilingEntry 1 = .ok (.getfield 101, 3) := dk_180 0 101 (dk_at dksJ10_getCeilingEntry_0 1 rfl rfl)
theorem dJ10_getCeilingEntry_4 : decode cJ10_getCeilingEntry 4 = .ok (.astore_n 2, 1) := dk_77 (dk_at dksJ10_getCeilingEntry_0 4 rfl rfl)
theorem dJ10_getCeilingEntry_5 : decode cJ10_getCeilingEntry 5 = .ok (.aload_n 2, 1) := dk_44 (dk_at dksJ10_getCeilingEntry_0 5 rfl rfl)
theorem dJ10_getCeilingEntry_6 : decode cJ10_getCeilingEntry 6 = .ok (.ifnull 99, 3) := dk_198 0 99 (dk_at dksJ10_getCeilingEntry_0 6 rfl rfl)
theorem dJ10_getCeilingEntry_9 : decode cJ10_getCeilingEntry 9 = .ok (.aload_n 0, 1) := dk_42 (dk_at dksJ10_getCeilingEntry_0 9 rfl rfl)
theorem dJ10_getCeilingEntry_10 : decode cJ10_getCeilingEntry 10 = .ok (.aload_n 1, 1) := dk_43 (dk_at dksJ10_getCeilingEntry_0 10 rfl rfl)
theorem dJ10_getCeilingEntry_11 : decode cJ10_getCeilingEntry 11 = .ok (.aload_n 2, 1) := dk_44 (dk_at dksJ10_getCeilingEntry_0 11 rfl rfl)
theorem dJ10_getCeilingEntry_12 : decode cJ10_getCeilingEntry 12 = .ok (.getfield 105, 3) := dk_180 0 105 (dk_at dksJ10_getCeilingEntry_0 12 rfl rfl)
theorem dJ10_getCeilingEntry_15 : decode cJ10_getCeilingEntry 15 = .ok (.invokevirtual 123, 3) := dk_182 0 123 (dk_at dksJ10_getCeilingEntry_0 15 rfl rfl)
theorem dJ10_getCeilingEntry_18 : decode cJ10_getCeilingEntry 18 = .ok (.istore_n 3, 1) := dk_62 (dk_at dksJ10_getCeilingEntry_0 18 rfl rfl)
theorem dJ10_getCeilingEntry_19 : decode cJ10_getCeilingEntry 19 = .ok (.iload_n 3, 1) := dk_29 (dk_at dksJ10_getCeilingEntry_0 19 rfl rfl)
theorem dJ10_getCeilingEntry_20 : decode cJ10_getCeilingEntry 20 = .ok (.ifCond .ge 20, 3) := dk_156 0 20 (dk_at dksJ10_getCeilingEntry_0 20 rfl rfl)
theorem dJ10_getCeilingEntry_23 : decode cJ10_getCeilingEntry 23 = .ok (.aload_n 2, 1) := dk_44 (dk_at dksJ10_getCeilingEntry_0 23 rfl rfl)
theorem dJ10_getCeilingEntry_24 : decode cJ10_getCeilingEntry 24 = .ok (.getfield 111, 3) := dk_180 0 111 (dk_at dksJ10_getCeilingEntry_1 0 rfl rfl)
theorem dJ10_getCeilingEntry_27 : decode cJ10_getCeilingEntry 27 = .ok (.ifnull 11, 3) := dk_198 0 11 (dk_at dksJ10_getCeilingEntry_1 3 rfl rfl)
theorem dJ10_getCeilingEntry_30 : decode cJ10_getCeilingEntry 30 = .ok (.aload_n 2, 1) := dk_44 (dk_at dksJ10_getCeilingEntry_1 6 rfl rfl)
theorem dJ10_getCeilingEntry_31 : decode cJ10_getCeilingEntry 31 = .ok (.getfield 111, 3) := dk_180 0 111 (dk_at dksJ10_getCeilingEntry_1 7 rfl rfl)
theorem dJ10_getCeilingEntry_34 : decode cJ10_getCeilingEntry 34 = .ok (.astore_n 2, 1) := dk_77 (dk_at dksJ10_getCeilingEntry_1 10 rfl rfl)
theorem dJ10_getCeilingEntry_35 : decode cJ10_getCeilingEntry 35 = .ok (.goto 67, 3) := dk_167 0 67 (dk_at dksJ10_getCeilingEntry_1 11 rfl rfl)
theorem dJ10_getCeilingEntry_38 : decode cJ10_getCeilingEntry 38 = .ok (.aload_n 2, 1) := dk_44 (dk_at dksJ10_getCeilingEntry_1 14 rfl rfl)
theorem dJ10_getCeilingEntry_39 : decode cJ10_getCeilingEntry 39 = .ok (.areturn, 1) := dk_176 (dk_at dksJ10_getCeilingEntry_1 15 rfl rfl)
theorem dJ10_getCeilingEntry_40 : decode cJ10_getCeilingEntry 40 = .ok (.iload_n 3, 1) := dk_29 (dk_at dksJ10_getCeilingEntry_1 16 rfl rfl)
theorem dJ10_getCeilingEntry_41 : decode cJ10_getCeilingEntry 41 = .ok (.ifCond .le 59, 3) := dk_158 0 59 (dk_at dksJ10_getCeilingEntry_1 17 rfl rfl)
theorem dJ10_getCeilingEntry_44 : decode cJ10_getCeilingEntry 44 = .ok (.aload_n 2, 1) := dk_44 (dk_at dksJ10_getCeilingEntry_1 20 rfl rfl)
theorem dJ10_getCeilingEntry_45 : decode cJ10_getCeilingEntry 45 = .ok (.getfield 114, 3) := dk_180 0 114 (dk_at dksJ10_getCeilingEntry_1 21 rfl rfl)
theorem dJ10_getCeilingEntry_48 : decode cJ10_getCeilingEntry 48 = .ok (.ifnull 11, 3) := dk_198 0 11 (dk_at dksJ10_getCeilingEntry_2 0 rfl rfl)
theorem dJ10_getCeilingEntry_51 : decode cJ10_getCeilingEntry 51 = .ok (.aload_n 2, 1) := dk_44 (dk_at dksJ10_getCeilingEntry_2 3 rfl rfl)
theorem dJ10_getCeilingEntry_52 : decode cJ10_getCeilingEntry 52 = .ok (.getfield 114, 3) := dk_180 0 114 (dk_at dksJ10_getCeilingEntry_2 4 rfl rfl)
theorem dJ10_getCeilingEntry_55 : decode cJ10_getCeilingEntry 55 = .ok (.astore_n 2, 1) := dk_77 (dk_at dksJ10_getCeilingEntry_2 7 rfl rfl)
theorem dJ10_getCeilingEntry_56 : decode cJ10_getCeilingEntry 56 = .ok (.goto 46, 3) := dk_167 0 46 (dk_at dksJ10_getCeilingEntry_2 8 rfl rfl)
theorem dJ10_getCeilingEntry_59 : decode cJ10_getCeilingEntry 59 = .ok (.aload_n 2, 1) := dk_44 (dk_at dksJ10_getCeilingEntry_2 11 rfl rfl)
theorem dJ10_getCeilingEntry_60 : decode cJ10_getCeilingEntry 60 = .ok (.getfield 124, 3) := dk_180 0 124 (dk_at dksJ10_getCeilingEntry_2 12 rfl rfl)
theorem dJ10_getCeilingEntry_63 : decode cJ10_getCeilingEntry 63 = .ok (.astore 4, 2) := dk_58 4 (dk_at dksJ10_getCeilingEntry_2 15 rfl rfl)
theorem dJ10_getCeilingEntry_65 : decode cJ10_getCeilingEntry 65 = .ok (.aload_n 2, 1) := dk_44 (dk_at dksJ10_getCeilingEntry_2 17 rfl rfl)
theorem dJ10_getCeilingEntry_66 : decode cJ10_getCeilingEntry 66 = .ok (.astore 5, 2) := dk_58 5 (dk_at dksJ10_getCeilingEntry_2 18 rfl rfl)
theorem dJ10_getCeilingEntry_68 : decode cJ10_getCeilingEntry 68 = .ok (.aload 4, 2) := dk_25 4 (dk_at dksJ10_getCeilingEntry_2 20 rfl rfl)
theorem dJ10_getCeilingEntry_70 : decode cJ10_getCeilingEntry 70 = .ok (.ifnull 27, 3) := dk_198 0 27 (dk_at dksJ10_getCeilingEntry_3 0 rfl rfl)
theorem dJ10_getCeilingEntry_73 : decode cJ10_getCeilingEntry 73 = .ok (.aload 5, 2) := dk_25 5 (dk_at dksJ10_getCeilingEntry_3 3 rfl rfl)
theorem dJ10_getCeilingEntry_75 : decode cJ10_getCeilingEntry 75 = .ok (.aload 4, 2) := dk_25 4 (dk_at dksJ10_getCeilingEntry_3 5 rfl rfl)
theorem dJ10_getCeilingEntry_77 : decode cJ10_getCeilingEntry 77 = .ok (.getfield 114, 3) := dk_180 0 114 (dk_at dksJ10_getCeilingEntry_3 7 rfl rfl)
theorem dJ10_getCeilingEntry_80 : decode cJ10_getCeilingEntry 80 = .ok (.if_acmp .ne 17, 3) := dk_166 0 17 (dk_at dksJ10_getCeilingEntry_3 10 rfl rfl)
theorem dJ10_getCeilingEntry_83 : decode cJ10_getCeilingEntry 83 = .ok (.aload 4, 2) := dk_25 4 (dk_at dksJ10_getCeilingEntry_3 13 rfl rfl)
theorem dJ10_getCeilingEntry_85 : decode cJ10_getCeilingEntry 85 = .ok (.astore 5, 2) := dk_58 5 (dk_at dksJ10_getCeilingEntry_3 15 rfl rfl)
theorem dJ10_getCeilingEntry_87 : decode cJ10_getCeilingEntry 87 = .ok (.aload 4, 2) := dk_25 4 (dk_at dksJ10_getCeilingEntry_3 17 rfl rfl)
theorem dJ10_getCeilingEntry_89 : decode cJ10_getCeilingEntry 89 = .ok (.getfield 124, 3) := dk_180 0 124 (dk_at dksJ10_getCeilingEntry_3 19 rfl rfl)
theorem dJ10_getCeilingEntry_92 : decode cJ10_getCeilingEntry 92 = .ok (.astore 4, 2) := dk_58 4 (dk_at dksJ10_getCeilingEntry_3 22 rfl rfl)
theorem dJ10_getCeilingEntry_94 : decode cJ10_getCeilingEntry 94 = .ok (.goto (-26), 3) := dk_167 255 230 (dk_at dksJ10_getCeilingEntry_4 0 rfl rfl)
theorem dJ10_getCeilingEntry_97 : decode cJ10_getCeilingEntry 97 = .ok (.aload 4, 2) := dk_25 4 (dk_at dksJ10_getCeilingEntry_4 3 rfl rfl)
theorem dJ10_getCeilingEntry_99 : decode cJ10_getCeilingEntry 99 = .ok (.areturn, 1) := dk_176 (dk_at dksJ10_getCeilingEntry_4 5 rfl rfl)
theorem dJ10_getCeilingEntry_100 : decode cJ10_getCeilingEntry 100 = .ok (.aload_n 2, 1) := dk_44 (dk_at dksJ10_getCeilingEntry_4 6 rfl rfl)
theorem dJ10_getCeilingEntry_101 : decode cJ10_getCeilingEntry 101 = .ok (.areturn, 1) := dk_176 (dk_at dksJ10_getCeilingEntry_4 7 rfl rfl)
theorem dJ10_getCeilingEntry_102 : decode cJ10_getCeilingEntry 102 = .ok (.goto (-97), 3) := dk_167 255 159 (dk_at dksJ10_getCeilingEntry_4 8 rfl rfl)
theorem dJ10_getCeilingEntry_105 : decode cJ10_getCeilingEntry 105 = .ok (.aconst_null, 1) := dk_1 (dk_at dksJ10_getCeilingEntry_4 11 rfl rfl)
theorem dJ10_getCeilingEntry_106 : decode cJ10_getCeilingEntry 106 = .ok (.areturn, 1) := dk_176 (dk_at dksJ10_getCeilingEntry_4 12 rfl rfl)
def dkwJ25_requireNonNull_0 : List UInt8 := [42, 199, 0, 11, 187, 0, 84, 89, 183, 0, 86, 191, 42, 176]
abbrev dktJ25_requireNonNull_0 : List UInt8 := dkwJ25_requireNonNull_0 ++ []
theorem dksJ25_requireNonNull_0 : cJ25_requireNonNull.data.toList.drop 0 = dktJ25_requireNonNull_0 := by decide +kernel
theorem dJ25_requireNonNull_0 : decode cJ25_requireNonNull 0 = .ok (.aload_n 0, 1) := dk_42 (dk_at dksJ25_requireNonNull_0 0 rfl rfl)
theorem dJ25_requireNonNull_1 : decode cJ25_requireNonNull 1 = .ok (.ifnonnull 11, 3) := dk_199 0 11 (dk_at dksJ25_requireNonNull_0 1 rfl rfl)
theorem dJ25_requireNonNull_4 : decode cJ25_requireNonNull 4 = .ok (.new 84, 3) := dk_187 0 84 (dk_at dksJ25_requireNonNull_0 4 rfl rfl)
theorem dJ25_requireNonNull_7 : decode cJ25_requireNonNull 7 = .ok (.dup, 1) := dk_89 (dk_at dksJ25_requireNonNull_0 7 rfl rfl)
theorem dJ25_requireNonNull_8 : decode cJ25_requireNonNull 8 = .ok (.invokespecial 86, 3) := dk_183 0 86 (dk_at dksJ25_requireNonNull_0 8 rfl rfl)
theorem dJ25_requireNonNull_11 : decode cJ25_requireNonNull 11 = .ok (.athrow, 1) := dk_191 (dk_at dksJ25_requireNonNull_0 11 rfl rfl)
theorem dJ25_requireNonNull_12 : decode cJ25_requireNonNull 12 = .ok (.aload_n 0, 1) := dk_42 (dk_at dksJ25_requireNonNull_0 12 rfl rfl)
theorem dJ25_requireNonNull_13 : decode cJ25_requireNonNull 13 = .ok (.areturn, 1) := dk_176 (dk_at dksJ25_requireNonNull_0 13 rfl rfl)
theorem nd_J25_requireNonNull : yJ25_requireNonNull.cls ≠ "java/lang/invoke/MethodHandle" ∧ yJ25_requireNonNull.cls ≠ "java/lang/invoke/VarHandle" ∧ (parseMethodDescriptor yJ25_requireNonNull.desc).map (fun d => d.parameters.length) = some 1 := by decide +kernel
set_option maxRecDepth 100000 in
set_option maxHeartbeats 16000000 in
theorem ct_J25_requireNonNull {g : GG} {l : Launch} (q : Nat)  : Ct g l yJ25_requireNonNull (ws_ yJ25_requireNonNull cJ25_requireNonNull 1 (Option.some (Jvm.ClassFile.FieldType.object "java/lang/Object"))) 1 12 0 0 [.ref q] [] (fun v9 Ws9 => v9 = some (.ref q) ∧ Ws9 = []) (nox) := by
  refine Ct.of (cc := cJ25_requireNonNull) (nL := 1) (ret := (Option.some (Jvm.ClassFile.FieldType.object "java/lang/Object"))) (by decide) rfl (Nat.le_of_ble_eq_true rfl) ?_
  intro x hg hl hPo hPx hmc hms F
  subst hg; subst hl
  refine SW.cast (L' := [(0, .ref q)]) ?_ rfl rfl rfl
  refine sw_aload_n (n := 1) F 0 (some q) rfl rfl rfl dJ25_requireNonNull_0 rfl ?_
  refine sw_ifnonnull (n := 4) F (o := (some q)) rfl (tgt := 12) dJ25_requireNonNull_1 (by decide) rfl (fun _ _ => ?_) (fun c_1 => ?_)
  ·
    refine sw_aload_n (n := 13) F 0 (some q) rfl rfl rfl dJ25_requireNonNull_12 rfl ?_
    exact sw_aret F (some q) _ rfl rfl (by first | exact Or.inl ⟨_, rfl⟩ | exact Or.inr ⟨_, rfl⟩) dJ25_requireNonNull_13 (by rw [hPo]; exact ⟨rfl, rfl⟩)
  · cases c_1
theorem nd_J9_init : yJ9_init.cls ≠ "java/lang/invoke/MethodHandle" ∧ yJ9_init.cls ≠ "java/lang/invoke/VarHandle" ∧ (parseMethodDescriptor yJ9_init.desc).map (fun d => d.parameters.length) = some 0 := by decide +kernel
set_option maxRecDepth 100000 in
set_option maxHeartbeats 16000000 in
theorem ct_J9_init {g : GG} {l : Launch} (q : Nat)  : Ct g l yJ9_init (ws_ yJ9_init cJ9_init 1 (Option.none : Option Jvm.ClassFile.FieldType)) 1 12 0 0 [.ref q] [] (fun v9 Ws9 => v9 = none ∧ Ws9 = []) (nox) := by
  refine Ct.of (cc := cJ9_init) (nL := 1) (ret := (Option.none : Option Jvm.ClassFile.FieldType)) (by decide) rfl (Nat.le_of_ble_eq_true rfl) ?_
  intro x hg hl hPo hPx hmc hms F
  subst hg; subst hl
  refine SW.cast (L' := [(0, .ref q)]) ?_ rfl rfl rfl
  refine sw_aload_n (n := 1) F 0 (some q) rfl rfl rfl dJ9_init_0 rfl ?_
  refine sw_objInit (n := 4) F q286 q_oi q_oc (by decide) dJ9_init_1 rfl ?_
  exact sw_vret F rfl dJ9_init_4 (by rw [hPo]; exact ⟨rfl, rfl⟩)
theorem nd_J10_init : yJ10_init.cls ≠ "java/lang/invoke/MethodHandle" ∧ yJ10_init.cls ≠ "java/lang/invoke/VarHandle" ∧ (parseMethodDescriptor yJ10_init.desc).map (fun d => d.parameters.length) = some 0 := by decide +kernel
set_option maxRecDepth 100000 in
set_option maxHeartbeats 16000000 in
theorem ct_J10_init {g : GG} {l : Launch} (M : Nat → Option PV) (q : Nat)  : Ct g l yJ10_init (ws_ yJ10_init cJ10_init 1 (Option.none : Option Jvm.ClassFile.FieldType)) 2 32 0 0 [.ref q] [ob g q 14 [.null, .null, .null, .null, .int (jI 0), .int (jI 0), .null, .null, .null], pl g M] (fun v9 Ws9 => v9 = none ∧ Ws9 = [tmap g M q none 0 0 (fun _ => none), pl g M]) (nox) := by
  refine Ct.of (cc := cJ10_init) (nL := 1) (ret := (Option.none : Option Jvm.ClassFile.FieldType)) (by decide) rfl (Nat.le_of_ble_eq_true rfl) ?_
  intro x hg hl hPo hPx hmc hms F
  subst hg; subst hl
  refine SW.cast (L' := [(0, .ref q)]) ?_ rfl rfl rfl
  refine sw_aload_n (n := 1) F 0 (some q) rfl rfl rfl dJ10_init_0 rfl ?_
  refine sw_callI (n := 4) F (ct_J9_init (g := xg x) (l := xl x) q ) q283 q284 q113 q285 rfl nd_J9_init rfl (by decide) [0, 1] rfl [ob (xg x) q 14 [.null, .null, .null, .null, .int (jI 0), .int (jI 0), .null, .null, .null], pl (xg x) M] rfl 0 0 ⟨by omega, by omega⟩ [] rfl (Nat.le_of_ble_eq_true rfl) dJ10_init_1 rfl (fun _ _ h => h.elim) (fun v Ws h => ?_)
  obtain ⟨rfl, rfl⟩ := h
  show SW x [ob (xg x) q 14 [.null, .null, .null, .null, .int (jI 0), .int (jI 0), .null, .null, .null], pl (xg x) M] _ _ _ _ []
  refine sw_aload_n (n := 5) F 0 (some q) rfl rfl rfl dJ10_init_4 rfl ?_
  refine sw_iconst (n := 6) F (0) (by decide) dJ10_init_5 rfl ?_
  refine sw_put (n := 9) F 0 rfl (k := 4) ⟨(RJ10, TJ10, 9), rfl, by decide, q289, in_J10, Or.inl rfl⟩ .int ⟨(RJ10, TJ10, 9), rfl, rfl, tyJ10_ok 4 (by decide), nmJ10, tyJ10, tyJ10_ok⟩ rfl rfl (Nat.le_of_ble_eq_true rfl) rfl [ob (xg x) q 14 [.null, .null, .null, .null, .int (jI 0), .int (jI 0), .null, .null, .null], pl (xg x) M] rfl dJ10_init_6 rfl ?_
  refine sw_aload_n (n := 10) F 0 (some q) rfl rfl rfl dJ10_init_9 rfl ?_
  refine sw_iconst (n := 11) F (0) (by decide) dJ10_init_10 rfl ?_
  refine sw_put (n := 14) F 0 rfl (k := 5) ⟨(RJ10, TJ10, 9), rfl, by decide, q290, in_J10, Or.inl rfl⟩ .int ⟨(RJ10, TJ10, 9), rfl, rfl, tyJ10_ok 5 (by decide), nmJ10, tyJ10, tyJ10_ok⟩ rfl rfl (Nat.le_of_ble_eq_true rfl) rfl [ob (xg x) q 14 [.null, .null, .null, .null, .int (jI 0), .int (jI 0), .null, .null, .null], pl (xg x) M] rfl dJ10_init_11 rfl ?_
  refine sw_aload_n (n := 15) F 0 (some q) rfl rfl rfl dJ10_init_14 rfl ?_
  refine sw_null (n := 16) F dJ10_init_15 rfl ?_
  refine sw_putF (n := 19) F rfl 0 rfl (k := 2) ⟨(RJ10, TJ10, 9), rfl, by decide, q287, in_J10, Or.inl rfl⟩ (tyJ10 2) ⟨(RJ10, TJ10, 9), rfl, rfl, rfl, tyJ10_ok 2 (by decide), nmJ10, tyJ10, tyJ10_ok⟩ rfl rfl (Nat.le_of_ble_eq_true rfl) rfl [ob (xg x) q 14 [.null, .null, .null, .null, .int (jI 0), .int (jI 0), .null, .null, .null], pl (xg x) M] rfl dJ10_init_16 rfl ?_
  refine sw_ndNil (ka := fun _ => 0) (va := fun _ => 0) (L := fun _ => none) (R := fun _ => none) (P := fun _ => none) (cl := fun _ => 0) ?_
  refine sw_vONil (q := q) ?_
  have hT0 : TrI [] (fun _ => none) (fun _ => none) (fun _ => none) (fun _ => 0) (fun _ => 0) (fun _ => 0) none := TrI.nil
  refine sw_perm [2, 1, 0, 3] (perm_ok _ 4 (by decide +kernel) rfl) [ob (xg x) q 14 [.null, .null, .null, .null, .int (jI 0), .int (jI 0), .null, .null, .null], nd (xg x) ([]) (fun _ => 0) (fun _ => 0) (fun _ => none) (fun _ => none) (fun _ => none) (fun _ => 0), vO (xg x) none q, pl (xg x) M] rfl ?_; refine sw_tmClose (n := 0) (f := fun _ => none) (M := M) (vs := none) (rt := none) hT0 ⟨List.nodup_nil, rfl⟩ (fun _ => Or.inl rfl) (fun t ht => by cases ht) mF_nil ?_
  exact sw_vret F rfl dJ10_init_19 (by rw [hPo]; exact ⟨rfl, rfl⟩)
theorem nd_J10_size : yJ10_size.cls ≠ "java/lang/invoke/MethodHandle" ∧ yJ10_size.cls ≠ "java/lang/invoke/VarHandle" ∧ (parseMethodDescriptor yJ10_size.desc).map (fun d => d.parameters.length) = some 0 := by decide +kernel
set_option maxRecDepth 100000 in
set_option maxHeartbeats 16000000 in
theorem ct_J10_size {g : GG} {l : Launch} (M : Nat → Option PV) (q : Nat) (vs : Option Nat) (mc : Int) (n : Nat) (f : Int → Option Nat)  : Ct g l yJ10_size (ws_ yJ10_size cJ10_size 1 (Option.some Jvm.ClassFile.FieldType.int)) 1 12 0 0 [.ref q] [tmap g M q vs mc n f, pl g M] (fun v9 Ws9 => v9 = some (.int (jI (↑n))) ∧ Ws9 = [tmap g M q vs mc n f, pl g M]) (nox) := by
  refine Ct.of (cc := cJ10_size) (nL := 1) (ret := (Option.some Jvm.ClassFile.FieldType.int)) (by decide) rfl (Nat.le_of_ble_eq_true rfl) ?_
  intro x hg hl hPo hPx hmc hms F
  subst hg; subst hl
  refine SW.cast (L' := [(0, .ref q)]) ?_ rfl rfl rfl
  refine sw_tmOpen (fun rt Ks ka va L R P cl rk lo hi hT hND hcb hka hmf => ?_)
  refine sw_aload_n (n := 1) F 0 (some q) rfl rfl rfl dJ10_size_0 rfl ?_
  refine sw_get (n := 4) F 0 rfl (k := 4) ⟨(RJ10, TJ10, 9), rfl, by decide, q289, in_J10, Or.inl rfl⟩ rfl dJ10_size_1 rfl ?_
  refine sw_tmClose (n := n) (f := f) (M := M) hT hND (by (repeat' first | assumption | exact Or.inl rfl | exact Or.inr rfl | apply clO_b | refine cb_up ?_ ?_ | refine cb_cu ?_ ?_)) hka hmf ?_
  exact sw_iret F _ rfl (by first | rfl | exact jI_nz (by omega) | exact jI_nc (by omega)) dJ10_size_4 (by rw [hPo]; exact ⟨rfl, rfl⟩)
theorem ndx_Comparable_compareTo : (⟨"java/lang/Comparable", "compareTo", "(Ljava/lang/Object;)I"⟩ : MethodName).cls ≠ "java/lang/invoke/MethodHandle" ∧ (⟨"java/lang/Comparable", "compareTo", "(Ljava/lang/Object;)I"⟩ : MethodName).cls ≠ "java/lang/invoke/VarHandle" ∧ (parseMethodDescriptor (⟨"java/lang/Comparable", "compareTo", "(Ljava/lang/Object;)I"⟩ : MethodName).desc).map (fun d => d.parameters.length) = some 1 := by decide +kernel
theorem nd_J10_compare : yJ10_compare.cls ≠ "java/lang/invoke/MethodHandle" ∧ yJ10_compare.cls ≠ "java/lang/invoke/VarHandle" ∧ (parseMethodDescriptor yJ10_compare.desc).map (fun d => d.parameters.length) = some 2 := by decide +kernel
set_option maxRecDepth 100000 in
set_option maxHeartbeats 16000000 in
theorem ct_J10_compare {g : GG} {l : Launch} (M : Nat → Option PV) (q : Nat) (vs : Option Nat) (rt : Option Nat) (sz : Int) (mc : Int) (k : Nat) (z : Int) (k2 : Nat) (z2 : Int) (hk : at_ g M k (vN z)) (hk2 : at_ g M k2 (vN z2)) (hz : -2147483648 ≤ z ∧ z ≤ 2147483647) (hz2 : -2147483648 ≤ z2 ∧ z2 ≤ 2147483647) : Ct g l yJ10_compare (ws_ yJ10_compare cJ10_compare 3 (Option.some Jvm.ClassFile.FieldType.int)) 4 75 0 0 [.ref q, .ref k, .ref k2] [ob g q 14 [.null, va_rf vs, .null, va_rf rt, .int (jI sz), .int (jI mc), .null, .null, .null], pl g M] (fun v9 Ws9 => v9 = some (.int (jI (ciI z z2))) ∧ Ws9 = [ob g q 14 [.null, va_rf vs, .null, va_rf rt, .int (jI sz), .int (jI mc), .null, .null, .null], pl g M]) (nox) := by
  refine Ct.of (cc := cJ10_compare) (nL := 3) (ret := (Option.some Jvm.ClassFile.FieldType.int)) (by decide) rfl (Nat.le_of_ble_eq_true rfl) ?_
  intro x hg hl hPo hPx hmc hms F
  subst hg; subst hl
  refine SW.cast (L' := [(0, .ref q), (1, .ref k), (2, .ref k2)]) ?_ rfl rfl rfl
  refine sw_aload_n (n := 1) F 0 (some q) rfl rfl rfl dJ10_compare_0 rfl ?_
  refine sw_get (n := 4) F 0 rfl (k := 2) ⟨(RJ10, TJ10, 9), rfl, by decide, q287, in_J10, Or.inl rfl⟩ rfl dJ10_compare_1 rfl ?_
  refine sw_ifnonnull (n := 7) F (o := none) rfl (tgt := 20) dJ10_compare_4 (by decide) rfl (fun _ _ => ?_) (fun c_4 => ?_)
  · rename_i hq; cases hq
  ·
    refine sw_aload_n (n := 8) F 1 (some k) rfl rfl rfl dJ10_compare_7 rfl ?_
    refine sw_castC (n := 11) F (kn_rcv F 1 rfl (kn_plN hk) rfl) q2915 q2920 dJ10_compare_8 rfl ?_
    refine sw_aload_n (n := 12) F 2 (some k2) rfl rfl rfl dJ10_compare_11 rfl ?_
    refine sw_callF (n := 17) F (ct_J22_compareTo (g := xg x) (l := xl x) M k z k2 z2 hk hk2 hz hz2) (kn_rcv F 1 rfl (kn_plN hk) rfl) (ci := 17) rfl (fw_of F.gx.1 q2919 q2918 q2924 q2922 q2920) q2917 q2921 q2923 q130 q2925 ndx_Comparable_compareTo rfl (by decide) [1, 0] rfl [ob (xg x) q 14 [.null, va_rf vs, .null, va_rf rt, .int (jI sz), .int (jI mc), .null, .null, .null]] rfl 0 0 ⟨by omega, by omega⟩ [] rfl (Nat.le_of_ble_eq_true rfl) dJ10_compare_12 rfl (fun _ _ h => h.elim) (fun v Ws h => ?_)
    obtain ⟨rfl, rfl⟩ := h
    show SW x [pl (xg x) M, ob (xg x) q 14 [.null, va_rf vs, .null, va_rf rt, .int (jI sz), .int (jI mc), .null, .null, .null]] _ _ _ _ [.int (jI (ciI z z2))]
    refine sw_goto F (n := 31) dJ10_compare_17 (by decide) ?_
    refine sw_perm [1, 0] rfl [ob (xg x) q 14 [.null, va_rf vs, .null, va_rf rt, .int (jI sz), .int (jI mc), .null, .null, .null], pl (xg x) M] rfl ?_
    exact sw_iret F _ rfl (by first | rfl | exact jI_nz (by omega) | exact jI_nc (by omega)) dJ10_compare_31 (by rw [hPo]; exact ⟨rfl, rfl⟩)
theorem nd_J10_getEntry : yJ10_getEntry.cls ≠ "java/lang/invoke/MethodHandle" ∧ yJ10_getEntry.cls ≠ "java/lang/invoke/VarHandle" ∧ (parseMethodDescriptor yJ10_getEntry.desc).map (fun d => d.parameters.length) = some 1 := by decide +kernel
set_option maxRecDepth 100000 in
set_option maxHeartbeats 16000000 in
theorem ct_J10_getEntry {g : GG} {l : Launch} (M : Nat → Option PV) (Ks : List Nat) (ka : Nat → Nat) (va : Nat → Nat) (L : OP) (R : OP) (P : OP) (cl : Nat → Int) (q : Nat) (vs : Option Nat) (rt : Option Nat) (sz : Int) (mc : Int) (rk : Nat → Int) (lo : Nat → Int) (hi : Nat → Int) (k : Nat) (z : Int) (hT : TrI Ks L R P rk lo hi rt) (hka : ∀ t, t ∈ Ks → at_ g M (ka t) (vN (rk t))) (hk : at_ g M k (vN z)) (hz : -2147483648 ≤ z ∧ z ≤ 2147483647) : Ct g l yJ10_getEntry (ws_ yJ10_getEntry cJ10_getEntry 5 (Option.some (Jvm.ClassFile.FieldType.object "java/util/TreeMap$Entry"))) 4 75 0 0 [.ref q, .ref k] [ob g q 14 [.null, va_rf vs, .null, va_rf rt, .int (jI sz), .int (jI mc), .null, .null, .null], nd g Ks ka va L R P cl, pl g M] (fun v9 Ws9 => ∃ o1 : Option Nat, v9 = some (va_rf o1) ∧ ((∀ t, o1 = some t → t ∈ Ks ∧ rk t = z) ∧ (o1 = none → ∀ t, t ∈ Ks → rk t ≠ z)) ∧ Ws9 = [ob g q 14 [.null, va_rf vs, .null, va_rf rt, .int (jI sz), .int (jI mc), .null, .null, .null], nd g Ks ka va L R P cl, pl g M]) (nox) := by
  refine Ct.of (cc := cJ10_getEntry) (nL := 5) (ret := (Option.some (Jvm.ClassFile.FieldType.object "java/util/TreeMap$Entry"))) (by decide) rfl (Nat.le_of_ble_eq_true rfl) ?_
  intro x hg hl hPo hPx hmc hms F
  subst hg; subst hl
  refine SW.cast (L' := [(0, .ref q), (1, .ref k)]) ?_ rfl rfl rfl
  refine sw_aload_n (n := 1) F 0 (some q) rfl rfl rfl dJ10_getEntry_0 rfl ?_
  refine sw_get (n := 4) F 0 rfl (k := 2) ⟨(RJ10, TJ10, 9), rfl, by decide, q287, in_J10, Or.inl rfl⟩ rfl dJ10_getEntry_1 rfl ?_
  refine sw_ifnull (n := 7) F (o := none) rfl (tgt := 13) dJ10_getEntry_4 (by decide) rfl (fun c_4 => ?_) (fun _ _ => ?_)
  ·
    refine sw_aload_n (n := 14) F 1 (some k) rfl rfl rfl dJ10_getEntry_13 rfl ?_
    refine sw_callS (n := 17) F (ct_J25_requireNonNull (g := xg x) (l := xl x) k ) q3168 q1470 q134 q1471 nd_J25_requireNonNull rfl (by decide) [0, 1, 2] rfl [ob (xg x) q 14 [.null, va_rf vs, .null, va_rf rt, .int (jI sz), .int (jI mc), .null, .null, .null], nd (xg x) Ks ka va L R P cl, pl (xg x) M] rfl 0 0 ⟨by omega, by omega⟩ [] rfl (Nat.le_of_ble_eq_true rfl) dJ10_getEntry_14 rfl (fun _ _ h => h.elim) (fun v Ws h => ?_)
    obtain ⟨rfl, rfl⟩ := h
    show SW x [ob (xg x) q 14 [.null, va_rf vs, .null, va_rf rt, .int (jI sz), .int (jI mc), .null, .null, .null], nd (xg x) Ks ka va L R P cl, pl (xg x) M] _ _ _ _ [.ref k]
    refine sw_pop (n := 18) F rfl dJ10_getEntry_17 rfl ?_
    refine sw_aload_n (n := 19) F 1 (some k) rfl rfl rfl dJ10_getEntry_18 rfl ?_
    refine sw_castC (n := 22) F (kn_rcv F 2 rfl (kn_plN hk) rfl) q2915 q2920 dJ10_getEntry_19 rfl ?_
    refine sw_astore_n (n := 23) F (some k) (L2 := [(2, .ref k), (0, .ref q), (1, .ref k)]) rfl rfl (by decide) rfl dJ10_getEntry_22 rfl ?_
    refine sw_aload_n (n := 24) F 1 (some q) rfl rfl rfl dJ10_getEntry_23 rfl ?_
    refine sw_get (n := 27) F 0 rfl (k := 3) ⟨(RJ10, TJ10, 9), rfl, by decide, q288, in_J10, Or.inl rfl⟩ rfl dJ10_getEntry_24 rfl ?_
    refine sw_astore_n (n := 28) F rt (L2 := [(3, va_rf rt), (2, .ref k), (0, .ref q), (1, .ref k)]) (by first | rfl | simp [va_rf_cat]) rfl (by decide) rfl dJ10_getEntry_27 rfl ?_
    have K28 : ∀ N28 : Nat, ∀ (o2 : Option Nat), (sIn Ks rk lo hi z o2) → ((gM lo hi o2) < N28) → SW x [ob (xg x) q 14 [.null, va_rf vs, .null, va_rf rt, .int (jI sz), .int (jI mc), .null, .null, .null], nd (xg x) Ks ka va L R P cl, pl (xg x) M] 0 0 28 [(0, .ref q), (1, .ref k), (2, .ref k), (3, va_rf o2)] [] := by
      intro N28; induction N28 with
      | zero => intro o2 hs2 hmu28; omega
      | succ N28 ih28 =>
        intro o2 hs2 hmu28
        refine sw_aload_n (n := 29) F 3 o2 rfl rfl rfl dJ10_getEntry_28 rfl ?_
        refine sw_ifnull (n := 32) F (o := o2) rfl (tgt := 75) dJ10_getEntry_29 (by decide) rfl (fun c_29 => ?_) (fun q_1 c_29 => ?_)
        ·
          refine SW.cast (Ps' := _) (L' := [(0, .ref q), (1, .ref k), (2, .ref k), (3, .null)]) (st' := []) ?_ rfl (by rw [c_29]; rfl) (by first | rfl | rw [c_29]; rfl)
          refine sw_null (n := 76) F dJ10_getEntry_75 rfl ?_
          exact sw_aret F none _ rfl rfl (by first | exact Or.inl ⟨_, rfl⟩ | exact Or.inr ⟨_, rfl⟩) dJ10_getEntry_76 (by rw [hPo]; exact ⟨none, (by first | (congr 3; omega) | (congr 2; omega) | rfl), (by exact ⟨fun t e => (by cases e), fun _ => hs2.2 c_29⟩), rfl⟩)
        ·
          refine SW.cast (Ps' := _) (L' := [(0, .ref q), (1, .ref k), (2, .ref k), (3, .ref q_1)]) (st' := []) ?_ rfl (by rw [c_29]; rfl) (by first | rfl | rw [c_29]; rfl)
          have hd : q_1 ∈ Ks ∧ lo q_1 < z ∧ z < hi q_1 := hs2.1 _ c_29
          have hm : q_1 ∈ Ks := hd.1
          have hkt : at_ (xg x) M (ka q_1) (vN (rk q_1)) := hka _ hm
          have hrz := hT.rng hm
          have hci := ciI_cases z (rk q_1)
          refine sw_aload_n (n := 33) F 2 (some k) rfl rfl rfl dJ10_getEntry_32 rfl ?_
          refine sw_aload_n (n := 34) F 3 (some q_1) rfl rfl rfl dJ10_getEntry_33 rfl ?_
          refine sw_getK (n := 37) F (nd_hO 1 rfl hm) (k := 0) ⟨(RJ41, TJ41, 6), rfl, by decide, q3145, in_J41, Or.inl rfl⟩ (v := .ref (ka q_1)) rfl dJ10_getEntry_34 rfl ?_
          refine sw_callF (n := 42) F (ct_J22_compareTo (g := xg x) (l := xl x) M k z (ka q_1) (rk q_1) hk hkt hz (by first | omega | assumption)) (kn_rcv F 2 rfl (kn_plN hk) rfl) (ci := 17) rfl (fw_of F.gx.1 q2919 q2918 q2924 q2922 q2920) q2917 q2921 q2923 q130 q2925 ndx_Comparable_compareTo rfl (by decide) [2, 0, 1] rfl [ob (xg x) q 14 [.null, va_rf vs, .null, va_rf rt, .int (jI sz), .int (jI mc), .null, .null, .null], nd (xg x) Ks ka va L R P cl] rfl 0 0 ⟨by omega, by omega⟩ [] rfl (Nat.le_of_ble_eq_true rfl) dJ10_getEntry_37 rfl (fun _ _ h => h.elim) (fun v Ws h => ?_)
          obtain ⟨rfl, rfl⟩ := h
          show SW x [pl (xg x) M, ob (xg x) q 14 [.null, va_rf vs, .null, va_rf rt, .int (jI sz), .int (jI mc), .null, .null, .null], nd (xg x) Ks ka va L R P cl] _ _ _ _ [.int (jI (ciI z (rk q_1)))]
          refine sw_istore (n := 44) F (L2 := [(4, .int (jI (ciI z (rk q_1)))), (0, .ref q), (1, .ref k), (2, .ref k), (3, .ref q_1)]) rfl (by decide) dJ10_getEntry_42 rfl ?_
          refine sw_iload (n := 46) F 0 rfl dJ10_getEntry_44 rfl ?_
          refine sw_if_ge (n := 49) F (by omega) (tgt := 57) dJ10_getEntry_46 (by decide) rfl (fun c_46 => ?_) (fun c_46 => ?_)
          ·
            refine sw_iload (n := 59) F 0 rfl dJ10_getEntry_57 rfl ?_
            refine sw_if_le (n := 62) F (by omega) (tgt := 70) dJ10_getEntry_59 (by decide) rfl (fun c_59 => ?_) (fun c_59 => ?_)
            ·
              refine sw_aload_n (n := 71) F 4 (some q_1) rfl rfl rfl dJ10_getEntry_70 rfl ?_
              refine sw_perm [1, 2, 0] rfl [ob (xg x) q 14 [.null, va_rf vs, .null, va_rf rt, .int (jI sz), .int (jI mc), .null, .null, .null], nd (xg x) Ks ka va L R P cl, pl (xg x) M] rfl ?_
              exact sw_aret F (some q_1) _ rfl rfl (by first | exact Or.inl ⟨_, rfl⟩ | exact Or.inr ⟨_, rfl⟩) dJ10_getEntry_71 (by rw [hPo]; exact ⟨some q_1, (by first | (congr 3; omega) | (congr 2; omega) | rfl), (by exact ⟨fun t e => by cases e; exact ⟨hm, by omega⟩, fun e => by cases e⟩), rfl⟩)
            ·
              refine sw_aload_n (n := 63) F 4 (some q_1) rfl rfl rfl dJ10_getEntry_62 rfl ?_
              refine sw_getK (n := 66) F (nd_hO 2 rfl hm) (k := 3) ⟨(RJ41, TJ41, 6), rfl, by decide, q3150, in_J41, Or.inl rfl⟩ (v := va_rf (R q_1)) rfl dJ10_getEntry_63 rfl ?_
              refine sw_astore_n (n := 67) F (R q_1) (L2 := [(3, va_rf (R q_1)), (4, .int (jI (ciI z (rk q_1)))), (0, .ref q), (1, .ref k), (2, .ref k)]) (by first | rfl | simp [va_rf_cat]) rfl (by decide) rfl dJ10_getEntry_66 rfl ?_
              refine sw_goto F (n := 72) dJ10_getEntry_67 (by decide) ?_
              have hg9 : gM lo hi (R q_1) < gM lo hi (some q_1) := hT.gMR hm
              refine sw_goto F (n := 28) dJ10_getEntry_72 (by decide) ?_
              refine sw_perm [1, 2, 0] rfl [ob (xg x) q 14 [.null, va_rf vs, .null, va_rf rt, .int (jI sz), .int (jI mc), .null, .null, .null], nd (xg x) Ks ka va L R P cl, pl (xg x) M] rfl ?_
              refine sw_loc [2, 3, 4, 0] (L2 := [(0, .ref q), (1, .ref k), (2, .ref k), (3, va_rf (R q_1))]) rfl ?_
              exact ih28 (R q_1) (by first | exact hT.sL hd (by omega) | exact hT.sR hd (by omega)) (by rw [c_29] at hmu28; omega)
          ·
            refine sw_aload_n (n := 50) F 4 (some q_1) rfl rfl rfl dJ10_getEntry_49 rfl ?_
            refine sw_getK (n := 53) F (nd_hO 2 rfl hm) (k := 2) ⟨(RJ41, TJ41, 6), rfl, by decide, q3149, in_J41, Or.inl rfl⟩ (v := va_rf (L q_1)) rfl dJ10_getEntry_50 rfl ?_
            refine sw_astore_n (n := 54) F (L q_1) (L2 := [(3, va_rf (L q_1)), (4, .int (jI (ciI z (rk q_1)))), (0, .ref q), (1, .ref k), (2, .ref k)]) (by first | rfl | simp [va_rf_cat]) rfl (by decide) rfl dJ10_getEntry_53 rfl ?_
            refine sw_goto F (n := 72) dJ10_getEntry_54 (by decide) ?_
            have hg9 : gM lo hi (L q_1) < gM lo hi (some q_1) := hT.gML hm
            refine sw_goto F (n := 28) dJ10_getEntry_72 (by decide) ?_
            refine sw_perm [1, 2, 0] rfl [ob (xg x) q 14 [.null, va_rf vs, .null, va_rf rt, .int (jI sz), .int (jI mc), .null, .null, .null], nd (xg x) Ks ka va L R P cl, pl (xg x) M] rfl ?_
            refine sw_loc [2, 3, 4, 0] (L2 := [(0, .ref q), (1, .ref k), (2, .ref k), (3, va_rf (L q_1))]) rfl ?_
            exact ih28 (L q_1) (by first | exact hT.sL hd (by omega) | exact hT.sR hd (by omega)) (by rw [c_29] at hmu28; omega)
    refine sw_loc [2, 3, 1, 0] (L2 := [(0, .ref q), (1, .ref k), (2, .ref k), (3, va_rf rt)]) rfl ?_
    exact K28 _ rt (by exact hT.s0 hz) (Nat.lt_succ_self _)
  · rename_i hq; cases hq
theorem nd_J10_successor : yJ10_successor.cls ≠ "java/lang/invoke/MethodHandle" ∧ yJ10_successor.cls ≠ "java/lang/invoke/VarHandle" ∧ (parseMethodDescriptor yJ10_successor.desc).map (fun d => d.parameters.length) = some 1 := by decide +kernel
set_option maxRecDepth 100000 in
set_option maxHeartbeats 16000000 in
theorem ct_J10_successor {g : GG} {l : Launch} (Ks : List Nat) (ka : Nat → Nat) (va : Nat → Nat) (L : OP) (R : OP) (P : OP) (cl : Nat → Int) (rk : Nat → Int) (lo : Nat → Int) (hi : Nat → Int) (nx : Nat) (rt : Option Nat) (hT : TrI Ks L R P rk lo hi rt) (hx : nx ∈ Ks) : Ct g l yJ10_successor (ws_ yJ10_successor cJ10_successor 3 (Option.some (Jvm.ClassFile.FieldType.object "java/util/TreeMap$Entry"))) 1 12 0 0 [.ref nx] [nd g Ks ka va L R P cl] (fun v9 Ws9 => ∃ o1 : Option Nat, v9 = some (va_rf o1) ∧ (isHi Ks rk (rk nx) o1) ∧ (R nx ≠ none → ∀ s, o1 = some s → L s = none) ∧ Ws9 = [nd g Ks ka va L R P cl]) (nox) := by
  refine Ct.of (cc := cJ10_successor) (nL := 3) (ret := (Option.some (Jvm.ClassFile.FieldType.object "java/util/TreeMap$Entry"))) (by decide) rfl (Nat.le_of_ble_eq_true rfl) ?_
  intro x hg hl hPo hPx hmc hms F
  subst hg; subst hl
  refine SW.cast (L' := [(0, .ref nx)]) ?_ rfl rfl rfl
  refine sw_aload_n (n := 1) F 0 (some nx) rfl rfl rfl dJ10_successor_0 rfl ?_
  refine sw_ifnonnull (n := 4) F (o := (some nx)) rfl (tgt := 6) dJ10_successor_1 (by decide) rfl (fun _ _ => ?_) (fun c_1 => ?_)
  ·
    refine sw_aload_n (n := 7) F 0 (some nx) rfl rfl rfl dJ10_successor_6 rfl ?_
    refine sw_getK (n := 10) F (nd_hO 0 rfl hx) (k := 3) ⟨(RJ41, TJ41, 6), rfl, by decide, q3150, in_J41, Or.inl rfl⟩ (v := va_rf (R nx)) rfl dJ10_successor_7 rfl ?_
    refine sw_ifnull (n := 13) F (o := (R nx)) rfl (tgt := 35) dJ10_successor_10 (by decide) rfl (fun c_10 => ?_) (fun q_1 c_10 => ?_)
    ·
      refine sw_aload_n (n := 36) F 0 (some nx) rfl rfl rfl dJ10_successor_35 rfl ?_
      refine sw_getK (n := 39) F (nd_hO 0 rfl hx) (k := 4) ⟨(RJ41, TJ41, 6), rfl, by decide, q3152, in_J41, Or.inl rfl⟩ (v := va_rf (P nx)) rfl dJ10_successor_36 rfl ?_
      refine sw_astore_n (n := 40) F (P nx) (L2 := [(1, va_rf (P nx)), (0, .ref nx)]) (by first | rfl | simp [va_rf_cat]) rfl (by decide) rfl dJ10_successor_39 rfl ?_
      refine sw_aload_n (n := 41) F 1 (some nx) rfl rfl rfl dJ10_successor_40 rfl ?_
      refine sw_astore_n (n := 42) F (some nx) (L2 := [(2, .ref nx), (1, va_rf (P nx)), (0, .ref nx)]) (by first | rfl | simp [va_rf_cat]) rfl (by decide) rfl dJ10_successor_41 rfl ?_
      have K42 : ∀ N42 : Nat, ∀ (c2 : Nat) (p2 : Option Nat), (c2 ∈ Ks) → (P c2 = p2) → (hi c2 = hi nx) → ((wd lo hi c2) < N42) → SW x [nd (xg x) Ks ka va L R P cl] 0 0 42 [(0, .ref nx), (1, va_rf p2), (2, .ref c2)] [] := by
        intro N42; induction N42 with
        | zero => intro c2 p2 hc2 hcp hch hmu42; omega
        | succ N42 ih42 =>
          intro c2 p2 hc2 hcp hch hmu42
          refine sw_aload_n (n := 43) F 1 p2 rfl rfl rfl dJ10_successor_42 rfl ?_
          refine sw_ifnull (n := 46) F (o := p2) rfl (tgt := 64) dJ10_successor_43 (by decide) rfl (fun c_43 => ?_) (fun q_2 c_43 => ?_)
          ·
            refine SW.cast (Ps' := _) (L' := [(0, .ref nx), (1, .null), (2, .ref c2)]) (st' := []) ?_ rfl (by rw [c_43]; rfl) (by first | rfl | rw [c_43]; rfl)
            refine sw_aload_n (n := 65) F 1 none rfl rfl rfl dJ10_successor_64 rfl ?_
            exact sw_aret F none _ rfl rfl (by first | exact Or.inl ⟨_, rfl⟩ | exact Or.inr ⟨_, rfl⟩) dJ10_successor_65 (by rw [hPo]; exact ⟨none, (by first | (congr 3; omega) | (congr 2; omega) | rfl), (by first | (exact hT.hiNone hx c_10 (by omega) hc2 (hcp.trans c_43) hch) | (exact hT.hiSome hx c_10 (by omega) (by have := hT.rng hx; omega) hc2 (hcp.trans c_43) hch c_51)), (by exact fun h8 => absurd c_10 h8), rfl⟩)
          ·
            refine SW.cast (Ps' := _) (L' := [(0, .ref nx), (1, .ref q_2), (2, .ref c2)]) (st' := []) ?_ rfl (by rw [c_43]; rfl) (by first | rfl | rw [c_43]; rfl)
            refine sw_aload_n (n := 47) F 2 (some c2) rfl rfl rfl dJ10_successor_46 rfl ?_
            refine sw_aload_n (n := 48) F 1 (some q_2) rfl rfl rfl dJ10_successor_47 rfl ?_
            have hpK : q_2 ∈ Ks := (hT.p hc2 (hcp.trans c_43)).1
            refine sw_getK (n := 51) F (nd_hO 0 rfl hpK) (k := 3) ⟨(RJ41, TJ41, 6), rfl, by decide, q3150, in_J41, Or.inl rfl⟩ (v := va_rf (R q_2)) rfl dJ10_successor_48 rfl ?_
            refine sw_acmp_ne (n := 54) F (rx := (some c2)) (ry := (R q_2)) rfl rfl (tgt := 64) dJ10_successor_51 (by decide) rfl (fun c_51 => ?_) (fun c_51 => ?_)
            ·
              refine sw_aload_n (n := 65) F 1 (some q_2) rfl rfl rfl dJ10_successor_64 rfl ?_
              exact sw_aret F (some q_2) _ rfl rfl (by first | exact Or.inl ⟨_, rfl⟩ | exact Or.inr ⟨_, rfl⟩) dJ10_successor_65 (by rw [hPo]; exact ⟨some q_2, (by first | (congr 3; omega) | (congr 2; omega) | rfl), (by first | (exact hT.hiNone hx c_10 (by omega) hc2 (hcp.trans c_43) hch) | (exact hT.hiSome hx c_10 (by omega) (by have := hT.rng hx; omega) hc2 (hcp.trans c_43) hch c_51)), (by exact fun h8 => absurd c_10 h8), rfl⟩)
            ·
              refine sw_aload_n (n := 55) F 1 (some q_2) rfl rfl rfl dJ10_successor_54 rfl ?_
              refine sw_astore_n (n := 56) F (some q_2) (L2 := [(2, .ref q_2), (0, .ref nx), (1, .ref q_2)]) rfl rfl (by decide) rfl dJ10_successor_55 rfl ?_
              refine sw_aload_n (n := 57) F 2 (some q_2) rfl rfl rfl dJ10_successor_56 rfl ?_
              refine sw_getK (n := 60) F (nd_hO 0 rfl hpK) (k := 4) ⟨(RJ41, TJ41, 6), rfl, by decide, q3152, in_J41, Or.inl rfl⟩ (v := va_rf (P q_2)) rfl dJ10_successor_57 rfl ?_
              refine sw_astore_n (n := 61) F (P q_2) (L2 := [(1, va_rf (P q_2)), (2, .ref q_2), (0, .ref nx)]) (by first | rfl | simp [va_rf_cat]) rfl (by decide) rfl dJ10_successor_60 rfl ?_
              refine sw_goto F (n := 42) dJ10_successor_61 (by decide) ?_
              refine sw_loc [2, 0, 1] (L2 := [(0, .ref nx), (1, va_rf (P q_2)), (2, .ref q_2)]) rfl ?_
              exact ih42 q_2 (P q_2) hpK (by first | rfl | assumption) (by have h8 := hT.r hpK c_51.symm; omega) (by have h8 := hT.wdl hc2 (hcp.trans c_43); omega)
      refine sw_loc [2, 1, 0] (L2 := [(0, .ref nx), (1, va_rf (P nx)), (2, .ref nx)]) rfl ?_
      exact K42 _ nx (P nx) (by exact hx) (by rfl) (by rfl) (Nat.lt_succ_self _)
    ·
      have hq : R nx = some q_1 := c_10
      have hqK : q_1 ∈ Ks := (hT.r hx c_10).1
      refine sw_aload_n (n := 14) F 0 (some nx) rfl rfl rfl dJ10_successor_13 rfl ?_
      refine sw_getK (n := 17) F (nd_hO 0 rfl hx) (k := 3) ⟨(RJ41, TJ41, 6), rfl, by decide, q3150, in_J41, Or.inl rfl⟩ (v := .ref q_1) (congrArg (fun o9 => some (va_rf o9)) hq) dJ10_successor_14 rfl ?_
      refine sw_astore_n (n := 18) F (some q_1) (L2 := [(1, .ref q_1), (0, .ref nx)]) rfl rfl (by decide) rfl dJ10_successor_17 rfl ?_
      have K18 : ∀ N18 : Nat, ∀ (t2 : Nat), (t2 ∈ Ks ∧ lo t2 = rk nx) → ((gM lo hi (some t2)) < N18) → SW x [nd (xg x) Ks ka va L R P cl] 0 0 18 [(0, .ref nx), (1, .ref t2)] [] := by
        intro N18; induction N18 with
        | zero => intro t2 ht2 hmu18; omega
        | succ N18 ih18 =>
          intro t2 ht2 hmu18
          refine sw_aload_n (n := 19) F 1 (some t2) rfl rfl rfl dJ10_successor_18 rfl ?_
          refine sw_getK (n := 22) F (nd_hO 0 rfl ht2.1) (k := 2) ⟨(RJ41, TJ41, 6), rfl, by decide, q3149, in_J41, Or.inl rfl⟩ (v := va_rf (L t2)) rfl dJ10_successor_19 rfl ?_
          refine sw_ifnull (n := 25) F (o := (L t2)) rfl (tgt := 33) dJ10_successor_22 (by decide) rfl (fun c_22 => ?_) (fun q_3 c_22 => ?_)
          ·
            refine sw_aload_n (n := 34) F 1 (some t2) rfl rfl rfl dJ10_successor_33 rfl ?_
            exact sw_aret F (some t2) _ rfl rfl (by first | exact Or.inl ⟨_, rfl⟩ | exact Or.inr ⟨_, rfl⟩) dJ10_successor_34 (by rw [hPo]; exact ⟨some t2, (by first | (congr 3; omega) | (congr 2; omega) | rfl), (by exact hT.hiL0 ht2.1 c_22 (by omega) (by have := hT.rng ht2.1; omega)), (by exact fun _ s e => by cases e; exact c_22), rfl⟩)
          ·
            have hjK : q_3 ∈ Ks := (hT.l ht2.1 c_22).1
            refine sw_aload_n (n := 26) F 1 (some t2) rfl rfl rfl dJ10_successor_25 rfl ?_
            refine sw_getK (n := 29) F (nd_hO 0 rfl ht2.1) (k := 2) ⟨(RJ41, TJ41, 6), rfl, by decide, q3149, in_J41, Or.inl rfl⟩ (v := .ref q_3) (congrArg (fun o9 => some (va_rf o9)) c_22) dJ10_successor_26 rfl ?_
            refine sw_astore_n (n := 30) F (some q_3) (L2 := [(1, .ref q_3), (0, .ref nx)]) rfl rfl (by decide) rfl dJ10_successor_29 rfl ?_
            refine sw_goto F (n := 18) dJ10_successor_30 (by decide) ?_
            refine sw_loc [1, 0] (L2 := [(0, .ref nx), (1, .ref q_3)]) rfl ?_
            exact ih18 q_3 (by exact ⟨hjK, by have := (hT.l ht2.1 c_22).2.2.1; omega⟩) (by have h8 := hT.gML ht2.1; rw [c_22] at h8; omega)
      refine sw_loc [1, 0] (L2 := [(0, .ref nx), (1, .ref q_1)]) rfl ?_
      exact K18 _ q_1 (by exact ⟨hqK, (hT.r hx c_10).2.2.1⟩) (Nat.lt_succ_self _)
  · cases c_1
theorem nd_J10_getFirstEntry : yJ10_getFirstEntry.cls ≠ "java/lang/invoke/MethodHandle" ∧ yJ10_getFirstEntry.cls ≠ "java/lang/invoke/VarHandle" ∧ (parseMethodDescriptor yJ10_getFirstEntry.desc).map (fun d => d.parameters.length) = some 0 := by decide +kernel
set_option maxRecDepth 100000 in
set_option maxHeartbeats 16000000 in
theorem ct_J10_getFirstEntry {g : GG} {l : Launch} (Ks : List Nat) (ka : Nat → Nat) (va : Nat → Nat) (L : OP) (R : OP) (P : OP) (cl : Nat → Int) (q : Nat) (vs : Option Nat) (rt : Option Nat) (sz : Int) (mc : Int) (rk : Nat → Int) (lo : Nat → Int) (hi : Nat → Int) (hT : TrI Ks L R P rk lo hi rt) : Ct g l yJ10_getFirstEntry (ws_ yJ10_getFirstEntry cJ10_getFirstEntry 2 (Option.some (Jvm.ClassFile.FieldType.object "java/util/TreeMap$Entry"))) 1 12 0 0 [.ref q] [ob g q 14 [.null, va_rf vs, .null, va_rf rt, .int (jI sz), .int (jI mc), .null, .null, .null], nd g Ks ka va L R P cl] (fun v9 Ws9 => ∃ o1 : Option Nat, v9 = some (va_rf o1) ∧ (isHi Ks rk (-2147483649) o1) ∧ Ws9 = [ob g q 14 [.null, va_rf vs, .null, va_rf rt, .int (jI sz), .int (jI mc), .null, .null, .null], nd g Ks ka va L R P cl]) (nox) := by
  refine Ct.of (cc := cJ10_getFirstEntry) (nL := 2) (ret := (Option.some (Jvm.ClassFile.FieldType.object "java/util/TreeMap$Entry"))) (by decide) rfl (Nat.le_of_ble_eq_true rfl) ?_
  intro x hg hl hPo hPx hmc hms F
  subst hg; subst hl
  refine SW.cast (L' := [(0, .ref q)]) ?_ rfl rfl rfl
  refine sw_aload_n (n := 1) F 0 (some q) rfl rfl rfl dJ10_getFirstEntry_0 rfl ?_
  refine sw_get (n := 4) F 0 rfl (k := 3) ⟨(RJ10, TJ10, 9), rfl, by decide, q288, in_J10, Or.inl rfl⟩ rfl dJ10_getFirstEntry_1 rfl ?_
  refine sw_astore_n (n := 5) F rt (L2 := [(1, va_rf rt), (0, .ref q)]) (by first | rfl | simp [va_rf_cat]) rfl (by decide) rfl dJ10_getFirstEntry_4 rfl ?_
  refine sw_aload_n (n := 6) F 0 rt rfl rfl rfl dJ10_getFirstEntry_5 rfl ?_
  refine sw_ifnull (n := 9) F (o := rt) rfl (tgt := 24) dJ10_getFirstEntry_6 (by decide) rfl (fun c_6 => ?_) (fun q_1 c_6 => ?_)
  ·
    refine SW.cast (Ps' := _) (L' := [(1, .null), (0, .ref q)]) (st' := []) ?_ rfl (by rw [c_6]; rfl) (by first | rfl | rw [c_6]; rfl)
    refine sw_aload_n (n := 25) F 0 none rfl rfl rfl dJ10_getFirstEntry_24 rfl ?_
    exact sw_aret F none _ rfl rfl (by first | exact Or.inl ⟨_, rfl⟩ | exact Or.inr ⟨_, rfl⟩) dJ10_getFirstEntry_25 (by rw [hPo]; exact ⟨none, (by first | (congr 3; omega) | (congr 2; omega) | rfl), (by first | exact hT.fstN c_6 | exact hT.fst0 ht2.1 ht2.2 c_13), rfl⟩)
  ·
    refine SW.cast (Ps' := _) (L' := [(1, .ref q_1), (0, .ref q)]) (st' := []) ?_ rfl (by rw [c_6]; rfl) (by first | rfl | rw [c_6]; rfl)
    have K9 : ∀ N9 : Nat, ∀ (t2 : Nat), (t2 ∈ Ks ∧ lo t2 = -2147483649) → ((gM lo hi (some t2)) < N9) → SW x [ob (xg x) q 14 [.null, va_rf vs, .null, va_rf rt, .int (jI sz), .int (jI mc), .null, .null, .null], nd (xg x) Ks ka va L R P cl] 0 0 9 [(0, .ref q), (1, .ref t2)] [] := by
      intro N9; induction N9 with
      | zero => intro t2 ht2 hmu9; omega
      | succ N9 ih9 =>
        intro t2 ht2 hmu9
        refine sw_aload_n (n := 10) F 1 (some t2) rfl rfl rfl dJ10_getFirstEntry_9 rfl ?_
        refine sw_getK (n := 13) F (nd_hO 1 rfl ht2.1) (k := 2) ⟨(RJ41, TJ41, 6), rfl, by decide, q3149, in_J41, Or.inl rfl⟩ (v := va_rf (L t2)) rfl dJ10_getFirstEntry_10 rfl ?_
        refine sw_ifnull (n := 16) F (o := (L t2)) rfl (tgt := 24) dJ10_getFirstEntry_13 (by decide) rfl (fun c_13 => ?_) (fun q_2 c_13 => ?_)
        ·
          refine sw_aload_n (n := 25) F 1 (some t2) rfl rfl rfl dJ10_getFirstEntry_24 rfl ?_
          exact sw_aret F (some t2) _ rfl rfl (by first | exact Or.inl ⟨_, rfl⟩ | exact Or.inr ⟨_, rfl⟩) dJ10_getFirstEntry_25 (by rw [hPo]; exact ⟨some t2, (by first | (congr 3; omega) | (congr 2; omega) | rfl), (by first | exact hT.fstN c_6 | exact hT.fst0 ht2.1 ht2.2 c_13), rfl⟩)
        ·
          refine sw_aload_n (n := 17) F 1 (some t2) rfl rfl rfl dJ10_getFirstEntry_16 rfl ?_
          refine sw_getK (n := 20) F (nd_hO 1 rfl ht2.1) (k := 2) ⟨(RJ41, TJ41, 6), rfl, by decide, q3149, in_J41, Or.inl rfl⟩ (v := .ref q_2) (congrArg (fun o9 => some (va_rf o9)) c_13) dJ10_getFirstEntry_17 rfl ?_
          have hjK : q_2 ∈ Ks := (hT.l ht2.1 c_13).1
          refine sw_astore_n (n := 21) F (some q_2) (L2 := [(1, .ref q_2), (0, .ref q)]) rfl rfl (by decide) rfl dJ10_getFirstEntry_20 rfl ?_
          refine sw_goto F (n := 9) dJ10_getFirstEntry_21 (by decide) ?_
          refine sw_loc [1, 0] (L2 := [(0, .ref q), (1, .ref q_2)]) rfl ?_
          exact ih9 q_2 (by exact ⟨hjK, by have := (hT.l ht2.1 c_13).2.2.1; omega⟩) (by have h8 := hT.gML ht2.1; rw [c_13] at h8; omega)
    refine sw_loc [1, 0] (L2 := [(0, .ref q), (1, .ref q_1)]) rfl ?_
    exact K9 _ q_1 (by exact ⟨(hT.root c_6).1, (hT.root c_6).2.2.1⟩) (Nat.lt_succ_self _)
theorem nd_J10_getHigherEntry : yJ10_getHigherEntry.cls ≠ "java/lang/invoke/MethodHandle" ∧ yJ10_getHigherEntry.cls ≠ "java/lang/invoke/VarHandle" ∧ (parseMethodDescriptor yJ10_getHigherEntry.desc).map (fun d => d.parameters.length) = some 1 := by decide +kernel
set_option maxRecDepth 100000 in
set_option maxHeartbeats 16000000 in
theorem ct_J10_getHigherEntry {g : GG} {l : Launch} (M : Nat → Option PV) (Ks : List Nat) (ka : Nat → Nat) (va : Nat → Nat) (L : OP) (R : OP) (P : OP) (cl : Nat → Int) (q : Nat) (vs : Option Nat) (rt : Option Nat) (sz : Int) (mc : Int) (rk : Nat → Int) (lo : Nat → Int) (hi : Nat → Int) (k : Nat) (z : Int) (hT : TrI Ks L R P rk lo hi rt) (hka : ∀ t, t ∈ Ks → at_ g M (ka t) (vN (rk t))) (hk : at_ g M k (vN z)) (hz : -2147483648 ≤ z ∧ z ≤ 2147483647) : Ct g l yJ10_getHigherEntry (ws_ yJ10_getHigherEntry cJ10_getHigherEntry 6 (Option.some (Jvm.ClassFile.FieldType.object "java/util/TreeMap$Entry"))) 5 97 0 0 [.ref q, .ref k] [ob g q 14 [.null, va_rf vs, .null, va_rf rt, .int (jI sz), .int (jI mc), .null, .null, .null], nd g Ks ka va L R P cl, pl g M] (fun v9 Ws9 => ∃ o1 : Option Nat, v9 = some (va_rf o1) ∧ (isHi Ks rk z o1) ∧ Ws9 = [ob g q 14 [.null, va_rf vs, .null, va_rf rt, .int (jI sz), .int (jI mc), .null, .null, .null], nd g Ks ka va L R P cl, pl g M]) (nox) := by
  refine Ct.of (cc := cJ10_getHigherEntry) (nL := 6) (ret := (Option.some (Jvm.ClassFile.FieldType.object "java/util/TreeMap$Entry"))) (by decide) rfl (Nat.le_of_ble_eq_true rfl) ?_
  intro x hg hl hPo hPx hmc hms F
  subst hg; subst hl
  refine SW.cast (L' := [(0, .ref q), (1, .ref k)]) ?_ rfl rfl rfl
  refine sw_aload_n (n := 1) F 0 (some q) rfl rfl rfl dJ10_getHigherEntry_0 rfl ?_
  refine sw_get (n := 4) F 0 rfl (k := 3) ⟨(RJ10, TJ10, 9), rfl, by decide, q288, in_J10, Or.inl rfl⟩ rfl dJ10_getHigherEntry_1 rfl ?_
  refine sw_astore_n (n := 5) F rt (L2 := [(2, va_rf rt), (0, .ref q), (1, .ref k)]) (by first | rfl | simp [va_rf_cat]) rfl (by decide) rfl dJ10_getHigherEntry_4 rfl ?_
  have K5 : ∀ N5 : Nat, ∀ (o2 : Option Nat), (∀ x9, o2 = some x9 → x9 ∈ Ks ∧ lo x9 ≤ z ∧ z < hi x9) → (o2 = none → rt = none) → ((gM lo hi o2) < N5) → SW x [ob (xg x) q 14 [.null, va_rf vs, .null, va_rf rt, .int (jI sz), .int (jI mc), .null, .null, .null], nd (xg x) Ks ka va L R P cl, pl (xg x) M] 0 0 5 [(0, .ref q), (1, .ref k), (2, va_rf o2)] [] := by
    intro N5; induction N5 with
    | zero => intro o2 hs2 hn2 hmu5; omega
    | succ N5 ih5 =>
      intro o2 hs2 hn2 hmu5
      refine sw_aload_n (n := 6) F 2 o2 rfl rfl rfl dJ10_getHigherEntry_5 rfl ?_
      refine sw_ifnull (n := 9) F (o := o2) rfl (tgt := 99) dJ10_getHigherEntry_6 (by decide) rfl (fun c_6 => ?_) (fun q_1 c_6 => ?_)
      ·
        refine SW.cast (Ps' := _) (L' := [(0, .ref q), (1, .ref k), (2, .null)]) (st' := []) ?_ rfl (by rw [c_6]; rfl) (by first | rfl | rw [c_6]; rfl)
        refine sw_null (n := 100) F dJ10_getHigherEntry_99 rfl ?_
        exact sw_aret F none _ rfl rfl (by first | exact Or.inl ⟨_, rfl⟩ | exact Or.inr ⟨_, rfl⟩) dJ10_getHigherEntry_100 (by rw [hPo]; exact ⟨none, (by first | (congr 3; omega) | (congr 2; omega) | rfl), (by exact hT.fstN (hn2 c_6)), rfl⟩)
      ·
        refine SW.cast (Ps' := _) (L' := [(0, .ref q), (1, .ref k), (2, .ref q_1)]) (st' := []) ?_ rfl (by rw [c_6]; rfl) (by first | rfl | rw [c_6]; rfl)
        have hd : q_1 ∈ Ks ∧ lo q_1 ≤ z ∧ z < hi q_1 := hs2 _ c_6
        have hm : q_1 ∈ Ks := hd.1
        have hkt : at_ (xg x) M (ka q_1) (vN (rk q_1)) := hka _ hm
        have hrz := hT.rng hm
        have hci := ciI_cases z (rk q_1)
        refine sw_aload_n (n := 10) F 0 (some q) rfl rfl rfl dJ10_getHigherEntry_9 rfl ?_
        refine sw_aload_n (n := 11) F 1 (some k) rfl rfl rfl dJ10_getHigherEntry_10 rfl ?_
        refine sw_aload_n (n := 12) F 2 (some q_1) rfl rfl rfl dJ10_getHigherEntry_11 rfl ?_
        refine sw_getK (n := 15) F (nd_hO 1 rfl hm) (k := 0) ⟨(RJ41, TJ41, 6), rfl, by decide, q3145, in_J41, Or.inl rfl⟩ (v := .ref (ka q_1)) rfl dJ10_getHigherEntry_12 rfl ?_
        refine sw_callV (n := 18) F (ct_J10_compare (g := xg x) (l := xl x) M q vs rt sz mc k z (ka q_1) (rk q_1) hk hkt hz (by first | omega | assumption)) (rcv_ob F 0 rfl rfl) q2911 q2912 q2913 q114 q2914 nd_J10_compare rfl (by decide) [0, 2, 1] rfl [nd (xg x) Ks ka va L R P cl] rfl 0 0 ⟨by omega, by omega⟩ [] rfl (Nat.le_of_ble_eq_true rfl) dJ10_getHigherEntry_15 rfl (fun _ _ h => h.elim) (fun v Ws h => ?_)
        obtain ⟨rfl, rfl⟩ := h
        show SW x [ob (xg x) q 14 [.null, va_rf vs, .null, va_rf rt, .int (jI sz), .int (jI mc), .null, .null, .null], pl (xg x) M, nd (xg x) Ks ka va L R P cl] _ _ _ _ [.int (jI (ciI z (rk q_1)))]
        refine sw_istore_n (n := 19) F (L2 := [(3, .int (jI (ciI z (rk q_1)))), (0, .ref q), (1, .ref k), (2, .ref q_1)]) rfl (by decide) rfl dJ10_getHigherEntry_18 rfl ?_
        refine sw_iload_n (n := 20) F 0 rfl rfl dJ10_getHigherEntry_19 rfl ?_
        refine sw_if_ge (n := 23) F (by omega) (tgt := 40) dJ10_getHigherEntry_20 (by decide) rfl (fun c_20 => ?_) (fun c_20 => ?_)
        ·
          refine sw_aload_n (n := 41) F 3 (some q_1) rfl rfl rfl dJ10_getHigherEntry_40 rfl ?_
          refine sw_getK (n := 44) F (nd_hO 2 rfl hm) (k := 3) ⟨(RJ41, TJ41, 6), rfl, by decide, q3150, in_J41, Or.inl rfl⟩ (v := va_rf (R q_1)) rfl dJ10_getHigherEntry_41 rfl ?_
          refine sw_ifnull (n := 47) F (o := (R q_1)) rfl (tgt := 55) dJ10_getHigherEntry_44 (by decide) rfl (fun c_44 => ?_) (fun q_2 c_44 => ?_)
          ·
            refine sw_aload_n (n := 56) F 3 (some q_1) rfl rfl rfl dJ10_getHigherEntry_55 rfl ?_
            refine sw_getK (n := 59) F (nd_hO 2 rfl hm) (k := 4) ⟨(RJ41, TJ41, 6), rfl, by decide, q3152, in_J41, Or.inl rfl⟩ (v := va_rf (P q_1)) rfl dJ10_getHigherEntry_56 rfl ?_
            refine sw_astore (n := 61) F (P q_1) (L2 := [(4, va_rf (P q_1)), (3, .int (jI (ciI z (rk q_1)))), (0, .ref q), (1, .ref k), (2, .ref q_1)]) (by first | rfl | simp [va_rf_cat]) rfl (by decide) dJ10_getHigherEntry_59 rfl ?_
            refine sw_aload_n (n := 62) F 4 (some q_1) rfl rfl rfl dJ10_getHigherEntry_61 rfl ?_
            refine sw_astore (n := 64) F (some q_1) (L2 := [(5, .ref q_1), (4, va_rf (P q_1)), (3, .int (jI (ciI z (rk q_1)))), (0, .ref q), (1, .ref k), (2, .ref q_1)]) (by first | rfl | simp [va_rf_cat]) rfl (by decide) dJ10_getHigherEntry_62 rfl ?_
            have K64 : ∀ N64 : Nat, ∀ (c2 : Nat) (p2 : Option Nat), (c2 ∈ Ks) → (P c2 = p2) → (hi c2 = hi q_1) → ((wd lo hi c2) < N64) → SW x [ob (xg x) q 14 [.null, va_rf vs, .null, va_rf rt, .int (jI sz), .int (jI mc), .null, .null, .null], pl (xg x) M, nd (xg x) Ks ka va L R P cl] 0 0 64 [(4, va_rf p2), (5, .ref c2)] [] := by
              intro N64; induction N64 with
              | zero => intro c2 p2 hc2 hcp hch hmu64; omega
              | succ N64 ih64 =>
                intro c2 p2 hc2 hcp hch hmu64
                refine sw_aload (n := 66) F 0 p2 rfl rfl dJ10_getHigherEntry_64 rfl ?_
                refine sw_ifnull (n := 69) F (o := p2) rfl (tgt := 93) dJ10_getHigherEntry_66 (by decide) rfl (fun c_66 => ?_) (fun q_3 c_66 => ?_)
                ·
                  refine SW.cast (Ps' := _) (L' := [(4, .null), (5, .ref c2)]) (st' := []) ?_ rfl (by rw [c_66]; rfl) (by first | rfl | rw [c_66]; rfl)
                  refine sw_aload (n := 95) F 0 none rfl rfl dJ10_getHigherEntry_93 rfl ?_
                  refine sw_perm [0, 2, 1] rfl [ob (xg x) q 14 [.null, va_rf vs, .null, va_rf rt, .int (jI sz), .int (jI mc), .null, .null, .null], nd (xg x) Ks ka va L R P cl, pl (xg x) M] rfl ?_
                  exact sw_aret F none _ rfl rfl (by first | exact Or.inl ⟨_, rfl⟩ | exact Or.inr ⟨_, rfl⟩) dJ10_getHigherEntry_95 (by rw [hPo]; exact ⟨none, (by first | (congr 3; omega) | (congr 2; omega) | rfl), (by first | (exact hT.hiNone hm c_44 (by omega) hc2 (hcp.trans c_66) hch) | (exact hT.hiSome hm c_44 (by omega) (by omega) hc2 (hcp.trans c_66) hch c_76)), rfl⟩)
                ·
                  refine SW.cast (Ps' := _) (L' := [(4, .ref q_3), (5, .ref c2)]) (st' := []) ?_ rfl (by rw [c_66]; rfl) (by first | rfl | rw [c_66]; rfl)
                  refine sw_aload (n := 71) F 1 (some c2) rfl rfl dJ10_getHigherEntry_69 rfl ?_
                  have hpK : q_3 ∈ Ks := (hT.p hc2 (hcp.trans c_66)).1
                  refine sw_aload (n := 73) F 0 (some q_3) rfl rfl dJ10_getHigherEntry_71 rfl ?_
                  refine sw_getK (n := 76) F (nd_hO 2 rfl hpK) (k := 3) ⟨(RJ41, TJ41, 6), rfl, by decide, q3150, in_J41, Or.inl rfl⟩ (v := va_rf (R q_3)) rfl dJ10_getHigherEntry_73 rfl ?_
                  refine sw_acmp_ne (n := 79) F (rx := (some c2)) (ry := (R q_3)) rfl rfl (tgt := 93) dJ10_getHigherEntry_76 (by decide) rfl (fun c_76 => ?_) (fun c_76 => ?_)
                  ·
                    refine sw_aload (n := 95) F 0 (some q_3) rfl rfl dJ10_getHigherEntry_93 rfl ?_
                    refine sw_perm [0, 2, 1] rfl [ob (xg x) q 14 [.null, va_rf vs, .null, va_rf rt, .int (jI sz), .int (jI mc), .null, .null, .null], nd (xg x) Ks ka va L R P cl, pl (xg x) M] rfl ?_
                    exact sw_aret F (some q_3) _ rfl rfl (by first | exact Or.inl ⟨_, rfl⟩ | exact Or.inr ⟨_, rfl⟩) dJ10_getHigherEntry_95 (by rw [hPo]; exact ⟨some q_3, (by first | (congr 3; omega) | (congr 2; omega) | rfl), (by first | (exact hT.hiNone hm c_44 (by omega) hc2 (hcp.trans c_66) hch) | (exact hT.hiSome hm c_44 (by omega) (by omega) hc2 (hcp.trans c_66) hch c_76)), rfl⟩)
                  ·
                    refine sw_aload (n := 81) F 0 (some q_3) rfl rfl dJ10_getHigherEntry_79 rfl ?_
                    refine sw_astore (n := 83) F (some q_3) (L2 := [(5, .ref q_3), (4, .ref q_3)]) rfl rfl (by decide) dJ10_getHigherEntry_81 rfl ?_
                    refine sw_aload (n := 85) F 1 (some q_3) rfl rfl dJ10_getHigherEntry_83 rfl ?_
                    refine sw_getK (n := 88) F (nd_hO 2 rfl hpK) (k := 4) ⟨(RJ41, TJ41, 6), rfl, by decide, q3152, in_J41, Or.inl rfl⟩ (v := va_rf (P q_3)) rfl dJ10_getHigherEntry_85 rfl ?_
                    refine sw_astore (n := 90) F (P q_3) (L2 := [(4, va_rf (P q_3)), (5, .ref q_3)]) (by first | rfl | simp [va_rf_cat]) rfl (by decide) dJ10_getHigherEntry_88 rfl ?_
                    refine sw_goto F (n := 64) dJ10_getHigherEntry_90 (by decide) ?_
                    exact ih64 q_3 (P q_3) (by first | exact hpK | exact hm) (by first | rfl | assumption) (by first | rfl | (have h8 := hT.r hpK c_76.symm; omega)) (by have h8 := hT.wdl hc2 (hcp.trans c_66); omega)
            refine sw_loc [1, 0] (L2 := [(4, va_rf (P q_1)), (5, .ref q_1)]) rfl ?_
            exact K64 _ q_1 (P q_1) (by first | exact hpK | exact hm) (by first | rfl | assumption) (by first | rfl | (have h8 := hT.r hpK c_76.symm; omega)) (Nat.lt_succ_self _)
          ·
            refine sw_aload_n (n := 48) F 3 (some q_1) rfl rfl rfl dJ10_getHigherEntry_47 rfl ?_
            refine sw_getK (n := 51) F (nd_hO 2 rfl hm) (k := 3) ⟨(RJ41, TJ41, 6), rfl, by decide, q3150, in_J41, Or.inl rfl⟩ (v := .ref q_2) (congrArg (fun o9 => some (va_rf o9)) c_44) dJ10_getHigherEntry_48 rfl ?_
            refine sw_astore_n (n := 52) F (some q_2) (L2 := [(2, .ref q_2), (3, .int (jI (ciI z (rk q_1)))), (0, .ref q), (1, .ref k)]) rfl rfl (by decide) rfl dJ10_getHigherEntry_51 rfl ?_
            refine sw_goto F (n := 96) dJ10_getHigherEntry_52 (by decide) ?_
            have hj := hT.r hm c_44
            have hg := hT.gMR hm; rw [c_44] at hg
            have hg0 : gM lo hi o2 = gM lo hi (some q_1) := by rw [c_6]
            refine sw_goto F (n := 5) dJ10_getHigherEntry_96 (by decide) ?_
            refine sw_perm [0, 2, 1] rfl [ob (xg x) q 14 [.null, va_rf vs, .null, va_rf rt, .int (jI sz), .int (jI mc), .null, .null, .null], nd (xg x) Ks ka va L R P cl, pl (xg x) M] rfl ?_
            refine sw_loc [2, 3, 0] (L2 := [(0, .ref q), (1, .ref k), (2, .ref q_2)]) rfl ?_
            exact ih5 (some q_2) (by intro x9 e9; cases e9; exact ⟨hj.1, by omega, by omega⟩) (by intro e9; cases e9) (by omega)
        ·
          refine sw_aload_n (n := 24) F 3 (some q_1) rfl rfl rfl dJ10_getHigherEntry_23 rfl ?_
          refine sw_getK (n := 27) F (nd_hO 2 rfl hm) (k := 2) ⟨(RJ41, TJ41, 6), rfl, by decide, q3149, in_J41, Or.inl rfl⟩ (v := va_rf (L q_1)) rfl dJ10_getHigherEntry_24 rfl ?_
          refine sw_ifnull (n := 30) F (o := (L q_1)) rfl (tgt := 38) dJ10_getHigherEntry_27 (by decide) rfl (fun c_27 => ?_) (fun q_4 c_27 => ?_)
          ·
            refine sw_aload_n (n := 39) F 3 (some q_1) rfl rfl rfl dJ10_getHigherEntry_38 rfl ?_
            refine sw_perm [0, 2, 1] rfl [ob (xg x) q 14 [.null, va_rf vs, .null, va_rf rt, .int (jI sz), .int (jI mc), .null, .null, .null], nd (xg x) Ks ka va L R P cl, pl (xg x) M] rfl ?_
            exact sw_aret F (some q_1) _ rfl rfl (by first | exact Or.inl ⟨_, rfl⟩ | exact Or.inr ⟨_, rfl⟩) dJ10_getHigherEntry_39 (by rw [hPo]; exact ⟨some q_1, (by first | (congr 3; omega) | (congr 2; omega) | rfl), (by exact hT.hiL0 hm c_27 (by omega) (by omega)), rfl⟩)
          ·
            refine sw_aload_n (n := 31) F 3 (some q_1) rfl rfl rfl dJ10_getHigherEntry_30 rfl ?_
            refine sw_getK (n := 34) F (nd_hO 2 rfl hm) (k := 2) ⟨(RJ41, TJ41, 6), rfl, by decide, q3149, in_J41, Or.inl rfl⟩ (v := .ref q_4) (congrArg (fun o9 => some (va_rf o9)) c_27) dJ10_getHigherEntry_31 rfl ?_
            refine sw_astore_n (n := 35) F (some q_4) (L2 := [(2, .ref q_4), (3, .int (jI (ciI z (rk q_1)))), (0, .ref q), (1, .ref k)]) rfl rfl (by decide) rfl dJ10_getHigherEntry_34 rfl ?_
            refine sw_goto F (n := 96) dJ10_getHigherEntry_35 (by decide) ?_
            have hj := hT.l hm c_27
            have hg := hT.gML hm; rw [c_27] at hg
            have hg0 : gM lo hi o2 = gM lo hi (some q_1) := by rw [c_6]
            refine sw_goto F (n := 5) dJ10_getHigherEntry_96 (by decide) ?_
            refine sw_perm [0, 2, 1] rfl [ob (xg x) q 14 [.null, va_rf vs, .null, va_rf rt, .int (jI sz), .int (jI mc), .null, .null, .null], nd (xg x) Ks ka va L R P cl, pl (xg x) M] rfl ?_
            refine sw_loc [2, 3, 0] (L2 := [(0, .ref q), (1, .ref k), (2, .ref q_4)]) rfl ?_
            exact ih5 (some q_4) (by intro x9 e9; cases e9; exact ⟨hj.1, by omega, by omega⟩) (by intro e9; cases e9) (by omega)
  refine sw_loc [1, 2, 0] (L2 := [(0, .ref q), (1, .ref k), (2, va_rf rt)]) rfl ?_
  exact K5 _ rt (by intro x9 e9; have h8 := hT.root e9; exact ⟨h8.1, by omega, by omega⟩) (by exact id) (Nat.lt_succ_self _)
theorem nd_J10_getCeilingEntry : yJ10_getCeilingEntry.cls ≠ "java/lang/invoke/MethodHandle" ∧ yJ10_getCeilingEntry.cls ≠ "java/lang/invoke/VarHandle" ∧ (parseMethodDescriptor yJ10_getCeilingEntry.desc).map (fun d => d.parameters.length) = some 1 := by decide +kernel
set_option maxRecDepth 100000 in
set_option maxHeartbeats 16000000 in
theorem ct_J10_getCeilingEntry {g : GG} {l : Launch} (M : Nat → Option PV) (Ks : List Nat) (ka : Nat → Nat) (va : Nat → Nat) (L : OP) (R : OP) (P : OP) (cl : Nat → Int) (q : Nat) (vs : Option Nat) (rt : Option Nat) (sz : Int) (mc : Int) (rk : Nat → Int) (lo : Nat → Int) (hi : Nat → Int) (k : Nat) (z : Int) (hT : TrI Ks L R P rk lo hi rt) (hka : ∀ t, t ∈ Ks → at_ g M (ka t) (vN (rk t))) (hk : at_ g M k (vN z)) (hz : -2147483648 ≤ z ∧ z ≤ 2147483647) : Ct g l yJ10_getCeilingEntry (ws_ yJ10_getCeilingEntry cJ10_getCeilingEntry 6 (Option.some (Jvm.ClassFile.FieldType.object "java/util/TreeMap$Entry"))) 5 97 0 0 [.ref q, .ref k] [ob g q 14 [.null, va_rf vs, .null, va_rf rt, .int (jI sz), .int (jI mc), .null, .null, .null], nd g Ks ka va L R P cl, pl g M] (fun v9 Ws9 => ∃ o1 : Option Nat, v9 = some (va_rf o1) ∧ (isGe Ks rk z o1) ∧ Ws9 = [ob g q 14 [.null, va_rf vs, .null, va_rf rt, .int (jI sz), .int (jI mc), .null, .null, .null], nd g Ks ka va L R P cl, pl g M]) (nox) := by
  refine Ct.of (cc := cJ10_getCeilingEntry) (nL := 6) (ret := (Option.some (Jvm.ClassFile.FieldType.object "java/util/TreeMap$Entry"))) (by decide) rfl (Nat.le_of_ble_eq_true rfl) ?_
  intro x hg hl hPo hPx hmc hms F
  subst hg; subst hl
  refine SW.cast (L' := [(0, .ref q), (1, .ref k)]) ?_ rfl rfl rfl
  refine sw_aload_n (n := 1) F 0 (some q) rfl rfl rfl dJ10_getCeilingEntry_0 rfl ?_
  refine sw_get (n := 4) F 0 rfl (k := 3) ⟨(RJ10, TJ10, 9), rfl, by decide, q288, in_J10, Or.inl rfl⟩ rfl dJ10_getCeilingEntry_1 rfl ?_
  refine sw_astore_n (n := 5) F rt (L2 := [(2, va_rf rt), (0, .ref q), (1, .ref k)]) (by first | rfl | simp [va_rf_cat]) rfl (by decide) rfl dJ10_getCeilingEntry_4 rfl ?_
  have K5 : ∀ N5 : Nat, ∀ (o2 : Option Nat), (∀ x9, o2 = some x9 → x9 ∈ Ks ∧ lo x9 < z ∧ z < hi x9) → (o2 = none → rt = none) → ((gM lo hi o2) < N5) → SW x [ob (xg x) q 14 [.null, va_rf vs, .null, va_rf rt, .int (jI sz), .int (jI mc), .null, .null, .null], nd (xg x) Ks ka va L R P cl, pl (xg x) M] 0 0 5 [(0, .ref q), (1, .ref k), (2, va_rf o2)] [] := by
    intro N5; induction N5 with
    | zero => intro o2 hs2 hn2 hmu5; omega
    | succ N5 ih5 =>
      intro o2 hs2 hn2 hmu5
      refine sw_aload_n (n := 6) F 2 o2 rfl rfl rfl dJ10_getCeilingEntry_5 rfl ?_
      refine sw_ifnull (n := 9) F (o := o2) rfl (tgt := 105) dJ10_getCeilingEntry_6 (by decide) rfl (fun c_6 => ?_) (fun q_1 c_6 => ?_)
      ·
        refine SW.cast (Ps' := _) (L' := [(0, .ref q), (1, .ref k), (2, .null)]) (st' := []) ?_ rfl (by rw [c_6]; rfl) (by first | rfl | rw [c_6]; rfl)
        refine sw_null (n := 106) F dJ10_getCeilingEntry_105 rfl ?_
        exact sw_aret F none _ rfl rfl (by first | exact Or.inl ⟨_, rfl⟩ | exact Or.inr ⟨_, rfl⟩) dJ10_getCeilingEntry_106 (by rw [hPo]; exact ⟨none, (by first | (congr 3; omega) | (congr 2; omega) | rfl), (by exact ⟨fun y e => (by cases e), fun _ t ht => absurd ht (hT.no (hn2 c_6) t)⟩), rfl⟩)
      ·
        refine SW.cast (Ps' := _) (L' := [(0, .ref q), (1, .ref k), (2, .ref q_1)]) (st' := []) ?_ rfl (by rw [c_6]; rfl) (by first | rfl | rw [c_6]; rfl)
        have hd : q_1 ∈ Ks ∧ lo q_1 < z ∧ z < hi q_1 := hs2 _ c_6
        have hm : q_1 ∈ Ks := hd.1
        have hkt : at_ (xg x) M (ka q_1) (vN (rk q_1)) := hka _ hm
        have hrz := hT.rng hm
        have hci := ciI_cases z (rk q_1)
        refine sw_aload_n (n := 10) F 0 (some q) rfl rfl rfl dJ10_getCeilingEntry_9 rfl ?_
        refine sw_aload_n (n := 11) F 1 (some k) rfl rfl rfl dJ10_getCeilingEntry_10 rfl ?_
        refine sw_aload_n (n := 12) F 2 (some q_1) rfl rfl rfl dJ10_getCeilingEntry_11 rfl ?_
        refine sw_getK (n := 15) F (nd_hO 1 rfl hm) (k := 0) ⟨(RJ41, TJ41, 6), rfl, by decide, q3145, in_J41, Or.inl rfl⟩ (v := .ref (ka q_1)) rfl dJ10_getCeilingEntry_12 rfl ?_
        refine sw_callV (n := 18) F (ct_J10_compare (g := xg x) (l := xl x) M q vs rt sz mc k z (ka q_1) (rk q_1) hk hkt hz (by first | omega | assumption)) (rcv_ob F 0 rfl rfl) q2911 q2912 q2913 q114 q2914 nd_J10_compare rfl (by decide) [0, 2, 1] rfl [nd (xg x) Ks ka va L R P cl] rfl 0 0 ⟨by omega, by omega⟩ [] rfl (Nat.le_of_ble_eq_true rfl) dJ10_getCeilingEntry_15 rfl (fun _ _ h => h.elim) (fun v Ws h => ?_)
        obtain ⟨rfl, rfl⟩ := h
        show SW x [ob (xg x) q 14 [.null, va_rf vs, .null, va_rf rt, .int (jI sz), .int (jI mc), .null, .null, .null], pl (xg x) M, nd (xg x) Ks ka va L R P cl] _ _ _ _ [.int (jI (ciI z (rk q_1)))]
        refine sw_istore_n (n := 19) F (L2 := [(3, .int (jI (ciI z (rk q_1)))), (0, .ref q), (1, .ref k), (2, .ref q_1)]) rfl (by decide) rfl dJ10_getCeilingEntry_18 rfl ?_
        refine sw_iload_n (n := 20) F 0 rfl rfl dJ10_getCeilingEntry_19 rfl ?_
        refine sw_if_ge (n := 23) F (by omega) (tgt := 40) dJ10_getCeilingEntry_20 (by decide) rfl (fun c_20 => ?_) (fun c_20 => ?_)
        ·
          refine sw_iload_n (n := 41) F 0 rfl rfl dJ10_getCeilingEntry_40 rfl ?_
          refine sw_if_le (n := 44) F (by omega) (tgt := 100) dJ10_getCeilingEntry_41 (by decide) rfl (fun c_41 => ?_) (fun c_41 => ?_)
          ·
            refine sw_aload_n (n := 101) F 3 (some q_1) rfl rfl rfl dJ10_getCeilingEntry_100 rfl ?_
            refine sw_perm [0, 2, 1] rfl [ob (xg x) q 14 [.null, va_rf vs, .null, va_rf rt, .int (jI sz), .int (jI mc), .null, .null, .null], nd (xg x) Ks ka va L R P cl, pl (xg x) M] rfl ?_
            exact sw_aret F (some q_1) _ rfl rfl (by first | exact Or.inl ⟨_, rfl⟩ | exact Or.inr ⟨_, rfl⟩) dJ10_getCeilingEntry_101 (by rw [hPo]; exact ⟨some q_1, (by first | (congr 3; omega) | (congr 2; omega) | rfl), (by exact isGe_eq hm (by omega)), rfl⟩)
          ·
            refine sw_aload_n (n := 45) F 3 (some q_1) rfl rfl rfl dJ10_getCeilingEntry_44 rfl ?_
            refine sw_getK (n := 48) F (nd_hO 2 rfl hm) (k := 3) ⟨(RJ41, TJ41, 6), rfl, by decide, q3150, in_J41, Or.inl rfl⟩ (v := va_rf (R q_1)) rfl dJ10_getCeilingEntry_45 rfl ?_
            refine sw_ifnull (n := 51) F (o := (R q_1)) rfl (tgt := 59) dJ10_getCeilingEntry_48 (by decide) rfl (fun c_48 => ?_) (fun q_2 c_48 => ?_)
            ·
              refine sw_aload_n (n := 60) F 3 (some q_1) rfl rfl rfl dJ10_getCeilingEntry_59 rfl ?_
              refine sw_getK (n := 63) F (nd_hO 2 rfl hm) (k := 4) ⟨(RJ41, TJ41, 6), rfl, by decide, q3152, in_J41, Or.inl rfl⟩ (v := va_rf (P q_1)) rfl dJ10_getCeilingEntry_60 rfl ?_
              refine sw_astore (n := 65) F (P q_1) (L2 := [(4, va_rf (P q_1)), (3, .int (jI (ciI z (rk q_1)))), (0, .ref q), (1, .ref k), (2, .ref q_1)]) (by first | rfl | simp [va_rf_cat]) rfl (by decide) dJ10_getCeilingEntry_63 rfl ?_
              refine sw_aload_n (n := 66) F 4 (some q_1) rfl rfl rfl dJ10_getCeilingEntry_65 rfl ?_
              refine sw_astore (n := 68) F (some q_1) (L2 := [(5, .ref q_1), (4, va_rf (P q_1)), (3, .int (jI (ciI z (rk q_1)))), (0, .ref q), (1, .ref k), (2, .ref q_1)]) (by first | rfl | simp [va_rf_cat]) rfl (by decide) dJ10_getCeilingEntry_66 rfl ?_
              have K68 : ∀ N68 : Nat, ∀ (c2 : Nat) (p2 : Option Nat), (c2 ∈ Ks) → (P c2 = p2) → (hi c2 = hi q_1) → ((wd lo hi c2) < N68) → SW x [ob (xg x) q 14 [.null, va_rf vs, .null, va_rf rt, .int (jI sz), .int (jI mc), .null, .null, .null], pl (xg x) M, nd (xg x) Ks ka va L R P cl] 0 0 68 [(4, va_rf p2), (5, .ref c2)] [] := by
                intro N68; induction N68 with
                | zero => intro c2 p2 hc2 hcp hch hmu68; omega
                | succ N68 ih68 =>
                  intro c2 p2 hc2 hcp hch hmu68
                  refine sw_aload (n := 70) F 0 p2 rfl rfl dJ10_getCeilingEntry_68 rfl ?_
                  refine sw_ifnull (n := 73) F (o := p2) rfl (tgt := 97) dJ10_getCeilingEntry_70 (by decide) rfl (fun c_70 => ?_) (fun q_3 c_70 => ?_)
                  ·
                    refine SW.cast (Ps' := _) (L' := [(4, .null), (5, .ref c2)]) (st' := []) ?_ rfl (by rw [c_70]; rfl) (by first | rfl | rw [c_70]; rfl)
                    refine sw_aload (n := 99) F 0 none rfl rfl dJ10_getCeilingEntry_97 rfl ?_
                    refine sw_perm [0, 2, 1] rfl [ob (xg x) q 14 [.null, va_rf vs, .null, va_rf rt, .int (jI sz), .int (jI mc), .null, .null, .null], nd (xg x) Ks ka va L R P cl, pl (xg x) M] rfl ?_
                    exact sw_aret F none _ rfl rfl (by first | exact Or.inl ⟨_, rfl⟩ | exact Or.inr ⟨_, rfl⟩) dJ10_getCeilingEntry_99 (by rw [hPo]; exact ⟨none, (by first | (congr 3; omega) | (congr 2; omega) | rfl), (by first | (exact hT.geNone hm c_48 (by omega) hc2 (hcp.trans c_70) hch) | (exact hT.geSome hm c_48 (by omega) (by omega) hc2 (hcp.trans c_70) hch c_80)), rfl⟩)
                  ·
                    refine SW.cast (Ps' := _) (L' := [(4, .ref q_3), (5, .ref c2)]) (st' := []) ?_ rfl (by rw [c_70]; rfl) (by first | rfl | rw [c_70]; rfl)
                    refine sw_aload (n := 75) F 1 (some c2) rfl rfl dJ10_getCeilingEntry_73 rfl ?_
                    have hpK : q_3 ∈ Ks := (hT.p hc2 (hcp.trans c_70)).1
                    refine sw_aload (n := 77) F 0 (some q_3) rfl rfl dJ10_getCeilingEntry_75 rfl ?_
                    refine sw_getK (n := 80) F (nd_hO 2 rfl hpK) (k := 3) ⟨(RJ41, TJ41, 6), rfl, by decide, q3150, in_J41, Or.inl rfl⟩ (v := va_rf (R q_3)) rfl dJ10_getCeilingEntry_77 rfl ?_
                    refine sw_acmp_ne (n := 83) F (rx := (some c2)) (ry := (R q_3)) rfl rfl (tgt := 97) dJ10_getCeilingEntry_80 (by decide) rfl (fun c_80 => ?_) (fun c_80 => ?_)
                    ·
                      refine sw_aload (n := 99) F 0 (some q_3) rfl rfl dJ10_getCeilingEntry_97 rfl ?_
                      refine sw_perm [0, 2, 1] rfl [ob (xg x) q 14 [.null, va_rf vs, .null, va_rf rt, .int (jI sz), .int (jI mc), .null, .null, .null], nd (xg x) Ks ka va L R P cl, pl (xg x) M] rfl ?_
                      exact sw_aret F (some q_3) _ rfl rfl (by first | exact Or.inl ⟨_, rfl⟩ | exact Or.inr ⟨_, rfl⟩) dJ10_getCeilingEntry_99 (by rw [hPo]; exact ⟨some q_3, (by first | (congr 3; omega) | (congr 2; omega) | rfl), (by first | (exact hT.geNone hm c_48 (by omega) hc2 (hcp.trans c_70) hch) | (exact hT.geSome hm c_48 (by omega) (by omega) hc2 (hcp.trans c_70) hch c_80)), rfl⟩)
                    ·
                      refine sw_aload (n := 85) F 0 (some q_3) rfl rfl dJ10_getCeilingEntry_83 rfl ?_
                      refine sw_astore (n := 87) F (some q_3) (L2 := [(5, .ref q_3), (4, .ref q_3)]) rfl rfl (by decide) dJ10_getCeilingEntry_85 rfl ?_
                      refine sw_aload (n := 89) F 1 (some q_3) rfl rfl dJ10_getCeilingEntry_87 rfl ?_
                      refine sw_getK (n := 92) F (nd_hO 2 rfl hpK) (k := 4) ⟨(RJ41, TJ41, 6), rfl, by decide, q3152, in_J41, Or.inl rfl⟩ (v := va_rf (P q_3)) rfl dJ10_getCeilingEntry_89 rfl ?_
                      refine sw_astore (n := 94) F (P q_3) (L2 := [(4, va_rf (P q_3)), (5, .ref q_3)]) (by first | rfl | simp [va_rf_cat]) rfl (by decide) dJ10_getCeilingEntry_92 rfl ?_
                      refine sw_goto F (n := 68) dJ10_getCeilingEntry_94 (by decide) ?_
                      exact ih68 q_3 (P q_3) (by first | exact hpK | exact hm) (by first | rfl | assumption) (by first | rfl | (have h8 := hT.r hpK c_80.symm; omega)) (by have h8 := hT.wdl hc2 (hcp.trans c_70); omega)
              refine sw_loc [1, 0] (L2 := [(4, va_rf (P q_1)), (5, .ref q_1)]) rfl ?_
              exact K68 _ q_1 (P q_1) (by first | exact hpK | exact hm) (by first | rfl | assumption) (by first | rfl | (have h8 := hT.r hpK c_80.symm; omega)) (Nat.lt_succ_self _)
            ·
              refine sw_aload_n (n := 52) F 3 (some q_1) rfl rfl rfl dJ10_getCeilingEntry_51 rfl ?_
              refine sw_getK (n := 55) F (nd_hO 2 rfl hm) (k := 3) ⟨(RJ41, TJ41, 6), rfl, by decide, q3150, in_J41, Or.inl rfl⟩ (v := .ref q_2) (congrArg (fun o9 => some (va_rf o9)) c_48) dJ10_getCeilingEntry_52 rfl ?_
              refine sw_astore_n (n := 56) F (some q_2) (L2 := [(2, .ref q_2), (3, .int (jI (ciI z (rk q_1)))), (0, .ref q), (1, .ref k)]) rfl rfl (by decide) rfl dJ10_getCeilingEntry_55 rfl ?_
              refine sw_goto F (n := 102) dJ10_getCeilingEntry_56 (by decide) ?_
              have hj := hT.r hm c_48
              have hg := hT.gMR hm; rw [c_48] at hg
              have hg0 : gM lo hi o2 = gM lo hi (some q_1) := by rw [c_6]
              refine sw_goto F (n := 5) dJ10_getCeilingEntry_102 (by decide) ?_
              refine sw_perm [0, 2, 1] rfl [ob (xg x) q 14 [.null, va_rf vs, .null, va_rf rt, .int (jI sz), .int (jI mc), .null, .null, .null], nd (xg x) Ks ka va L R P cl, pl (xg x) M] rfl ?_
              refine sw_loc [2, 3, 0] (L2 := [(0, .ref q), (1, .ref k), (2, .ref q_2)]) rfl ?_
              exact ih5 (some q_2) (by intro x9 e9; cases e9; exact ⟨hj.1, by omega, by omega⟩) (by intro e9; cases e9) (by omega)
        ·
          refine sw_aload_n (n := 24) F 3 (some q_1) rfl rfl rfl dJ10_getCeilingEntry_23 rfl ?_
          refine sw_getK (n := 27) F (nd_hO 2 rfl hm) (k := 2) ⟨(RJ41, TJ41, 6), rfl, by decide, q3149, in_J41, Or.inl rfl⟩ (v := va_rf (L q_1)) rfl dJ10_getCeilingEntry_24 rfl ?_
          refine sw_ifnull (n := 30) F (o := (L q_1)) rfl (tgt := 38) dJ10_getCeilingEntry_27 (by decide) rfl (fun c_27 => ?_) (fun q_4 c_27 => ?_)
          ·
            refine sw_aload_n (n := 39) F 3 (some q_1) rfl rfl rfl dJ10_getCeilingEntry_38 rfl ?_
            refine sw_perm [0, 2, 1] rfl [ob (xg x) q 14 [.null, va_rf vs, .null, va_rf rt, .int (jI sz), .int (jI mc), .null, .null, .null], nd (xg x) Ks ka va L R P cl, pl (xg x) M] rfl ?_
            exact sw_aret F (some q_1) _ rfl rfl (by first | exact Or.inl ⟨_, rfl⟩ | exact Or.inr ⟨_, rfl⟩) dJ10_getCeilingEntry_39 (by rw [hPo]; exact ⟨some q_1, (by first | (congr 3; omega) | (congr 2; omega) | rfl), (by exact hT.geL0 hm c_27 (by omega) (by omega)), rfl⟩)
          ·
            refine sw_aload_n (n := 31) F 3 (some q_1) rfl rfl rfl dJ10_getCeilingEntry_30 rfl ?_
            refine sw_getK (n := 34) F (nd_hO 2 rfl hm) (k := 2) ⟨(RJ41, TJ41, 6), rfl, by decide, q3149, in_J41, Or.inl rfl⟩ (v := .ref q_4) (congrArg (fun o9 => some (va_rf o9)) c_27) dJ10_getCeilingEntry_31 rfl ?_
            refine sw_astore_n (n := 35) F (some q_4) (L2 := [(2, .ref q_4), (3, .int (jI (ciI z (rk q_1)))), (0, .ref q), (1, .ref k)]) rfl rfl (by decide) rfl dJ10_getCeilingEntry_34 rfl ?_
            refine sw_goto F (n := 102) dJ10_getCeilingEntry_35 (by decide) ?_
            have hj := hT.l hm c_27
            have hg := hT.gML hm; rw [c_27] at hg
            have hg0 : gM lo hi o2 = gM lo hi (some q_1) := by rw [c_6]
            refine sw_goto F (n := 5) dJ10_getCeilingEntry_102 (by decide) ?_
            refine sw_perm [0, 2, 1] rfl [ob (xg x) q 14 [.null, va_rf vs, .null, va_rf rt, .int (jI sz), .int (jI mc), .null, .null, .null], nd (xg x) Ks ka va L R P cl, pl (xg x) M] rfl ?_
            refine sw_loc [2, 3, 0] (L2 := [(0, .ref q), (1, .ref k), (2, .ref q_4)]) rfl ?_
            exact ih5 (some q_4) (by intro x9 e9; cases e9; exact ⟨hj.1, by omega, by omega⟩) (by intro e9; cases e9) (by omega)
  refine sw_loc [1, 2, 0] (L2 := [(0, .ref q), (1, .ref k), (2, va_rf rt)]) rfl ?_
  exact K5 _ rt (by intro x9 e9; have h8 := hT.root e9; exact ⟨h8.1, by omega, by omega⟩) (by exact id) (Nat.lt_succ_self _)
theorem nd_J10_getFloorEntry : yJ10_getFloorEntry.cls ≠ "java/lang/invoke/MethodHandle" ∧ yJ10_getFloorEntry.cls ≠ "java/lang/invoke/VarHandle" ∧ (parseMethodDescriptor yJ10_getFloorEntry.desc).map (fun d => d.parameters.length) = some 1 := by decide +kernel
set_option maxRecDepth 100000 in
set_option maxHeartbeats 16000000 in
theorem ct_J10_getFloorEntry {g : GG} {l : Launch} (M : Nat → Option PV) (Ks : List Nat) (ka : Nat → Nat) (va : Nat → Nat) (L : OP) (R : OP) (P : OP) (cl : Nat → Int) (q : Nat) (vs : Option Nat) (rt : Option Nat) (sz : Int) (mc : Int) (rk : Nat → Int) (lo : Nat → Int) (hi : Nat → Int) (k : Nat) (z : Int) (hT : TrI Ks L R P rk lo hi rt) (hka : ∀ t, t ∈ Ks → at_ g M (ka t) (vN (rk t))) (hk : at_ g M k (vN z)) (hz : -2147483648 ≤ z ∧ z ≤ 2147483647) : Ct g l yJ10_getFloorEntry (ws_ yJ10_getFloorEntry cJ10_getFloorEntry 6 (Option.some (Jvm.ClassFile.FieldType.object "java/util/TreeMap$Entry"))) 5 97 0 0 [.ref q, .ref k] [ob g q 14 [.null, va_rf vs, .null, va_rf rt, .int (jI sz), .int (jI mc), .null, .null, .null], nd g Ks ka va L R P cl, pl g M] (fun v9 Ws9 => ∃ o1 : Option Nat, v9 = some (va_rf o1) ∧ (isLe Ks rk z o1) ∧ Ws9 = [ob g q 14 [.null, va_rf vs, .null, va_rf rt, .int (jI sz), .int (jI mc), .null, .null, .null], nd g Ks ka va L R P cl, pl g M]) (nox) := by
  refine Ct.of (cc := cJ10_getFloorEntry) (nL := 6) (ret := (Option.some (Jvm.ClassFile.FieldType.object "java/util/TreeMap$Entry"))) (by decide) rfl (Nat.le_of_ble_eq_true rfl) ?_
  intro x hg hl hPo hPx hmc hms F
  subst hg; subst hl
  refine SW.cast (L' := [(0, .ref q), (1, .ref k)]) ?_ rfl rfl rfl
  refine sw_aload_n (n := 1) F 0 (some q) rfl rfl rfl dJ10_getFloorEntry_0 rfl ?_
  refine sw_get (n := 4) F 0 rfl (k := 3) ⟨(RJ10, TJ10, 9), rfl, by decide, q288, in_J10, Or.inl rfl⟩ rfl dJ10_getFloorEntry_1 rfl ?_
  refine sw_astore_n (n := 5) F rt (L2 := [(2, va_rf rt), (0, .ref q), (1, .ref k)]) (by first | rfl | simp [va_rf_cat]) rfl (by decide) rfl dJ10_getFloorEntry_4 rfl ?_
  have K5 : ∀ N5 : Nat, ∀ (o2 : Option Nat), (∀ x9, o2 = some x9 → x9 ∈ Ks ∧ lo x9 < z ∧ z < hi x9) → (o2 = none → rt = none) → ((gM lo hi o2) < N5) → SW x [ob (xg x) q 14 [.null, va_rf vs, .null, va_rf rt, .int (jI sz), .int (jI mc), .null, .null, .null], nd (xg x) Ks ka va L R P cl, pl (xg x) M] 0 0 5 [(0, .ref q), (1, .ref k), (2, va_rf o2)] [] := by
    intro N5; induction N5 with
    | zero => intro o2 hs2 hn2 hmu5; omega
    | succ N5 ih5 =>
      intro o2 hs2 hn2 hmu5
      refine sw_aload_n (n := 6) F 2 o2 rfl rfl rfl dJ10_getFloorEntry_5 rfl ?_
      refine sw_ifnull (n := 9) F (o := o2) rfl (tgt := 105) dJ10_getFloorEntry_6 (by decide) rfl (fun c_6 => ?_) (fun q_1 c_6 => ?_)
      ·
        refine SW.cast (Ps' := _) (L' := [(0, .ref q), (1, .ref k), (2, .null)]) (st' := []) ?_ rfl (by rw [c_6]; rfl) (by first | rfl | rw [c_6]; rfl)
        refine sw_null (n := 106) F dJ10_getFloorEntry_105 rfl ?_
        exact sw_aret F none _ rfl rfl (by first | exact Or.inl ⟨_, rfl⟩ | exact Or.inr ⟨_, rfl⟩) dJ10_getFloorEntry_106 (by rw [hPo]; exact ⟨none, (by first | (congr 3; omega) | (congr 2; omega) | rfl), (by exact ⟨fun y e => (by cases e), fun _ t ht => absurd ht (hT.no (hn2 c_6) t)⟩), rfl⟩)
      ·
        refine SW.cast (Ps' := _) (L' := [(0, .ref q), (1, .ref k), (2, .ref q_1)]) (st' := []) ?_ rfl (by rw [c_6]; rfl) (by first | rfl | rw [c_6]; rfl)
        have hd : q_1 ∈ Ks ∧ lo q_1 < z ∧ z < hi q_1 := hs2 _ c_6
        have hm : q_1 ∈ Ks := hd.1
        have hkt : at_ (xg x) M (ka q_1) (vN (rk q_1)) := hka _ hm
        have hrz := hT.rng hm
        have hci := ciI_cases z (rk q_1)
        refine sw_aload_n (n := 10) F 0 (some q) rfl rfl rfl dJ10_getFloorEntry_9 rfl ?_
        refine sw_aload_n (n := 11) F 1 (some k) rfl rfl rfl dJ10_getFloorEntry_10 rfl ?_
        refine sw_aload_n (n := 12) F 2 (some q_1) rfl rfl rfl dJ10_getFloorEntry_11 rfl ?_
        refine sw_getK (n := 15) F (nd_hO 1 rfl hm) (k := 0) ⟨(RJ41, TJ41, 6), rfl, by decide, q3145, in_J41, Or.inl rfl⟩ (v := .ref (ka q_1)) rfl dJ10_getFloorEntry_12 rfl ?_
        refine sw_callV (n := 18) F (ct_J10_compare (g := xg x) (l := xl x) M q vs rt sz mc k z (ka q_1) (rk q_1) hk hkt hz (by first | omega | assumption)) (rcv_ob F 0 rfl rfl) q2911 q2912 q2913 q114 q2914 nd_J10_compare rfl (by decide) [0, 2, 1] rfl [nd (xg x) Ks ka va L R P cl] rfl 0 0 ⟨by omega, by omega⟩ [] rfl (Nat.le_of_ble_eq_true rfl) dJ10_getFloorEntry_15 rfl (fun _ _ h => h.elim) (fun v Ws h => ?_)
        obtain ⟨rfl, rfl⟩ := h
        show SW x [ob (xg x) q 14 [.null, va_rf vs, .null, va_rf rt, .int (jI sz), .int (jI mc), .null, .null, .null], pl (xg x) M, nd (xg x) Ks ka va L R P cl] _ _ _ _ [.int (jI (ciI z (rk q_1)))]
        refine sw_istore_n (n := 19) F (L2 := [(3, .int (jI (ciI z (rk q_1)))), (0, .ref q), (1, .ref k), (2, .ref q_1)]) rfl (by decide) rfl dJ10_getFloorEntry_18 rfl ?_
        refine sw_iload_n (n := 20) F 0 rfl rfl dJ10_getFloorEntry_19 rfl ?_
        refine sw_if_le (n := 23) F (by omega) (tgt := 40) dJ10_getFloorEntry_20 (by decide) rfl (fun c_20 => ?_) (fun c_20 => ?_)
        ·
          refine sw_iload_n (n := 41) F 0 rfl rfl dJ10_getFloorEntry_40 rfl ?_
          refine sw_if_ge (n := 44) F (by omega) (tgt := 100) dJ10_getFloorEntry_41 (by decide) rfl (fun c_41 => ?_) (fun c_41 => ?_)
          ·
            refine sw_aload_n (n := 101) F 3 (some q_1) rfl rfl rfl dJ10_getFloorEntry_100 rfl ?_
            refine sw_perm [0, 2, 1] rfl [ob (xg x) q 14 [.null, va_rf vs, .null, va_rf rt, .int (jI sz), .int (jI mc), .null, .null, .null], nd (xg x) Ks ka va L R P cl, pl (xg x) M] rfl ?_
            exact sw_aret F (some q_1) _ rfl rfl (by first | exact Or.inl ⟨_, rfl⟩ | exact Or.inr ⟨_, rfl⟩) dJ10_getFloorEntry_101 (by rw [hPo]; exact ⟨some q_1, (by first | (congr 3; omega) | (congr 2; omega) | rfl), (by exact isLe_eq hm (by omega)), rfl⟩)
          ·
            refine sw_aload_n (n := 45) F 3 (some q_1) rfl rfl rfl dJ10_getFloorEntry_44 rfl ?_
            refine sw_getK (n := 48) F (nd_hO 2 rfl hm) (k := 2) ⟨(RJ41, TJ41, 6), rfl, by decide, q3149, in_J41, Or.inl rfl⟩ (v := va_rf (L q_1)) rfl dJ10_getFloorEntry_45 rfl ?_
            refine sw_ifnull (n := 51) F (o := (L q_1)) rfl (tgt := 59) dJ10_getFloorEntry_48 (by decide) rfl (fun c_48 => ?_) (fun q_2 c_48 => ?_)
            ·
              refine sw_aload_n (n := 60) F 3 (some q_1) rfl rfl rfl dJ10_getFloorEntry_59 rfl ?_
              refine sw_getK (n := 63) F (nd_hO 2 rfl hm) (k := 4) ⟨(RJ41, TJ41, 6), rfl, by decide, q3152, in_J41, Or.inl rfl⟩ (v := va_rf (P q_1)) rfl dJ10_getFloorEntry_60 rfl ?_
              refine sw_astore (n := 65) F (P q_1) (L2 := [(4, va_rf (P q_1)), (3, .int (jI (ciI z (rk q_1)))), (0, .ref q), (1, .ref k), (2, .ref q_1)]) (by first | rfl | simp [va_rf_cat]) rfl (by decide) dJ10_getFloorEntry_63 rfl ?_
              refine sw_aload_n (n := 66) F 4 (some q_1) rfl rfl rfl dJ10_getFloorEntry_65 rfl ?_
              refine sw_astore (n := 68) F (some q_1) (L2 := [(5, .ref q_1), (4, va_rf (P q_1)), (3, .int (jI (ciI z (rk q_1)))), (0, .ref q), (1, .ref k), (2, .ref q_1)]) (by first | rfl | simp [va_rf_cat]) rfl (by decide) dJ10_getFloorEntry_66 rfl ?_
              have K68 : ∀ N68 : Nat, ∀ (c2 : Nat) (p2 : Option Nat), (c2 ∈ Ks) → (P c2 = p2) → (lo c2 = lo q_1) → ((wd lo hi c2) < N68) → SW x [ob (xg x) q 14 [.null, va_rf vs, .null, va_rf rt, .int (jI sz), .int (jI mc), .null, .null, .null], pl (xg x) M, nd (xg x) Ks ka va L R P cl] 0 0 68 [(4, va_rf p2), (5, .ref c2)] [] := by
                intro N68; induction N68 with
                | zero => intro c2 p2 hc2 hcp hch hmu68; omega
                | succ N68 ih68 =>
                  intro c2 p2 hc2 hcp hch hmu68
                  refine sw_aload (n := 70) F 0 p2 rfl rfl dJ10_getFloorEntry_68 rfl ?_
                  refine sw_ifnull (n := 73) F (o := p2) rfl (tgt := 97) dJ10_getFloorEntry_70 (by decide) rfl (fun c_70 => ?_) (fun q_3 c_70 => ?_)
                  ·
                    refine SW.cast (Ps' := _) (L' := [(4, .null), (5, .ref c2)]) (st' := []) ?_ rfl (by rw [c_70]; rfl) (by first | rfl | rw [c_70]; rfl)
                    refine sw_aload (n := 99) F 0 none rfl rfl dJ10_getFloorEntry_97 rfl ?_
                    refine sw_perm [0, 2, 1] rfl [ob (xg x) q 14 [.null, va_rf vs, .null, va_rf rt, .int (jI sz), .int (jI mc), .null, .null, .null], nd (xg x) Ks ka va L R P cl, pl (xg x) M] rfl ?_
                    exact sw_aret F none _ rfl rfl (by first | exact Or.inl ⟨_, rfl⟩ | exact Or.inr ⟨_, rfl⟩) dJ10_getFloorEntry_99 (by rw [hPo]; exact ⟨none, (by first | (congr 3; omega) | (congr 2; omega) | rfl), (by first | (exact hT.leNone hm c_48 (by omega) hc2 (hcp.trans c_70) hch) | (exact hT.leSome hm c_48 (by omega) (by omega) hc2 (hcp.trans c_70) hch c_80)), rfl⟩)
                  ·
                    refine SW.cast (Ps' := _) (L' := [(4, .ref q_3), (5, .ref c2)]) (st' := []) ?_ rfl (by rw [c_70]; rfl) (by first | rfl | rw [c_70]; rfl)
                    refine sw_aload (n := 75) F 1 (some c2) rfl rfl dJ10_getFloorEntry_73 rfl ?_
                    have hpK : q_3 ∈ Ks := (hT.p hc2 (hcp.trans c_70)).1
                    refine sw_aload (n := 77) F 0 (some q_3) rfl rfl dJ10_getFloorEntry_75 rfl ?_
                    refine sw_getK (n := 80) F (nd_hO 2 rfl hpK) (k := 2) ⟨(RJ41, TJ41, 6), rfl, by decide, q3149, in_J41, Or.inl rfl⟩ (v := va_rf (L q_3)) rfl dJ10_getFloorEntry_77 rfl ?_
                    refine sw_acmp_ne (n := 83) F (rx := (some c2)) (ry := (L q_3)) rfl rfl (tgt := 97) dJ10_getFloorEntry_80 (by decide) rfl (fun c_80 => ?_) (fun c_80 => ?_)
                    ·
                      refine sw_aload (n := 99) F 0 (some q_3) rfl rfl dJ10_getFloorEntry_97 rfl ?_
                      refine sw_perm [0, 2, 1] rfl [ob (xg x) q 14 [.null, va_rf vs, .null, va_rf rt, .int (jI sz), .int (jI mc), .null, .null, .null], nd (xg x) Ks ka va L R P cl, pl (xg x) M] rfl ?_
                      exact sw_aret F (some q_3) _ rfl rfl (by first | exact Or.inl ⟨_, rfl⟩ | exact Or.inr ⟨_, rfl⟩) dJ10_getFloorEntry_99 (by rw [hPo]; exact ⟨some q_3, (by first | (congr 3; omega) | (congr 2; omega) | rfl), (by first | (exact hT.leNone hm c_48 (by omega) hc2 (hcp.trans c_70) hch) | (exact hT.leSome hm c_48 (by omega) (by omega) hc2 (hcp.trans c_70) hch c_80)), rfl⟩)
                    ·
                      refine sw_aload (n := 85) F 0 (some q_3) rfl rfl dJ10_getFloorEntry_83 rfl ?_
                      refine sw_astore (n := 87) F (some q_3) (L2 := [(5, .ref q_3), (4, .ref q_3)]) rfl rfl (by decide) dJ10_getFloorEntry_85 rfl ?_
                      refine sw_aload (n := 89) F 1 (some q_3) rfl rfl dJ10_getFloorEntry_87 rfl ?_
                      refine sw_getK (n := 92) F (nd_hO 2 rfl hpK) (k := 4) ⟨(RJ41, TJ41, 6), rfl, by decide, q3152, in_J41, Or.inl rfl⟩ (v := va_rf (P q_3)) rfl dJ10_getFloorEntry_89 rfl ?_
                      refine sw_astore (n := 94) F (P q_3) (L2 := [(4, va_rf (P q_3)), (5, .ref q_3)]) (by first | rfl | simp [va_rf_cat]) rfl (by decide) dJ10_getFloorEntry_92 rfl ?_
                      refine sw_goto F (n := 68) dJ10_getFloorEntry_94 (by decide) ?_
                      exact ih68 q_3 (P q_3) (by first | exact hpK | exact hm) (by first | rfl | assumption) (by first | rfl | (have h8 := hT.l hpK c_80.symm; omega)) (by have h8 := hT.wdl hc2 (hcp.trans c_70); omega)
              refine sw_loc [1, 0] (L2 := [(4, va_rf (P q_1)), (5, .ref q_1)]) rfl ?_
              exact K68 _ q_1 (P q_1) (by first | exact hpK | exact hm) (by first | rfl | assumption) (by first | rfl | (have h8 := hT.l hpK c_80.symm; omega)) (Nat.lt_succ_self _)
            ·
              refine sw_aload_n (n := 52) F 3 (some q_1) rfl rfl rfl dJ10_getFloorEntry_51 rfl ?_
              refine sw_getK (n := 55) F (nd_hO 2 rfl hm) (k := 2) ⟨(RJ41, TJ41, 6), rfl, by decide, q3149, in_J41, Or.inl rfl⟩ (v := .ref q_2) (congrArg (fun o9 => some (va_rf o9)) c_48) dJ10_getFloorEntry_52 rfl ?_
              refine sw_astore_n (n := 56) F (some q_2) (L2 := [(2, .ref q_2), (3, .int (jI (ciI z (rk q_1)))), (0, .ref q), (1, .ref k)]) rfl rfl (by decide) rfl dJ10_getFloorEntry_55 rfl ?_
              refine sw_goto F (n := 102) dJ10_getFloorEntry_56 (by decide) ?_
              have hj := hT.l hm c_48
              have hg := hT.gML hm; rw [c_48] at hg
              have hg0 : gM lo hi o2 = gM lo hi (some q_1) := by rw [c_6]
              refine sw_goto F (n := 5) dJ10_getFloorEntry_102 (by decide) ?_
              refine sw_perm [0, 2, 1] rfl [ob (xg x) q 14 [.null, va_rf vs, .null, va_rf rt, .int (jI sz), .int (jI mc), .null, .null, .null], nd (xg x) Ks ka va L R P cl, pl (xg x) M] rfl ?_
              refine sw_loc [2, 3, 0] (L2 := [(0, .ref q), (1, .ref k), (2, .ref q_2)]) rfl ?_
              exact ih5 (some q_2) (by intro x9 e9; cases e9; exact ⟨hj.1, by omega, by omega⟩) (by intro e9; cases e9) (by omega)
        ·
          refine sw_aload_n (n := 24) F 3 (some q_1) rfl rfl rfl dJ10_getFloorEntry_23 rfl ?_
          refine sw_getK (n := 27) F (nd_hO 2 rfl hm) (k := 3) ⟨(RJ41, TJ41, 6), rfl, by decide, q3150, in_J41, Or.inl rfl⟩ (v := va_rf (R q_1)) rfl dJ10_getFloorEntry_24 rfl ?_
          refine sw_ifnull (n := 30) F (o := (R q_1)) rfl (tgt := 38) dJ10_getFloorEntry_27 (by decide) rfl (fun c_27 => ?_) (fun q_4 c_27 => ?_)
          ·
            refine sw_aload_n (n := 39) F 3 (some q_1) rfl rfl rfl dJ10_getFloorEntry_38 rfl ?_
            refine sw_perm [0, 2, 1] rfl [ob (xg x) q 14 [.null, va_rf vs, .null, va_rf rt, .int (jI sz), .int (jI mc), .null, .null, .null], nd (xg x) Ks ka va L R P cl, pl (xg x) M] rfl ?_
            exact sw_aret F (some q_1) _ rfl rfl (by first | exact Or.inl ⟨_, rfl⟩ | exact Or.inr ⟨_, rfl⟩) dJ10_getFloorEntry_39 (by rw [hPo]; exact ⟨some q_1, (by first | (congr 3; omega) | (congr 2; omega) | rfl), (by exact hT.leR0 hm c_27 (by omega) (by omega)), rfl⟩)
          ·
            refine sw_aload_n (n := 31) F 3 (some q_1) rfl rfl rfl dJ10_getFloorEntry_30 rfl ?_
            refine sw_getK (n := 34) F (nd_hO 2 rfl hm) (k := 3) ⟨(RJ41, TJ41, 6), rfl, by decide, q3150, in_J41, Or.inl rfl⟩ (v := .ref q_4) (congrArg (fun o9 => some (va_rf o9)) c_27) dJ10_getFloorEntry_31 rfl ?_
            refine sw_astore_n (n := 35) F (some q_4) (L2 := [(2, .ref q_4), (3, .int (jI (ciI z (rk q_1)))), (0, .ref q), (1, .ref k)]) rfl rfl (by decide) rfl dJ10_getFloorEntry_34 rfl ?_
            refine sw_goto F (n := 102) dJ10_getFloorEntry_35 (by decide) ?_
            have hj := hT.r hm c_27
            have hg := hT.gMR hm; rw [c_27] at hg
            have hg0 : gM lo hi o2 = gM lo hi (some q_1) := by rw [c_6]
            refine sw_goto F (n := 5) dJ10_getFloorEntry_102 (by decide) ?_
            refine sw_perm [0, 2, 1] rfl [ob (xg x) q 14 [.null, va_rf vs, .null, va_rf rt, .int (jI sz), .int (jI mc), .null, .null, .null], nd (xg x) Ks ka va L R P cl, pl (xg x) M] rfl ?_
            refine sw_loc [2, 3, 0] (L2 := [(0, .ref q), (1, .ref k), (2, .ref q_4)]) rfl ?_
            exact ih5 (some q_4) (by intro x9 e9; cases e9; exact ⟨hj.1, by omega, by omega⟩) (by intro e9; cases e9) (by omega)
  refine sw_loc [1, 2, 0] (L2 := [(0, .ref q), (1, .ref k), (2, va_rf rt)]) rfl ?_
  exact K5 _ rt (by intro x9 e9; have h8 := hT.root e9; exact ⟨h8.1, by omega, by omega⟩) (by exact id) (Nat.lt_succ_self _)
theorem nd_J10_key : yJ10_key.cls ≠ "java/lang/invoke/MethodHandle" ∧ yJ10_key.cls ≠ "java/lang/invoke/VarHandle" ∧ (parseMethodDescriptor yJ10_key.desc).map (fun d => d.parameters.length) = some 1 := by decide +kernel
set_option maxRecDepth 100000 in
set_option maxHeartbeats 16000000 in
theorem ct_J10_key {g : GG} {l : Launch} (Ks : List Nat) (ka : Nat → Nat) (va : Nat → Nat) (L : OP) (R : OP) (P : OP) (cl : Nat → Int) (nx : Nat) (hx : nx ∈ Ks) : Ct g l yJ10_key (ws_ yJ10_key cJ10_key 1 (Option.some (Jvm.ClassFile.FieldType.object "java/lang/Object"))) 1 12 0 0 [.ref nx] [nd g Ks ka va L R P cl] (fun v9 Ws9 => v9 = some (.ref (ka nx)) ∧ Ws9 = [nd g Ks ka va L R P cl]) (nox) := by
  refine Ct.of (cc := cJ10_key) (nL := 1) (ret := (Option.some (Jvm.ClassFile.FieldType.object "java/lang/Object"))) (by decide) rfl (Nat.le_of_ble_eq_true rfl) ?_
  intro x hg hl hPo hPx hmc hms F
  subst hg; subst hl
  refine SW.cast (L' := [(0, .ref nx)]) ?_ rfl rfl rfl
  refine sw_aload_n (n := 1) F 0 (some nx) rfl rfl rfl dJ10_key_0 rfl ?_
  refine sw_ifnonnull (n := 4) F (o := (some nx)) rfl (tgt := 12) dJ10_key_1 (by decide) rfl (fun _ _ => ?_) (fun c_1 => ?_)
  ·
    refine sw_aload_n (n := 13) F 0 (some nx) rfl rfl rfl dJ10_key_12 rfl ?_
    refine sw_getK (n := 16) F (nd_hO 0 rfl hx) (k := 0) ⟨(RJ41, TJ41, 6), rfl, by decide, q3145, in_J41, Or.inl rfl⟩ (v := .ref (ka nx)) rfl dJ10_key_13 rfl ?_
    exact sw_aret F (some (ka nx)) _ rfl rfl (by first | exact Or.inl ⟨_, rfl⟩ | exact Or.inr ⟨_, rfl⟩) dJ10_key_16 (by rw [hPo]; exact ⟨rfl, rfl⟩)
  · cases c_1
theorem nd_J10_keyOrNull : yJ10_keyOrNull.cls ≠ "java/lang/invoke/MethodHandle" ∧ yJ10_keyOrNull.cls ≠ "java/lang/invoke/VarHandle" ∧ (parseMethodDescriptor yJ10_keyOrNull.desc).map (fun d => d.parameters.length) = some 1 := by decide +kernel
set_option maxRecDepth 100000 in
set_option maxHeartbeats 16000000 in
theorem ct_J10_keyOrNull {g : GG} {l : Launch} (Ks : List Nat) (ka : Nat → Nat) (va : Nat → Nat) (L : OP) (R : OP) (P : OP) (cl : Nat → Int) (o : Option Nat) (ho : ∀ x9, o = some x9 → x9 ∈ Ks) : Ct g l yJ10_keyOrNull (ws_ yJ10_keyOrNull cJ10_keyOrNull 1 (Option.some (Jvm.ClassFile.FieldType.object "java/lang/Object"))) 1 12 0 0 [va_rf o] [nd g Ks ka va L R P cl] (fun v9 Ws9 => v9 = some (va_rf (o.map ka)) ∧ Ws9 = [nd g Ks ka va L R P cl]) (nox) := by
  refine Ct.of (cc := cJ10_keyOrNull) (nL := 1) (ret := (Option.some (Jvm.ClassFile.FieldType.object "java/lang/Object"))) (by decide) rfl (by cases o <;> exact Nat.le_of_ble_eq_true rfl) ?_
  intro x hg hl hPo hPx hmc hms F
  subst hg; subst hl
  refine SW.cast (L' := [(0, va_rf o)]) ?_ rfl (by cases o <;> rfl) rfl
  refine sw_aload_n (n := 1) F 0 o rfl rfl rfl dJ10_keyOrNull_0 rfl ?_
  refine sw_ifnonnull (n := 4) F (o := o) rfl (tgt := 8) dJ10_keyOrNull_1 (by decide) rfl (fun q_1 c_1 => ?_) (fun c_1 => ?_)
  ·
    refine SW.cast (Ps' := _) (L' := [(0, .ref q_1)]) (st' := []) ?_ rfl (by rw [c_1]; rfl) (by first | rfl | rw [c_1]; rfl)
    have hm : q_1 ∈ Ks := ho _ c_1
    refine sw_aload_n (n := 9) F 0 (some q_1) rfl rfl rfl dJ10_keyOrNull_8 rfl ?_
    refine sw_getK (n := 12) F (nd_hO 0 rfl hm) (k := 0) ⟨(RJ41, TJ41, 6), rfl, by decide, q3145, in_J41, Or.inl rfl⟩ (v := .ref (ka q_1)) rfl dJ10_keyOrNull_9 rfl ?_
    exact sw_aret F (some (ka q_1)) _ rfl rfl (by first | exact Or.inl ⟨_, rfl⟩ | exact Or.inr ⟨_, rfl⟩) dJ10_keyOrNull_12 (by rw [hPo]; exact ⟨(by rw [c_1]; rfl), rfl⟩)
  ·
    refine SW.cast (Ps' := _) (L' := [(0, .null)]) (st' := []) ?_ rfl (by rw [c_1]; rfl) (by first | rfl | rw [c_1]; rfl)
    refine sw_null (n := 5) F dJ10_keyOrNull_4 rfl ?_
    refine sw_goto F (n := 12) dJ10_keyOrNull_5 (by decide) ?_
    exact sw_aret F none _ rfl rfl (by first | exact Or.inl ⟨_, rfl⟩ | exact Or.inr ⟨_, rfl⟩) dJ10_keyOrNull_12 (by rw [hPo]; exact ⟨(by rw [c_1]; rfl), rfl⟩)
theorem nd_J10_addEntryToEmptyMap : yJ10_addEntryToEmptyMap.cls ≠ "java/lang/invoke/MethodHandle" ∧ yJ10_addEntryToEmptyMap.cls ≠ "java/lang/invoke/VarHandle" ∧ (parseMethodDescriptor yJ10_addEntryToEmptyMap.desc).map (fun d => d.parameters.length) = some 2 := by decide +kernel
set_option maxRecDepth 100000 in
set_option maxHeartbeats 16000000 in
theorem ct_J10_addEntryToEmptyMap {g : GG} {l : Launch} (M : Nat → Option PV) (q : Nat) (vs : Option Nat) (sz : Int) (mc : Int) (ka : Nat → Nat) (va : Nat → Nat) (L : OP) (R : OP) (P : OP) (cl : Nat → Int) (k : Nat) (z : Int) (v : Nat) (hk : at_ g M k (vN z)) (hz : -2147483648 ≤ z ∧ z ≤ 2147483647) : Ct g l yJ10_addEntryToEmptyMap (ws_ yJ10_addEntryToEmptyMap cJ10_addEntryToEmptyMap 3 (Option.none : Option Jvm.ClassFile.FieldType)) 5 97 1 6 [.ref q, .ref k, .ref v] [ob g q 14 [.null, va_rf vs, .null, .null, .int (jI sz), .int (jI mc), .null, .null, .null], nd g ([]) ka va L R P cl, pl g M] (fun v9 Ws9 => ∃ e : Nat, v9 = none ∧ Ws9 = [ob g q 14 [.null, va_rf vs, .null, .ref e, .int (jI 1), .int (jI (mc + 1)), .null, .null, .null], nd g ([e]) (va_up ka e k) (va_up va e v) (va_up L e none) (va_up R e none) (va_up P e none) (va_up cl e 1), pl g M]) (nox) := by
  refine Ct.of (cc := cJ10_addEntryToEmptyMap) (nL := 3) (ret := (Option.none : Option Jvm.ClassFile.FieldType)) (by decide) rfl (Nat.le_of_ble_eq_true rfl) ?_
  intro x hg hl hPo hPx hmc hms F
  subst hg; subst hl
  refine SW.cast (L' := [(0, .ref q), (1, .ref k), (2, .ref v)]) ?_ rfl rfl rfl
  refine sw_aload_n (n := 1) F 0 (some q) rfl rfl rfl dJ10_addEntryToEmptyMap_0 rfl ?_
  refine sw_aload_n (n := 2) F 1 (some k) rfl rfl rfl dJ10_addEntryToEmptyMap_1 rfl ?_
  refine sw_aload_n (n := 3) F 1 (some k) rfl rfl rfl dJ10_addEntryToEmptyMap_2 rfl ?_
  refine sw_callV (n := 6) F (ct_J10_compare (g := xg x) (l := xl x) M q vs none sz mc k z k z hk hk hz hz) (rcv_ob F 0 rfl rfl) q2911 q2912 q2913 q114 q2914 nd_J10_compare rfl (by decide) [0, 2, 1] rfl [nd (xg x) ([]) ka va L R P cl] rfl 1 6 ⟨by omega, by omega⟩ [] rfl (Nat.le_of_ble_eq_true rfl) dJ10_addEntryToEmptyMap_3 rfl (fun _ _ h => h.elim) (fun v Ws h => ?_)
  obtain ⟨rfl, rfl⟩ := h
  show SW x [ob (xg x) q 14 [.null, va_rf vs, .null, va_rf none, .int (jI sz), .int (jI mc), .null, .null, .null], pl (xg x) M, nd (xg x) ([]) ka va L R P cl] _ _ _ _ [.int (jI (ciI z z))]
  refine sw_pop (n := 7) F rfl dJ10_addEntryToEmptyMap_6 rfl ?_
  refine sw_aload_n (n := 8) F 0 (some q) rfl rfl rfl dJ10_addEntryToEmptyMap_7 rfl ?_
  refine sw_new (n := 11) F (ci := 20) (N := 6) RJ41 TJ41 tyJ41 rfl q3138 q3139 q153 in_J41 tyJ41_ok (fs := [.null, .null, .null, .null, .null, .int (jI 0)]) rfl 0 0 ⟨by omega, by omega⟩ dJ10_addEntryToEmptyMap_8 rfl (fun q_1 => ?_)
  refine sw_dup (n := 12) F rfl dJ10_addEntryToEmptyMap_11 rfl ?_
  refine sw_aload_n (n := 13) F 1 (some k) rfl rfl rfl dJ10_addEntryToEmptyMap_12 rfl ?_
  refine sw_aload_n (n := 14) F 2 (some v) rfl rfl rfl dJ10_addEntryToEmptyMap_13 rfl ?_
  refine sw_null (n := 15) F dJ10_addEntryToEmptyMap_14 rfl ?_
  refine sw_callI (n := 18) F (ct_J41_init (g := xg x) (l := xl x) q_1 k v none ) q3140 q3141 q153 q3142 rfl nd_J41_init rfl (by decide) [0, 1, 2, 3] (perm_ok _ 4 (by decide +kernel) rfl) [ob (xg x) q 14 [.null, va_rf vs, .null, va_rf none, .int (jI sz), .int (jI mc), .null, .null, .null], pl (xg x) M, nd (xg x) ([]) ka va L R P cl] rfl 0 0 ⟨by omega, by omega⟩ [.ref q_1, .ref q] rfl (Nat.le_of_ble_eq_true rfl) dJ10_addEntryToEmptyMap_15 rfl (fun _ _ h => h.elim) (fun v Ws h => ?_)
  obtain ⟨rfl, rfl⟩ := h
  show SW x [ob (xg x) q_1 20 [.ref k, .ref v, .null, .null, va_rf none, .int (jI 1)], ob (xg x) q 14 [.null, va_rf vs, .null, va_rf none, .int (jI sz), .int (jI mc), .null, .null, .null], pl (xg x) M, nd (xg x) ([]) ka va L R P cl] _ _ _ _ [.ref q_1, .ref q]
  refine sw_put (n := 21) F 1 rfl (k := 3) ⟨(RJ10, TJ10, 9), rfl, by decide, q288, in_J10, Or.inl rfl⟩ (tyJ10 3) ⟨(RJ10, TJ10, 9), rfl, rfl, tyJ10_ok 3 (by decide), nmJ10, tyJ10, tyJ10_ok⟩ rfl rfl (Nat.le_of_ble_eq_true rfl) rfl [ob (xg x) q_1 20 [.ref k, .ref v, .null, .null, va_rf none, .int (jI 1)], ob (xg x) q 14 [.null, va_rf vs, .null, .ref q_1, .int (jI sz), .int (jI mc), .null, .null, .null], pl (xg x) M, nd (xg x) ([]) ka va L R P cl] rfl dJ10_addEntryToEmptyMap_18 rfl ?_
  refine sw_perm [0, 3, 1, 2] (perm_ok _ 4 (by decide +kernel) rfl) [ob (xg x) q_1 20 [.ref k, .ref v, .null, .null, va_rf none, .int (jI 1)], nd (xg x) ([]) ka va L R P cl, ob (xg x) q 14 [.null, va_rf vs, .null, .ref q_1, .int (jI sz), .int (jI mc), .null, .null, .null], pl (xg x) M] rfl ?_; refine sw_ndAdd (l := none) (r := none) (p := none) (fun hnew => ?_)
  show SW x [nd (xg x) ([q_1]) (va_up ka q_1 k) (va_up va q_1 v) (va_up L q_1 none) (va_up R q_1 none) (va_up P q_1 none) (va_up cl q_1 1), ob (xg x) q 14 [.null, va_rf vs, .null, .ref q_1, .int (jI sz), .int (jI mc), .null, .null, .null], pl (xg x) M] _ _ _ _ _
  have heK : q_1 ∈ ([q_1]) := List.mem_cons_self ..
  refine sw_aload_n (n := 22) F 0 (some q) rfl rfl rfl dJ10_addEntryToEmptyMap_21 rfl ?_
  refine sw_iconst (n := 23) F (1) (by decide) dJ10_addEntryToEmptyMap_22 rfl ?_
  refine sw_put (n := 26) F 1 rfl (k := 4) ⟨(RJ10, TJ10, 9), rfl, by decide, q289, in_J10, Or.inl rfl⟩ .int ⟨(RJ10, TJ10, 9), rfl, rfl, tyJ10_ok 4 (by decide), nmJ10, tyJ10, tyJ10_ok⟩ rfl rfl (Nat.le_of_ble_eq_true rfl) rfl [nd (xg x) ([q_1]) (va_up ka q_1 k) (va_up va q_1 v) (va_up L q_1 none) (va_up R q_1 none) (va_up P q_1 none) (va_up cl q_1 1), ob (xg x) q 14 [.null, va_rf vs, .null, .ref q_1, .int (jI 1), .int (jI mc), .null, .null, .null], pl (xg x) M] rfl dJ10_addEntryToEmptyMap_23 rfl ?_
  refine sw_aload_n (n := 27) F 0 (some q) rfl rfl rfl dJ10_addEntryToEmptyMap_26 rfl ?_
  refine sw_dup (n := 28) F rfl dJ10_addEntryToEmptyMap_27 rfl ?_
  refine sw_get (n := 31) F 1 rfl (k := 5) ⟨(RJ10, TJ10, 9), rfl, by decide, q290, in_J10, Or.inl rfl⟩ rfl dJ10_addEntryToEmptyMap_28 rfl ?_
  refine sw_iconst (n := 32) F (1) (by decide) dJ10_addEntryToEmptyMap_31 rfl ?_
  refine sw_iadd (n := 33) F dJ10_addEntryToEmptyMap_32 rfl ?_
  refine sw_put (n := 36) F 1 rfl (k := 5) ⟨(RJ10, TJ10, 9), rfl, by decide, q290, in_J10, Or.inl rfl⟩ .int ⟨(RJ10, TJ10, 9), rfl, rfl, tyJ10_ok 5 (by decide), nmJ10, tyJ10, tyJ10_ok⟩ rfl rfl (Nat.le_of_ble_eq_true rfl) rfl [nd (xg x) ([q_1]) (va_up ka q_1 k) (va_up va q_1 v) (va_up L q_1 none) (va_up R q_1 none) (va_up P q_1 none) (va_up cl q_1 1), ob (xg x) q 14 [.null, va_rf vs, .null, .ref q_1, .int (jI 1), .int (jI (mc + 1)), .null, .null, .null], pl (xg x) M] rfl dJ10_addEntryToEmptyMap_33 rfl ?_
  refine sw_perm [1, 0, 2] rfl [ob (xg x) q 14 [.null, va_rf vs, .null, .ref q_1, .int (jI 1), .int (jI (mc + 1)), .null, .null, .null], nd (xg x) ([q_1]) (va_up ka q_1 k) (va_up va q_1 v) (va_up L q_1 none) (va_up R q_1 none) (va_up P q_1 none) (va_up cl q_1 1), pl (xg x) M] rfl ?_
  exact sw_vret F rfl dJ10_addEntryToEmptyMap_36 (by rw [hPo]; exact ⟨q_1, rfl, rfl⟩)
theorem nd_J10_addEntry : yJ10_addEntry.cls ≠ "java/lang/invoke/MethodHandle" ∧ yJ10_addEntry.cls ≠ "java/lang/invoke/VarHandle" ∧ (parseMethodDescriptor yJ10_addEntry.desc).map (fun d => d.parameters.length) = some 4 := by decide +kernel
set_option maxRecDepth 100000 in
set_option maxHeartbeats 16000000 in
theorem ct_J10_addEntry_l {g : GG} {l : Launch} (M : Nat → Option PV) (Ks : List Nat) (ka : Nat → Nat) (va : Nat → Nat) (L : OP) (R : OP) (P : OP) (cl : Nat → Int) (q : Nat) (vs : Option Nat) (rt : Option Nat) (sz : Int) (mc : Int) (rk : Nat → Int) (lo : Nat → Int) (hi : Nat → Int) (k : Nat) (z : Int) (v : Nat) (nx : Nat) (hT : TrI Ks L R P rk lo hi rt) (hcb : ∀ t, cl t = 0 ∨ cl t = 1) (hk : at_ g M k (vN z)) (hxd : nx ∈ Ks ∧ lo nx < z ∧ z < hi nx) (hzx : z < rk nx) (hnone : L nx = none) : Ct g l yJ10_addEntry (ws_ yJ10_addEntry cJ10_addEntry 6 (Option.none : Option Jvm.ClassFile.FieldType)) 3 56 1 6 [.ref q, .ref k, .ref v, .ref nx, .int (jI 1)] [ob g q 14 [.null, va_rf vs, .null, va_rf rt, .int (jI sz), .int (jI mc), .null, .null, .null], nd g Ks ka va L R P cl, pl g M] (fun v9 Ws9 => ∃ e : Nat, ∃ L1 : OP, ∃ R1 : OP, ∃ P1 : OP, ∃ rt1 : Option Nat, ∃ lo1 : Nat → Int, ∃ hi1 : Nat → Int, ∃ cl1 : Nat → Int, v9 = none ∧ (¬ e ∈ Ks) ∧ (TrI (e :: Ks) L1 R1 P1 (va_up rk e z) lo1 hi1 rt1) ∧ (∀ t, cl1 t = 0 ∨ cl1 t = 1) ∧ Ws9 = [ob g q 14 [.null, va_rf vs, .null, va_rf rt1, .int (jI (sz + 1)), .int (jI (mc + 1)), .null, .null, .null], nd g (e :: Ks) (va_up ka e k) (va_up va e v) L1 R1 P1 cl1, pl g M]) (nox) := by
  refine Ct.of (cc := cJ10_addEntry) (nL := 6) (ret := (Option.none : Option Jvm.ClassFile.FieldType)) (by decide) rfl (Nat.le_of_ble_eq_true rfl) ?_
  intro x hg hl hPo hPx hmc hms F
  subst hg; subst hl
  refine SW.cast (L' := [(0, .ref q), (1, .ref k), (2, .ref v), (3, .ref nx), (4, .int (jI 1))]) ?_ rfl rfl rfl
  refine sw_new (n := 3) F (ci := 20) (N := 6) RJ41 TJ41 tyJ41 rfl q3138 q3139 q153 in_J41 tyJ41_ok (fs := [.null, .null, .null, .null, .null, .int (jI 0)]) rfl 0 0 ⟨by omega, by omega⟩ dJ10_addEntry_0 rfl (fun q_1 => ?_)
  refine sw_dup (n := 4) F rfl dJ10_addEntry_3 rfl ?_
  refine sw_aload_n (n := 5) F 1 (some k) rfl rfl rfl dJ10_addEntry_4 rfl ?_
  refine sw_aload_n (n := 6) F 2 (some v) rfl rfl rfl dJ10_addEntry_5 rfl ?_
  refine sw_aload_n (n := 7) F 3 (some nx) rfl rfl rfl dJ10_addEntry_6 rfl ?_
  refine sw_callI (n := 10) F (ct_J41_init (g := xg x) (l := xl x) q_1 k v (some nx) ) q3140 q3141 q153 q3142 rfl nd_J41_init rfl (by decide) [0, 1, 2, 3] (perm_ok _ 4 (by decide +kernel) rfl) [ob (xg x) q 14 [.null, va_rf vs, .null, va_rf rt, .int (jI sz), .int (jI mc), .null, .null, .null], nd (xg x) Ks ka va L R P cl, pl (xg x) M] rfl 0 0 ⟨by omega, by omega⟩ [.ref q_1] rfl (Nat.le_of_ble_eq_true rfl) dJ10_addEntry_7 rfl (fun _ _ h => h.elim) (fun v Ws h => ?_)
  obtain ⟨rfl, rfl⟩ := h
  show SW x [ob (xg x) q_1 20 [.ref k, .ref v, .null, .null, va_rf (some nx), .int (jI 1)], ob (xg x) q 14 [.null, va_rf vs, .null, va_rf rt, .int (jI sz), .int (jI mc), .null, .null, .null], nd (xg x) Ks ka va L R P cl, pl (xg x) M] _ _ _ _ [.ref q_1]
  refine sw_astore (n := 12) F (some q_1) (L2 := [(5, .ref q_1), (0, .ref q), (1, .ref k), (2, .ref v), (3, .ref nx), (4, .int (jI 1))]) rfl rfl (by decide) dJ10_addEntry_10 rfl ?_
  refine sw_perm [0, 2, 1, 3] (perm_ok _ 4 (by decide +kernel) rfl) [ob (xg x) q_1 20 [.ref k, .ref v, .null, .null, va_rf (some nx), .int (jI 1)], nd (xg x) Ks ka va L R P cl, ob (xg x) q 14 [.null, va_rf vs, .null, va_rf rt, .int (jI sz), .int (jI mc), .null, .null, .null], pl (xg x) M] rfl ?_; refine sw_ndAdd (l := none) (r := none) (p := (some nx)) (fun hnew => ?_)
  show SW x [nd (xg x) (q_1 :: Ks) (va_up ka q_1 k) (va_up va q_1 v) (va_up L q_1 none) (va_up R q_1 none) (va_up P q_1 (some nx)) (va_up cl q_1 1), ob (xg x) q 14 [.null, va_rf vs, .null, va_rf rt, .int (jI sz), .int (jI mc), .null, .null, .null], pl (xg x) M] _ _ _ _ _
  have heK : q_1 ∈ (q_1 :: Ks) := List.mem_cons_self ..
  have hxK : nx ∈ q_1 :: Ks := List.mem_cons_of_mem _ hxd.1
  refine sw_iload (n := 14) F 5 rfl dJ10_addEntry_12 rfl ?_
  refine sw_if_eq (n := 17) F (by decide) (tgt := 26) dJ10_addEntry_14 (by decide) rfl (fun c_14 => ?_) (fun c_14 => ?_)
  · exfalso; exact absurd c_14 (by decide)
  ·
    refine sw_aload_n (n := 18) F 4 (some nx) rfl rfl rfl dJ10_addEntry_17 rfl ?_
    refine sw_aload (n := 20) F 0 (some q_1) rfl rfl dJ10_addEntry_18 rfl ?_
    refine sw_ndput (ka' := (va_up ka q_1 k)) (va' := (va_up va q_1 v)) (L' := (va_up (va_up L q_1 none) nx (some q_1))) (R' := (va_up R q_1 none)) (P' := (va_up P q_1 (some nx))) (cl' := (va_up cl q_1 1)) F hxK (k := 2) ⟨(RJ41, TJ41, 6), rfl, by decide, q3149, in_J41, Or.inl rfl⟩ (tyJ41 2) ⟨(RJ41, TJ41, 6), rfl, rfl, tyJ41_ok 2 (by decide), nmJ41, tyJ41, tyJ41_ok⟩ rfl rfl (by decide) (by simp [flN, va_up, va_rf]) (fun t9 h9 => by simp [flN, va_up, h9]) dJ10_addEntry_20 rfl ?_
    show SW x [nd (xg x) (q_1 :: Ks) (va_up ka q_1 k) (va_up va q_1 v) (va_up (va_up L q_1 none) nx (some q_1)) (va_up R q_1 none) (va_up P q_1 (some nx)) (va_up cl q_1 1), ob (xg x) q 14 [.null, va_rf vs, .null, va_rf rt, .int (jI sz), .int (jI mc), .null, .null, .null], pl (xg x) M] _ _ _ _ _
    refine sw_goto F (n := 32) dJ10_addEntry_23 (by decide) ?_
    obtain ⟨lo3, hi3, hT3⟩ := addL_ hT hxd hzx hnew hnone
    refine sw_aload_n (n := 33) F 1 (some q) rfl rfl rfl dJ10_addEntry_32 rfl ?_
    refine sw_aload (n := 35) F 0 (some q_1) rfl rfl dJ10_addEntry_33 rfl ?_
    refine sw_callV (n := 38) F (ct_J10_fixAfterInsertion (g := xg x) (l := xl x) (q_1 :: Ks) (va_up ka q_1 k) (va_up va q_1 v) (va_up (va_up L q_1 none) nx (some q_1)) (va_up R q_1 none) (va_up P q_1 (some nx)) (va_up cl q_1 1) q vs rt sz mc (va_up rk q_1 z) lo3 hi3 q_1 hT3 heK (by (repeat' first | assumption | exact Or.inl rfl | exact Or.inr rfl | apply clO_b | refine cb_up ?_ ?_ | refine cb_cu ?_ ?_))) (rcv_ob F 1 rfl rfl) q3173 q3175 qs51 q114 q3176 nd_J10_fixAfterInsertion rfl (by decide) [1, 0, 2] rfl [pl (xg x) M] rfl 0 0 ⟨by omega, by omega⟩ [] rfl (Nat.le_of_ble_eq_true rfl) dJ10_addEntry_35 rfl (fun _ _ h => h.elim) (fun v Ws h => ?_)
    obtain ⟨L1_2, R1_3, P1_4, rt1_5, lo1_6, hi1_7, cl1_8, rfl, hT1_9, hcb1_10, rfl⟩ := h
    show SW x [ob (xg x) q 14 [.null, va_rf vs, .null, va_rf rt1_5, .int (jI sz), .int (jI mc), .null, .null, .null], nd (xg x) (q_1 :: Ks) (va_up ka q_1 k) (va_up va q_1 v) L1_2 R1_3 P1_4 cl1_8, pl (xg x) M] _ _ _ _ []
    refine sw_aload_n (n := 39) F 1 (some q) rfl rfl rfl dJ10_addEntry_38 rfl ?_
    refine sw_dup (n := 40) F rfl dJ10_addEntry_39 rfl ?_
    refine sw_get (n := 43) F 0 rfl (k := 4) ⟨(RJ10, TJ10, 9), rfl, by decide, q289, in_J10, Or.inl rfl⟩ rfl dJ10_addEntry_40 rfl ?_
    refine sw_iconst (n := 44) F (1) (by decide) dJ10_addEntry_43 rfl ?_
    refine sw_iadd (n := 45) F dJ10_addEntry_44 rfl ?_
    refine sw_put (n := 48) F 0 rfl (k := 4) ⟨(RJ10, TJ10, 9), rfl, by decide, q289, in_J10, Or.inl rfl⟩ .int ⟨(RJ10, TJ10, 9), rfl, rfl, tyJ10_ok 4 (by decide), nmJ10, tyJ10, tyJ10_ok⟩ rfl rfl (Nat.le_of_ble_eq_true rfl) rfl [ob (xg x) q 14 [.null, va_rf vs, .null, va_rf rt1_5, .int (jI (sz + 1)), .int (jI mc), .null, .null, .null], nd (xg x) (q_1 :: Ks) (va_up ka q_1 k) (va_up va q_1 v) L1_2 R1_3 P1_4 cl1_8, pl (xg x) M] rfl dJ10_addEntry_45 rfl ?_
    refine sw_aload_n (n := 49) F 1 (some q) rfl rfl rfl dJ10_addEntry_48 rfl ?_
    refine sw_dup (n := 50) F rfl dJ10_addEntry_49 rfl ?_
    refine sw_get (n := 53) F 0 rfl (k := 5) ⟨(RJ10, TJ10, 9), rfl, by decide, q290, in_J10, Or.inl rfl⟩ rfl dJ10_addEntry_50 rfl ?_
    refine sw_iconst (n := 54) F (1) (by decide) dJ10_addEntry_53 rfl ?_
    refine sw_iadd (n := 55) F dJ10_addEntry_54 rfl ?_
    refine sw_put (n := 58) F 0 rfl (k := 5) ⟨(RJ10, TJ10, 9), rfl, by decide, q290, in_J10, Or.inl rfl⟩ .int ⟨(RJ10, TJ10, 9), rfl, rfl, tyJ10_ok 5 (by decide), nmJ10, tyJ10, tyJ10_ok⟩ rfl rfl (Nat.le_of_ble_eq_true rfl) rfl [ob (xg x) q 14 [.null, va_rf vs, .null, va_rf rt1_5, .int (jI (sz + 1)), .int (jI (mc + 1)), .null, .null, .null], nd (xg x) (q_1 :: Ks) (va_up ka q_1 k) (va_up va q_1 v) L1_2 R1_3 P1_4 cl1_8, pl (xg x) M] rfl dJ10_addEntry_55 rfl ?_
    exact sw_vret F rfl dJ10_addEntry_58 (by rw [hPo]; exact ⟨q_1, L1_2, R1_3, P1_4, rt1_5, lo1_6, hi1_7, cl1_8, rfl, hnew, hT1_9, (by (repeat' first | assumption | exact Or.inl rfl | exact Or.inr rfl | apply clO_b | refine cb_up ?_ ?_ | refine cb_cu ?_ ?_)), rfl⟩)
set_option maxRecDepth 100000 in
set_option maxHeartbeats 16000000 in
theorem ct_J10_addEntry_r {g : GG} {l : Launch} (M : Nat → Option PV) (Ks : List Nat) (ka : Nat → Nat) (va : Nat → Nat) (L : OP) (R : OP) (P : OP) (cl : Nat → Int) (q : Nat) (vs : Option Nat) (rt : Option Nat) (sz : Int) (mc : Int) (rk : Nat → Int) (lo : Nat → Int) (hi : Nat → Int) (k : Nat) (z : Int) (v : Nat) (nx : Nat) (hT : TrI Ks L R P rk lo hi rt) (hcb : ∀ t, cl t = 0 ∨ cl t = 1) (hk : at_ g M k (vN z)) (hxd : nx ∈ Ks ∧ lo nx < z ∧ z < hi nx) (hzx : rk nx < z) (hnone : R nx = none) : Ct g l yJ10_addEntry (ws_ yJ10_addEntry cJ10_addEntry 6 (Option.none : Option Jvm.ClassFile.FieldType)) 3 56 1 6 [.ref q, .ref k, .ref v, .ref nx, .int (jI 0)] [ob g q 14 [.null, va_rf vs, .null, va_rf rt, .int (jI sz), .int (jI mc), .null, .null, .null], nd g Ks ka va L R P cl, pl g M] (fun v9 Ws9 => ∃ e : Nat, ∃ L1 : OP, ∃ R1 : OP, ∃ P1 : OP, ∃ rt1 : Option Nat, ∃ lo1 : Nat → Int, ∃ hi1 : Nat → Int, ∃ cl1 : Nat → Int, v9 = none ∧ (¬ e ∈ Ks) ∧ (TrI (e :: Ks) L1 R1 P1 (va_up rk e z) lo1 hi1 rt1) ∧ (∀ t, cl1 t = 0 ∨ cl1 t = 1) ∧ Ws9 = [ob g q 14 [.null, va_rf vs, .null, va_rf rt1, .int (jI (sz + 1)), .int (jI (mc + 1)), .null, .null, .null], nd g (e :: Ks) (va_up ka e k) (va_up va e v) L1 R1 P1 cl1, pl g M]) (nox) := by
  refine Ct.of (cc := cJ10_addEntry) (nL := 6) (ret := (Option.none : Option Jvm.ClassFile.FieldType)) (by decide) rfl (Nat.le_of_ble_eq_true rfl) ?_
  intro x hg hl hPo hPx hmc hms F
  subst hg; subst hl
  refine SW.cast (L' := [(0, .ref q), (1, .ref k), (2, .ref v), (3, .ref nx), (4, .int (jI 0))]) ?_ rfl rfl rfl
  refine sw_new (n := 3) F (ci := 20) (N := 6) RJ41 TJ41 tyJ41 rfl q3138 q3139 q153 in_J41 tyJ41_ok (fs := [.null, .null, .null, .null, .null, .int (jI 0)]) rfl 0 0 ⟨by omega, by omega⟩ dJ10_addEntry_0 rfl (fun q_1 => ?_)
  refine sw_dup (n := 4) F rfl dJ10_addEntry_3 rfl ?_
  refine sw_aload_n (n := 5) F 1 (some k) rfl rfl rfl dJ10_addEntry_4 rfl ?_
  refine sw_aload_n (n := 6) F 2 (some v) rfl rfl rfl dJ10_addEntry_5 rfl ?_
  refine sw_aload_n (n := 7) F 3 (some nx) rfl rfl rfl dJ10_addEntry_6 rfl ?_
  refine sw_callI (n := 10) F (ct_J41_init (g := xg x) (l := xl x) q_1 k v (some nx) ) q3140 q3141 q153 q3142 rfl nd_J41_init rfl (by decide) [0, 1, 2, 3] (perm_ok _ 4 (by decide +kernel) rfl) [ob (xg x) q 14 [.null, va_rf vs, .null, va_rf rt, .int (jI sz), .int (jI mc), .null, .null, .null], nd (xg x) Ks ka va L R P cl, pl (xg x) M] rfl 0 0 ⟨by omega, by omega⟩ [.ref q_1] rfl (Nat.le_of_ble_eq_true rfl) dJ10_addEntry_7 rfl (fun _ _ h => h.elim) (fun v Ws h => ?_)
  obtain ⟨rfl, rfl⟩ := h
  show SW x [ob (xg x) q_1 20 [.ref k, .ref v, .null, .null, va_rf (some nx), .int (jI 1)], ob (xg x) q 14 [.null, va_rf vs, .null, va_rf rt, .int (jI sz), .int (jI mc), .null, .null, .null], nd (xg x) Ks ka va L R P cl, pl (xg x) M] _ _ _ _ [.ref q_1]
  refine sw_astore (n := 12) F (some q_1) (L2 := [(5, .ref q_1), (0, .ref q), (1, .ref k), (2, .ref v), (3, .ref nx), (4, .int (jI 0))]) rfl rfl (by decide) dJ10_addEntry_10 rfl ?_
  refine sw_perm [0, 2, 1, 3] (perm_ok _ 4 (by decide +kernel) rfl) [ob (xg x) q_1 20 [.ref k, .ref v, .null, .null, va_rf (some nx), .int (jI 1)], nd (xg x) Ks ka va L R P cl, ob (xg x) q 14 [.null, va_rf vs, .null, va_rf rt, .int (jI sz), .int (jI mc), .null, .null, .null], pl (xg x) M] rfl ?_; refine sw_ndAdd (l := none) (r := none) (p := (some nx)) (fun hnew => ?_)
  show SW x [nd (xg x) (q_1 :: Ks) (va_up ka q_1 k) (va_up va q_1 v) (va_up L q_1 none) (va_up R q_1 none) (va_up P q_1 (some nx)) (va_up cl q_1 1), ob (xg x) q 14 [.null, va_rf vs, .null, va_rf rt, .int (jI sz), .int (jI mc), .null, .null, .null], pl (xg x) M] _ _ _ _ _
  have heK : q_1 ∈ (q_1 :: Ks) := List.mem_cons_self ..
  have hxK : nx ∈ q_1 :: Ks := List.mem_cons_of_mem _ hxd.1
  refine sw_iload (n := 14) F 5 rfl dJ10_addEntry_12 rfl ?_
  refine sw_if_eq (n := 17) F (by decide) (tgt := 26) dJ10_addEntry_14 (by decide) rfl (fun c_14 => ?_) (fun c_14 => ?_)
  ·
    refine sw_aload_n (n := 27) F 4 (some nx) rfl rfl rfl dJ10_addEntry_26 rfl ?_
    refine sw_aload (n := 29) F 0 (some q_1) rfl rfl dJ10_addEntry_27 rfl ?_
    refine sw_ndput (ka' := (va_up ka q_1 k)) (va' := (va_up va q_1 v)) (L' := (va_up L q_1 none)) (R' := (va_up (va_up R q_1 none) nx (some q_1))) (P' := (va_up P q_1 (some nx))) (cl' := (va_up cl q_1 1)) F hxK (k := 3) ⟨(RJ41, TJ41, 6), rfl, by decide, q3150, in_J41, Or.inl rfl⟩ (tyJ41 3) ⟨(RJ41, TJ41, 6), rfl, rfl, tyJ41_ok 3 (by decide), nmJ41, tyJ41, tyJ41_ok⟩ rfl rfl (by decide) (by simp [flN, va_up, va_rf]) (fun t9 h9 => by simp [flN, va_up, h9]) dJ10_addEntry_29 rfl ?_
    show SW x [nd (xg x) (q_1 :: Ks) (va_up ka q_1 k) (va_up va q_1 v) (va_up L q_1 none) (va_up (va_up R q_1 none) nx (some q_1)) (va_up P q_1 (some nx)) (va_up cl q_1 1), ob (xg x) q 14 [.null, va_rf vs, .null, va_rf rt, .int (jI sz), .int (jI mc), .null, .null, .null], pl (xg x) M] _ _ _ _ _
    obtain ⟨lo3, hi3, hT3⟩ := addR_ hT hxd hzx hnew hnone
    refine sw_aload_n (n := 33) F 1 (some q) rfl rfl rfl dJ10_addEntry_32 rfl ?_
    refine sw_aload (n := 35) F 0 (some q_1) rfl rfl dJ10_addEntry_33 rfl ?_
    refine sw_callV (n := 38) F (ct_J10_fixAfterInsertion (g := xg x) (l := xl x) (q_1 :: Ks) (va_up ka q_1 k) (va_up va q_1 v) (va_up L q_1 none) (va_up (va_up R q_1 none) nx (some q_1)) (va_up P q_1 (some nx)) (va_up cl q_1 1) q vs rt sz mc (va_up rk q_1 z) lo3 hi3 q_1 hT3 heK (by (repeat' first | assumption | exact Or.inl rfl | exact Or.inr rfl | apply clO_b | refine cb_up ?_ ?_ | refine cb_cu ?_ ?_))) (rcv_ob F 1 rfl rfl) q3173 q3175 qs51 q114 q3176 nd_J10_fixAfterInsertion rfl (by decide) [1, 0, 2] rfl [pl (xg x) M] rfl 0 0 ⟨by omega, by omega⟩ [] rfl (Nat.le_of_ble_eq_true rfl) dJ10_addEntry_35 rfl (fun _ _ h => h.elim) (fun v Ws h => ?_)
    obtain ⟨L1_2, R1_3, P1_4, rt1_5, lo1_6, hi1_7, cl1_8, rfl, hT1_9, hcb1_10, rfl⟩ := h
    show SW x [ob (xg x) q 14 [.null, va_rf vs, .null, va_rf rt1_5, .int (jI sz), .int (jI mc), .null, .null, .null], nd (xg x) (q_1 :: Ks) (va_up ka q_1 k) (va_up va q_1 v) L1_2 R1_3 P1_4 cl1_8, pl (xg x) M] _ _ _ _ []
    refine sw_aload_n (n := 39) F 1 (some q) rfl rfl rfl dJ10_addEntry_38 rfl ?_
    refine sw_dup (n := 40) F rfl dJ10_addEntry_39 rfl ?_
    refine sw_get (n := 43) F 0 rfl (k := 4) ⟨(RJ10, TJ10, 9), rfl, by decide, q289, in_J10, Or.inl rfl⟩ rfl dJ10_addEntry_40 rfl ?_
    refine sw_iconst (n := 44) F (1) (by decide) dJ10_addEntry_43 rfl ?_
    refine sw_iadd (n := 45) F dJ10_addEntry_44 rfl ?_
    refine sw_put (n := 48) F 0 rfl (k := 4) ⟨(RJ10, TJ10, 9), rfl, by decide, q289, in_J10, Or.inl rfl⟩ .int ⟨(RJ10, TJ10, 9), rfl, rfl, tyJ10_ok 4 (by decide), nmJ10, tyJ10, tyJ10_ok⟩ rfl rfl (Nat.le_of_ble_eq_true rfl) rfl [ob (xg x) q 14 [.null, va_rf vs, .null, va_rf rt1_5, .int (jI (sz + 1)), .int (jI mc), .null, .null, .null], nd (xg x) (q_1 :: Ks) (va_up ka q_1 k) (va_up va q_1 v) L1_2 R1_3 P1_4 cl1_8, pl (xg x) M] rfl dJ10_addEntry_45 rfl ?_
    refine sw_aload_n (n := 49) F 1 (some q) rfl rfl rfl dJ10_addEntry_48 rfl ?_
    refine sw_dup (n := 50) F rfl dJ10_addEntry_49 rfl ?_
    refine sw_get (n := 53) F 0 rfl (k := 5) ⟨(RJ10, TJ10, 9), rfl, by decide, q290, in_J10, Or.inl rfl⟩ rfl dJ10_addEntry_50 rfl ?_
    refine sw_iconst (n := 54) F (1) (by decide) dJ10_addEntry_53 rfl ?_
    refine sw_iadd (n := 55) F dJ10_addEntry_54 rfl ?_
    refine sw_put (n := 58) F 0 rfl (k := 5) ⟨(RJ10, TJ10, 9), rfl, by decide, q290, in_J10, Or.inl rfl⟩ .int ⟨(RJ10, TJ10, 9), rfl, rfl, tyJ10_ok 5 (by decide), nmJ10, tyJ10, tyJ10_ok⟩ rfl rfl (Nat.le_of_ble_eq_true rfl) rfl [ob (xg x) q 14 [.null, va_rf vs, .null, va_rf rt1_5, .int (jI (sz + 1)), .int (jI (mc + 1)), .null, .null, .null], nd (xg x) (q_1 :: Ks) (va_up ka q_1 k) (va_up va q_1 v) L1_2 R1_3 P1_4 cl1_8, pl (xg x) M] rfl dJ10_addEntry_55 rfl ?_
    exact sw_vret F rfl dJ10_addEntry_58 (by rw [hPo]; exact ⟨q_1, L1_2, R1_3, P1_4, rt1_5, lo1_6, hi1_7, cl1_8, rfl, hnew, hT1_9, (by (repeat' first | assumption | exact Or.inl rfl | exact Or.inr rfl | apply clO_b | refine cb_up ?_ ?_ | refine cb_cu ?_ ?_)), rfl⟩)
  · exfalso; exact absurd c_14 (by decide)
theorem nd_J10_put_2 : yJ10_put_2.cls ≠ "java/lang/invoke/MethodHandle" ∧ yJ10_put_2.cls ≠ "java/lang/invoke/VarHandle" ∧ (parseMethodDescriptor yJ10_put_2.desc).map (fun d => d.parameters.length) = some 3 := by decide +kernel
set_option maxRecDepth 100000 in
set_option maxHeartbeats 16000000 in
theorem ct_J10_put_2 {g : GG} {l : Launch} (M : Nat → Option PV) (q : Nat) (vs : Option Nat) (mc : Int) (n : Nat) (f : Int → Option Nat) (k : Nat) (z : Int) (v : Nat) (hk : at_ g M k (vN z)) (hz : -2147483648 ≤ z ∧ z ≤ 2147483647) (hn : n < 1000) : Ct g l yJ10_put_2 (ws_ yJ10_put_2 cJ10_put_2 10 (Option.some (Jvm.ClassFile.FieldType.object "java/lang/Object"))) 6 119 1 6 [.ref q, .ref k, .ref v, .int (jI 1)] [tmap g M q vs mc n f, pl g M] (fun v9 Ws9 => ∃ mc1 : Int, ∃ n1 : Nat, v9 = some (va_rf (f z)) ∧ ((f z = none ∧ n1 = n + 1) ∨ (f z ≠ none ∧ n1 = n)) ∧ Ws9 = [tmap g M q vs mc1 n1 (mU f z (some v)), pl g M]) (nox) := by
  refine Ct.of (cc := cJ10_put_2) (nL := 10) (ret := (Option.some (Jvm.ClassFile.FieldType.object "java/lang/Object"))) (by decide) rfl (Nat.le_of_ble_eq_true rfl) ?_
  intro x hg hl hPo hPx hmc hms F
  subst hg; subst hl
  refine SW.cast (L' := [(0, .ref q), (1, .ref k), (2, .ref v), (3, .int (jI 1))]) ?_ rfl rfl rfl
  refine sw_tmOpen (fun rt Ks ka va L R P cl rk lo hi hT hND hcb hka hmf => ?_)
  refine sw_aload_n (n := 1) F 0 (some q) rfl rfl rfl dJ10_put_2_0 rfl ?_
  refine sw_get (n := 4) F 0 rfl (k := 3) ⟨(RJ10, TJ10, 9), rfl, by decide, q288, in_J10, Or.inl rfl⟩ rfl dJ10_put_2_1 rfl ?_
  refine sw_astore (n := 6) F rt (L2 := [(4, va_rf rt), (0, .ref q), (1, .ref k), (2, .ref v), (3, .int (jI 1))]) (by first | rfl | simp [va_rf_cat]) rfl (by decide) dJ10_put_2_4 rfl ?_
  refine sw_aload (n := 8) F 0 rt rfl rfl dJ10_put_2_6 rfl ?_
  refine sw_ifnonnull (n := 11) F (o := rt) rfl (tgt := 19) dJ10_put_2_8 (by decide) rfl (fun q_1 c_8 => ?_) (fun c_8 => ?_)
  ·
    refine SW.cast (Ps' := _) (L' := [(4, .ref q_1), (0, .ref q), (1, .ref k), (2, .ref v), (3, .int (jI 1))]) (st' := []) ?_ rfl (by rw [c_8]; rfl) (by first | rfl | rw [c_8]; rfl)
    refine SW.cast (Ps' := [ob (xg x) q 14 [.null, va_rf vs, .null, .ref q_1, .int (jI (↑n)), .int (jI mc), .null, .null, .null], nd (xg x) Ks ka va L R P cl, vO (xg x) vs q, pl (xg x) M]) ?_ (by rw [c_8]; rfl) rfl rfl
    refine sw_aload_n (n := 20) F 1 (some q) rfl rfl rfl dJ10_put_2_19 rfl ?_
    refine sw_get (n := 23) F 0 rfl (k := 2) ⟨(RJ10, TJ10, 9), rfl, by decide, q287, in_J10, Or.inl rfl⟩ rfl dJ10_put_2_20 rfl ?_
    refine sw_astore (n := 25) F none (L2 := [(7, .null), (4, .ref q_1), (0, .ref q), (1, .ref k), (2, .ref v), (3, .int (jI 1))]) rfl rfl (by decide) dJ10_put_2_23 rfl ?_
    refine sw_aload (n := 27) F 0 none rfl rfl dJ10_put_2_25 rfl ?_
    refine sw_ifnull (n := 30) F (o := none) rfl (tgt := 112) dJ10_put_2_27 (by decide) rfl (fun c_27 => ?_) (fun _ _ => ?_)
    ·
      refine sw_aload_n (n := 113) F 3 (some k) rfl rfl rfl dJ10_put_2_112 rfl ?_
      refine sw_callS (n := 116) F (ct_J25_requireNonNull (g := xg x) (l := xl x) k ) q3168 q1470 q134 q1471 nd_J25_requireNonNull rfl (by decide) [0, 1, 2, 3] (perm_ok _ 4 (by decide +kernel) rfl) [ob (xg x) q 14 [.null, va_rf vs, .null, .ref q_1, .int (jI (↑n)), .int (jI mc), .null, .null, .null], nd (xg x) Ks ka va L R P cl, vO (xg x) vs q, pl (xg x) M] rfl 1 6 ⟨by omega, by omega⟩ [] rfl (Nat.le_of_ble_eq_true rfl) dJ10_put_2_113 rfl (fun _ _ h => h.elim) (fun v Ws h => ?_)
      obtain ⟨rfl, rfl⟩ := h
      show SW x [ob (xg x) q 14 [.null, va_rf vs, .null, .ref q_1, .int (jI (↑n)), .int (jI mc), .null, .null, .null], nd (xg x) Ks ka va L R P cl, vO (xg x) vs q, pl (xg x) M] _ _ _ _ [.ref k]
      refine sw_pop (n := 117) F rfl dJ10_put_2_116 rfl ?_
      refine sw_aload_n (n := 118) F 3 (some k) rfl rfl rfl dJ10_put_2_117 rfl ?_
      refine sw_castC (n := 121) F (kn_rcv F 3 rfl (kn_plN hk) rfl) q2915 q2920 dJ10_put_2_118 rfl ?_
      refine sw_astore (n := 123) F (some k) (L2 := [(8, .ref k), (7, .null), (4, .ref q_1), (0, .ref q), (1, .ref k), (2, .ref v), (3, .int (jI 1))]) rfl rfl (by decide) dJ10_put_2_121 rfl ?_
      have K123 : ∀ N123 : Nat, ∀ (t2 : Nat), (t2 ∈ Ks ∧ lo t2 < z ∧ z < hi t2) → ((gM lo hi (some t2)) < N123) → SW x [ob (xg x) q 14 [.null, va_rf vs, .null, va_rf rt, .int (jI (↑n)), .int (jI mc), .null, .null, .null], nd (xg x) Ks ka va L R P cl, vO (xg x) vs q, pl (xg x) M] 1 6 123 [(0, .ref q), (1, .ref k), (2, .ref v), (3, .int (jI 1)), (4, .ref t2), (8, .ref k)] [] := by
        intro N123; induction N123 with
        | zero => intro t2 ht2 hmu123; omega
        | succ N123 ih123 =>
          intro t2 ht2 hmu123
          refine sw_aload (n := 125) F 4 (some t2) rfl rfl dJ10_put_2_123 rfl ?_
          refine sw_astore (n := 127) F (some t2) (L2 := [(6, .ref t2), (0, .ref q), (1, .ref k), (2, .ref v), (3, .int (jI 1)), (4, .ref t2), (8, .ref k)]) rfl rfl (by decide) dJ10_put_2_125 rfl ?_
          have hkt : at_ (xg x) M (ka t2) (vN (rk t2)) := hka _ ht2.1
          have htK : t2 ∈ Ks := ht2.1
          have hrz := hT.rng ht2.1
          have hci := ciI_cases z (rk t2)
          refine sw_aload (n := 129) F 6 (some k) rfl rfl dJ10_put_2_127 rfl ?_
          refine sw_aload (n := 131) F 5 (some t2) rfl rfl dJ10_put_2_129 rfl ?_
          refine sw_getK (n := 134) F (nd_hO 1 rfl htK) (k := 0) ⟨(RJ41, TJ41, 6), rfl, by decide, q3145, in_J41, Or.inl rfl⟩ (v := .ref (ka t2)) rfl dJ10_put_2_131 rfl ?_
          refine sw_callF (n := 139) F (ct_J22_compareTo (g := xg x) (l := xl x) M k z (ka t2) (rk t2) hk hkt hz (by first | omega | assumption)) (kn_rcv F 3 rfl (kn_plN hk) rfl) (ci := 17) rfl (fw_of F.gx.1 q2919 q2918 q2924 q2922 q2920) q2917 q2921 q2923 q130 q2925 ndx_Comparable_compareTo rfl (by decide) [3, 0, 1, 2] (perm_ok _ 4 (by decide +kernel) rfl) [ob (xg x) q 14 [.null, va_rf vs, .null, va_rf rt, .int (jI (↑n)), .int (jI mc), .null, .null, .null], nd (xg x) Ks ka va L R P cl, vO (xg x) vs q] rfl 1 6 ⟨by omega, by omega⟩ [] rfl (Nat.le_of_ble_eq_true rfl) dJ10_put_2_134 rfl (fun _ _ h => h.elim) (fun v Ws h => ?_)
          obtain ⟨rfl, rfl⟩ := h
          show SW x [pl (xg x) M, ob (xg x) q 14 [.null, va_rf vs, .null, va_rf rt, .int (jI (↑n)), .int (jI mc), .null, .null, .null], nd (xg x) Ks ka va L R P cl, vO (xg x) vs q] _ _ _ _ [.int (jI (ciI z (rk t2)))]
          refine sw_istore (n := 141) F (L2 := [(5, .int (jI (ciI z (rk t2)))), (6, .ref t2), (0, .ref q), (1, .ref k), (2, .ref v), (3, .int (jI 1)), (4, .ref t2), (8, .ref k)]) rfl (by decide) dJ10_put_2_139 rfl ?_
          refine sw_iload (n := 143) F 0 rfl dJ10_put_2_141 rfl ?_
          refine sw_if_ge (n := 146) F (by omega) (tgt := 156) dJ10_put_2_143 (by decide) rfl (fun c_143 => ?_) (fun c_143 => ?_)
          ·
            refine sw_iload (n := 158) F 0 rfl dJ10_put_2_156 rfl ?_
            refine sw_if_le (n := 161) F (by omega) (tgt := 171) dJ10_put_2_158 (by decide) rfl (fun c_158 => ?_) (fun c_158 => ?_)
            ·
              have hze : z = rk t2 := by omega
              refine sw_aload (n := 173) F 6 (some t2) rfl rfl dJ10_put_2_171 rfl ?_
              refine sw_getK (n := 176) F (nd_hO 2 rfl htK) (k := 1) ⟨(RJ41, TJ41, 6), rfl, by decide, q3148, in_J41, Or.inl rfl⟩ (v := .ref (va t2)) rfl dJ10_put_2_173 rfl ?_
              refine sw_astore (n := 178) F (some (va t2)) (L2 := [(9, .ref (va t2)), (5, .int (jI (ciI z (rk t2)))), (6, .ref t2), (0, .ref q), (1, .ref k), (2, .ref v), (3, .int (jI 1)), (4, .ref t2), (8, .ref k)]) rfl rfl (by decide) dJ10_put_2_176 rfl ?_
              refine sw_iload_n (n := 179) F 6 rfl rfl dJ10_put_2_178 rfl ?_
              refine sw_if_ne (n := 182) F (by decide) (tgt := 187) dJ10_put_2_179 (by decide) rfl (fun c_179 => ?_) (fun c_179 => ?_)
              ·
                refine sw_aload (n := 189) F 7 (some t2) rfl rfl dJ10_put_2_187 rfl ?_
                refine sw_aload_n (n := 190) F 5 (some v) rfl rfl rfl dJ10_put_2_189 rfl ?_
                refine sw_perm [2, 0, 1, 3] (perm_ok _ 4 (by decide +kernel) rfl) [nd (xg x) Ks ka va L R P cl, pl (xg x) M, ob (xg x) q 14 [.null, va_rf vs, .null, va_rf rt, .int (jI (↑n)), .int (jI mc), .null, .null, .null], vO (xg x) vs q] rfl ?_
                refine sw_ndput (ka' := ka) (va' := (va_up va t2 v)) (L' := L) (R' := R) (P' := P) (cl' := cl) F htK (k := 1) ⟨(RJ41, TJ41, 6), rfl, by decide, q3148, in_J41, Or.inl rfl⟩ (tyJ41 1) ⟨(RJ41, TJ41, 6), rfl, rfl, tyJ41_ok 1 (by decide), nmJ41, tyJ41, tyJ41_ok⟩ rfl rfl (by decide) (by simp [flN, va_up, va_rf]) (fun t9 h9 => by simp [flN, va_up, h9]) dJ10_put_2_190 rfl ?_
                show SW x [nd (xg x) Ks ka (va_up va t2 v) L R P cl, pl (xg x) M, ob (xg x) q 14 [.null, va_rf vs, .null, va_rf rt, .int (jI (↑n)), .int (jI mc), .null, .null, .null], vO (xg x) vs q] _ _ _ _ _
                refine sw_perm [2, 0, 3, 1] (perm_ok _ 4 (by decide +kernel) rfl) [ob (xg x) q 14 [.null, va_rf vs, .null, va_rf rt, .int (jI (↑n)), .int (jI mc), .null, .null, .null], nd (xg x) Ks ka (va_up va t2 v) L R P cl, vO (xg x) vs q, pl (xg x) M] rfl ?_; refine sw_tmClose (n := n) (f := mU f z (some v)) (M := M) hT hND (by (repeat' first | assumption | exact Or.inl rfl | exact Or.inr rfl | apply clO_b | refine cb_up ?_ ?_ | refine cb_cu ?_ ?_)) hka (hze ▸ hmf.upd hT htK (fun u => by unfold va_up; rfl)) ?_
                refine sw_aload (n := 195) F 0 (some (va t2)) rfl rfl dJ10_put_2_193 rfl ?_
                exact sw_aret F (some (va t2)) _ rfl rfl (by first | exact Or.inl ⟨_, rfl⟩ | exact Or.inr ⟨_, rfl⟩) dJ10_put_2_195 (by rw [hPo]; exact ⟨mc, n, (by rw [hze, hmf.sm htK]; rfl), (by first | exact Or.inl ⟨hfz, rfl⟩ | exact Or.inl ⟨hfz, by omega⟩ | exact Or.inr ⟨by rw [hze, hmf.sm htK]; simp, rfl⟩), rfl⟩)
              · exfalso; exact absurd c_179 (by decide)
            ·
              refine sw_aload (n := 163) F 6 (some t2) rfl rfl dJ10_put_2_161 rfl ?_
              refine sw_getK (n := 166) F (nd_hO 2 rfl htK) (k := 3) ⟨(RJ41, TJ41, 6), rfl, by decide, q3150, in_J41, Or.inl rfl⟩ (v := va_rf (R t2)) rfl dJ10_put_2_163 rfl ?_
              refine sw_astore (n := 168) F (R t2) (L2 := [(4, va_rf (R t2)), (5, .int (jI (ciI z (rk t2)))), (6, .ref t2), (0, .ref q), (1, .ref k), (2, .ref v), (3, .int (jI 1)), (8, .ref k)]) (by first | rfl | simp [va_rf_cat]) rfl (by decide) dJ10_put_2_166 rfl ?_
              refine sw_goto F (n := 196) dJ10_put_2_168 (by decide) ?_
              refine sw_aload (n := 198) F 0 (R t2) rfl rfl dJ10_put_2_196 rfl ?_
              refine sw_ifnonnull (n := 201) F (o := (R t2)) rfl (tgt := 123) dJ10_put_2_198 (by decide) rfl (fun q_2 c_198 => ?_) (fun c_198 => ?_)
              ·
                refine SW.cast (Ps' := _) (L' := [(4, .ref q_2), (5, .int (jI (ciI z (rk t2)))), (6, .ref t2), (0, .ref q), (1, .ref k), (2, .ref v), (3, .int (jI 1)), (8, .ref k)]) (st' := []) ?_ rfl (by rw [c_198]; rfl) (by first | rfl | rw [c_198]; rfl)
                refine sw_perm [1, 2, 3, 0] (perm_ok _ 4 (by decide +kernel) rfl) [ob (xg x) q 14 [.null, va_rf vs, .null, va_rf rt, .int (jI (↑n)), .int (jI mc), .null, .null, .null], nd (xg x) Ks ka va L R P cl, vO (xg x) vs q, pl (xg x) M] rfl ?_
                refine sw_loc [3, 4, 5, 6, 0, 7] (L2 := [(0, .ref q), (1, .ref k), (2, .ref v), (3, .int (jI 1)), (4, .ref q_2), (8, .ref k)]) rfl ?_
                exact ih123 q_2 (by first | exact (hT.sL ht2 (by omega)).1 _ c_198 | exact (hT.sR ht2 (by omega)).1 _ c_198) (by first | (have h8 := hT.gML htK; rw [c_198] at h8; omega) | (have h8 := hT.gMR htK; rw [c_198] at h8; omega))
              ·
                refine SW.cast (Ps' := _) (L' := [(4, .null), (5, .int (jI (ciI z (rk t2)))), (6, .ref t2), (0, .ref q), (1, .ref k), (2, .ref v), (3, .int (jI 1)), (8, .ref k)]) (st' := []) ?_ rfl (by rw [c_198]; rfl) (by first | rfl | rw [c_198]; rfl)
                have hnn : ∀ t, t ∈ Ks → rk t ≠ z := fun t ht e9 => by have h1 := c_198; first | exact hT.gl htK h1 ht (by omega) (by omega) | exact hT.gr htK h1 ht (by omega) (by omega)
                have hfz : f z = none := hmf.nn hnn
                refine sw_aload_n (n := 202) F 3 (some q) rfl rfl rfl dJ10_put_2_201 rfl ?_
                refine sw_aload_n (n := 203) F 4 (some k) rfl rfl rfl dJ10_put_2_202 rfl ?_
                refine sw_aload_n (n := 204) F 5 (some v) rfl rfl rfl dJ10_put_2_203 rfl ?_
                refine sw_aload (n := 206) F 2 (some t2) rfl rfl dJ10_put_2_204 rfl ?_
                refine sw_iload (n := 208) F 1 rfl dJ10_put_2_206 rfl ?_
                refine sw_if_ge (n := 211) F (by omega) (tgt := 215) dJ10_put_2_208 (by decide) rfl (fun c_208 => ?_) (fun c_208 => ?_)
                ·
                  refine sw_iconst (n := 216) F (0) (by decide) dJ10_put_2_215 rfl ?_
                  refine sw_callV (n := 219) F (ct_J10_addEntry_r (g := xg x) (l := xl x) M Ks ka va L R P cl q vs rt (↑n) mc rk lo hi k z v t2 hT (by (repeat' first | assumption | exact Or.inl rfl | exact Or.inr rfl | apply clO_b | refine cb_up ?_ ?_ | refine cb_cu ?_ ?_)) hk (by exact ht2) (by first | omega | assumption) (by first | exact c_198 | (exfalso; omega))) (rcv_ob F 1 rfl rfl) q3169 q3171 qs50 q114 q3172 nd_J10_addEntry rfl (by decide) [1, 2, 0, 3] (perm_ok _ 4 (by decide +kernel) rfl) [vO (xg x) vs q] rfl 0 0 ⟨by omega, by omega⟩ [] rfl (Nat.le_of_ble_eq_true rfl) dJ10_put_2_216 rfl (fun _ _ h => h.elim) (fun v Ws h => ?_)
                  obtain ⟨e_3, L1_4, R1_5, P1_6, rt1_7, lo1_8, hi1_9, cl1_10, rfl, hnew_11, hT1_12, hcb1_13, rfl⟩ := h
                  show SW x [ob (xg x) q 14 [.null, va_rf vs, .null, va_rf rt1_7, .int (jI ((↑n) + 1)), .int (jI (mc + 1)), .null, .null, .null], nd (xg x) (e_3 :: Ks) (va_up ka e_3 k) (va_up va e_3 v) L1_4 R1_5 P1_6 cl1_10, pl (xg x) M, vO (xg x) vs q] _ _ _ _ []
                  refine sw_perm [0, 1, 3, 2] (perm_ok _ 4 (by decide +kernel) rfl) [ob (xg x) q 14 [.null, va_rf vs, .null, va_rf rt1_7, .int (jI ((↑n) + 1)), .int (jI (mc + 1)), .null, .null, .null], nd (xg x) (e_3 :: Ks) (va_up ka e_3 k) (va_up va e_3 v) L1_4 R1_5 P1_6 cl1_10, vO (xg x) vs q, pl (xg x) M] rfl ?_; refine sw_tmClose (n := n + 1) (f := mU f z (some v)) (M := M) hT1_12 ⟨List.nodup_cons.mpr ⟨hnew_11, hND.1⟩, by simp [hND.2]⟩ (by (repeat' first | assumption | exact Or.inl rfl | exact Or.inr rfl | apply clO_b | refine cb_up ?_ ?_ | refine cb_cu ?_ ?_)) (ka_add hnew_11 hk hka) (hmf.add hnew_11 hnn (fun u => by unfold va_up; rfl) (fun u => by unfold va_up; rfl)) ?_
                  refine sw_null (n := 220) F dJ10_put_2_219 rfl ?_
                  exact sw_aret F none _ rfl rfl (by first | exact Or.inl ⟨_, rfl⟩ | exact Or.inr ⟨_, rfl⟩) dJ10_put_2_220 (by rw [hPo]; exact ⟨mc + 1, n + 1, (by rw [hfz]; rfl), (by first | exact Or.inl ⟨hfz, rfl⟩ | exact Or.inl ⟨hfz, by omega⟩ | exact Or.inr ⟨by rw [hze, hmf.sm htK]; simp, rfl⟩), rfl⟩)
                ·
                  refine sw_iconst (n := 212) F (1) (by decide) dJ10_put_2_211 rfl ?_
                  refine sw_goto F (n := 216) dJ10_put_2_212 (by decide) ?_
                  refine sw_callV (n := 219) F (ct_J10_addEntry_l (g := xg x) (l := xl x) M Ks ka va L R P cl q vs rt (↑n) mc rk lo hi k z v t2 hT (by (repeat' first | assumption | exact Or.inl rfl | exact Or.inr rfl | apply clO_b | refine cb_up ?_ ?_ | refine cb_cu ?_ ?_)) hk (by exact ht2) (by first | omega | assumption) (by first | exact c_198 | (exfalso; omega))) (rcv_ob F 1 rfl rfl) q3169 q3171 qs50 q114 q3172 nd_J10_addEntry rfl (by decide) [1, 2, 0, 3] (perm_ok _ 4 (by decide +kernel) rfl) [vO (xg x) vs q] rfl 0 0 ⟨by omega, by omega⟩ [] rfl (Nat.le_of_ble_eq_true rfl) dJ10_put_2_216 rfl (fun _ _ h => h.elim) (fun v Ws h => ?_)
                  obtain ⟨e_14, L1_15, R1_16, P1_17, rt1_18, lo1_19, hi1_20, cl1_21, rfl, hnew_22, hT1_23, hcb1_24, rfl⟩ := h
                  show SW x [ob (xg x) q 14 [.null, va_rf vs, .null, va_rf rt1_18, .int (jI ((↑n) + 1)), .int (jI (mc + 1)), .null, .null, .null], nd (xg x) (e_14 :: Ks) (va_up ka e_14 k) (va_up va e_14 v) L1_15 R1_16 P1_17 cl1_21, pl (xg x) M, vO (xg x) vs q] _ _ _ _ []
                  refine sw_perm [0, 1, 3, 2] (perm_ok _ 4 (by decide +kernel) rfl) [ob (xg x) q 14 [.null, va_rf vs, .null, va_rf rt1_18, .int (jI ((↑n) + 1)), .int (jI (mc + 1)), .null, .null, .null], nd (xg x) (e_14 :: Ks) (va_up ka e_14 k) (va_up va e_14 v) L1_15 R1_16 P1_17 cl1_21, vO (xg x) vs q, pl (xg x) M] rfl ?_; refine sw_tmClose (n := n + 1) (f := mU f z (some v)) (M := M) hT1_23 ⟨List.nodup_cons.mpr ⟨hnew_22, hND.1⟩, by simp [hND.2]⟩ (by (repeat' first | assumption | exact Or.inl rfl | exact Or.inr rfl | apply clO_b | refine cb_up ?_ ?_ | refine cb_cu ?_ ?_)) (ka_add hnew_22 hk hka) (hmf.add hnew_22 hnn (fun u => by unfold va_up; rfl) (fun u => by unfold va_up; rfl)) ?_
                  refine sw_null (n := 220) F dJ10_put_2_219 rfl ?_
                  exact sw_aret F none _ rfl rfl (by first | exact Or.inl ⟨_, rfl⟩ | exact Or.inr ⟨_, rfl⟩) dJ10_put_2_220 (by rw [hPo]; exact ⟨mc + 1, n + 1, (by rw [hfz]; rfl), (by first | exact Or.inl ⟨hfz, rfl⟩ | exact Or.inl ⟨hfz, by omega⟩ | exact Or.inr ⟨by rw [hze, hmf.sm htK]; simp, rfl⟩), rfl⟩)
          ·
            refine sw_aload (n := 148) F 6 (some t2) rfl rfl dJ10_put_2_146 rfl ?_
            refine sw_getK (n := 151) F (nd_hO 2 rfl htK) (k := 2) ⟨(RJ41, TJ41, 6), rfl, by decide, q3149, in_J41, Or.inl rfl⟩ (v := va_rf (L t2)) rfl dJ10_put_2_148 rfl ?_
            refine sw_astore (n := 153) F (L t2) (L2 := [(4, va_rf (L t2)), (5, .int (jI (ciI z (rk t2)))), (6, .ref t2), (0, .ref q), (1, .ref k), (2, .ref v), (3, .int (jI 1)), (8, .ref k)]) (by first | rfl | simp [va_rf_cat]) rfl (by decide) dJ10_put_2_151 rfl ?_
            refine sw_goto F (n := 196) dJ10_put_2_153 (by decide) ?_
            refine sw_aload (n := 198) F 0 (L t2) rfl rfl dJ10_put_2_196 rfl ?_
            refine sw_ifnonnull (n := 201) F (o := (L t2)) rfl (tgt := 123) dJ10_put_2_198 (by decide) rfl (fun q_25 c_198 => ?_) (fun c_198 => ?_)
            ·
              refine SW.cast (Ps' := _) (L' := [(4, .ref q_25), (5, .int (jI (ciI z (rk t2)))), (6, .ref t2), (0, .ref q), (1, .ref k), (2, .ref v), (3, .int (jI 1)), (8, .ref k)]) (st' := []) ?_ rfl (by rw [c_198]; rfl) (by first | rfl | rw [c_198]; rfl)
              refine sw_perm [1, 2, 3, 0] (perm_ok _ 4 (by decide +kernel) rfl) [ob (xg x) q 14 [.null, va_rf vs, .null, va_rf rt, .int (jI (↑n)), .int (jI mc), .null, .null, .null], nd (xg x) Ks ka va L R P cl, vO (xg x) vs q, pl (xg x) M] rfl ?_
              refine sw_loc [3, 4, 5, 6, 0, 7] (L2 := [(0, .ref q), (1, .ref k), (2, .ref v), (3, .int (jI 1)), (4, .ref q_25), (8, .ref k)]) rfl ?_
              exact ih123 q_25 (by first | exact (hT.sL ht2 (by omega)).1 _ c_198 | exact (hT.sR ht2 (by omega)).1 _ c_198) (by first | (have h8 := hT.gML htK; rw [c_198] at h8; omega) | (have h8 := hT.gMR htK; rw [c_198] at h8; omega))
            ·
              refine SW.cast (Ps' := _) (L' := [(4, .null), (5, .int (jI (ciI z (rk t2)))), (6, .ref t2), (0, .ref q), (1, .ref k), (2, .ref v), (3, .int (jI 1)), (8, .ref k)]) (st' := []) ?_ rfl (by rw [c_198]; rfl) (by first | rfl | rw [c_198]; rfl)
              have hnn : ∀ t, t ∈ Ks → rk t ≠ z := fun t ht e9 => by have h1 := c_198; first | exact hT.gl htK h1 ht (by omega) (by omega) | exact hT.gr htK h1 ht (by omega) (by omega)
              have hfz : f z = none := hmf.nn hnn
              refine sw_aload_n (n := 202) F 3 (some q) rfl rfl rfl dJ10_put_2_201 rfl ?_
              refine sw_aload_n (n := 203) F 4 (some k) rfl rfl rfl dJ10_put_2_202 rfl ?_
              refine sw_aload_n (n := 204) F 5 (some v) rfl rfl rfl dJ10_put_2_203 rfl ?_
              refine sw_aload (n := 206) F 2 (some t2) rfl rfl dJ10_put_2_204 rfl ?_
              refine sw_iload (n := 208) F 1 rfl dJ10_put_2_206 rfl ?_
              refine sw_if_ge (n := 211) F (by omega) (tgt := 215) dJ10_put_2_208 (by decide) rfl (fun c_208 => ?_) (fun c_208 => ?_)
              ·
                refine sw_iconst (n := 216) F (0) (by decide) dJ10_put_2_215 rfl ?_
                refine sw_callV (n := 219) F (ct_J10_addEntry_r (g := xg x) (l := xl x) M Ks ka va L R P cl q vs rt (↑n) mc rk lo hi k z v t2 hT (by (repeat' first | assumption | exact Or.inl rfl | exact Or.inr rfl | apply clO_b | refine cb_up ?_ ?_ | refine cb_cu ?_ ?_)) hk (by exact ht2) (by first | omega | assumption) (by first | exact c_198 | (exfalso; omega))) (rcv_ob F 1 rfl rfl) q3169 q3171 qs50 q114 q3172 nd_J10_addEntry rfl (by decide) [1, 2, 0, 3] (perm_ok _ 4 (by decide +kernel) rfl) [vO (xg x) vs q] rfl 0 0 ⟨by omega, by omega⟩ [] rfl (Nat.le_of_ble_eq_true rfl) dJ10_put_2_216 rfl (fun _ _ h => h.elim) (fun v Ws h => ?_)
                obtain ⟨e_26, L1_27, R1_28, P1_29, rt1_30, lo1_31, hi1_32, cl1_33, rfl, hnew_34, hT1_35, hcb1_36, rfl⟩ := h
                show SW x [ob (xg x) q 14 [.null, va_rf vs, .null, va_rf rt1_30, .int (jI ((↑n) + 1)), .int (jI (mc + 1)), .null, .null, .null], nd (xg x) (e_26 :: Ks) (va_up ka e_26 k) (va_up va e_26 v) L1_27 R1_28 P1_29 cl1_33, pl (xg x) M, vO (xg x) vs q] _ _ _ _ []
                refine sw_perm [0, 1, 3, 2] (perm_ok _ 4 (by decide +kernel) rfl) [ob (xg x) q 14 [.null, va_rf vs, .null, va_rf rt1_30, .int (jI ((↑n) + 1)), .int (jI (mc + 1)), .null, .null, .null], nd (xg x) (e_26 :: Ks) (va_up ka e_26 k) (va_up va e_26 v) L1_27 R1_28 P1_29 cl1_33, vO (xg x) vs q, pl (xg x) M] rfl ?_; refine sw_tmClose (n := n + 1) (f := mU f z (some v)) (M := M) hT1_35 ⟨List.nodup_cons.mpr ⟨hnew_34, hND.1⟩, by simp [hND.2]⟩ (by (repeat' first | assumption | exact Or.inl rfl | exact Or.inr rfl | apply clO_b | refine cb_up ?_ ?_ | refine cb_cu ?_ ?_)) (ka_add hnew_34 hk hka) (hmf.add hnew_34 hnn (fun u => by unfold va_up; rfl) (fun u => by unfold va_up; rfl)) ?_
                refine sw_null (n := 220) F dJ10_put_2_219 rfl ?_
                exact sw_aret F none _ rfl rfl (by first | exact Or.inl ⟨_, rfl⟩ | exact Or.inr ⟨_, rfl⟩) dJ10_put_2_220 (by rw [hPo]; exact ⟨mc + 1, n + 1, (by rw [hfz]; rfl), (by first | exact Or.inl ⟨hfz, rfl⟩ | exact Or.inl ⟨hfz, by omega⟩ | exact Or.inr ⟨by rw [hze, hmf.sm htK]; simp, rfl⟩), rfl⟩)
              ·
                refine sw_iconst (n := 212) F (1) (by decide) dJ10_put_2_211 rfl ?_
                refine sw_goto F (n := 216) dJ10_put_2_212 (by decide) ?_
                refine sw_callV (n := 219) F (ct_J10_addEntry_l (g := xg x) (l := xl x) M Ks ka va L R P cl q vs rt (↑n) mc rk lo hi k z v t2 hT (by (repeat' first | assumption | exact Or.inl rfl | exact Or.inr rfl | apply clO_b | refine cb_up ?_ ?_ | refine cb_cu ?_ ?_)) hk (by exact ht2) (by first | omega | assumption) (by first | exact c_198 | (exfalso; omega))) (rcv_ob F 1 rfl rfl) q3169 q3171 qs50 q114 q3172 nd_J10_addEntry rfl (by decide) [1, 2, 0, 3] (perm_ok _ 4 (by decide +kernel) rfl) [vO (xg x) vs q] rfl 0 0 ⟨by omega, by omega⟩ [] rfl (Nat.le_of_ble_eq_true rfl) dJ10_put_2_216 rfl (fun _ _ h => h.elim) (fun v Ws h => ?_)
                obtain ⟨e_37, L1_38, R1_39, P1_40, rt1_41, lo1_42, hi1_43, cl1_44, rfl, hnew_45, hT1_46, hcb1_47, rfl⟩ := h
                show SW x [ob (xg x) q 14 [.null, va_rf vs, .null, va_rf rt1_41, .int (jI ((↑n) + 1)), .int (jI (mc + 1)), .null, .null, .null], nd (xg x) (e_37 :: Ks) (va_up ka e_37 k) (va_up va e_37 v) L1_38 R1_39 P1_40 cl1_44, pl (xg x) M, vO (xg x) vs q] _ _ _ _ []
                refine sw_perm [0, 1, 3, 2] (perm_ok _ 4 (by decide +kernel) rfl) [ob (xg x) q 14 [.null, va_rf vs, .null, va_rf rt1_41, .int (jI ((↑n) + 1)), .int (jI (mc + 1)), .null, .null, .null], nd (xg x) (e_37 :: Ks) (va_up ka e_37 k) (va_up va e_37 v) L1_38 R1_39 P1_40 cl1_44, vO (xg x) vs q, pl (xg x) M] rfl ?_; refine sw_tmClose (n := n + 1) (f := mU f z (some v)) (M := M) hT1_46 ⟨List.nodup_cons.mpr ⟨hnew_45, hND.1⟩, by simp [hND.2]⟩ (by (repeat' first | assumption | exact Or.inl rfl | exact Or.inr rfl | apply clO_b | refine cb_up ?_ ?_ | refine cb_cu ?_ ?_)) (ka_add hnew_45 hk hka) (hmf.add hnew_45 hnn (fun u => by unfold va_up; rfl) (fun u => by unfold va_up; rfl)) ?_
                refine sw_null (n := 220) F dJ10_put_2_219 rfl ?_
                exact sw_aret F none _ rfl rfl (by first | exact Or.inl ⟨_, rfl⟩ | exact Or.inr ⟨_, rfl⟩) dJ10_put_2_220 (by rw [hPo]; exact ⟨mc + 1, n + 1, (by rw [hfz]; rfl), (by first | exact Or.inl ⟨hfz, rfl⟩ | exact Or.inl ⟨hfz, by omega⟩ | exact Or.inr ⟨by rw [hze, hmf.sm htK]; simp, rfl⟩), rfl⟩)
      refine SW.cast (Ps' := [ob (xg x) q 14 [.null, va_rf vs, .null, va_rf rt, .int (jI (↑n)), .int (jI mc), .null, .null, .null], nd (xg x) Ks ka va L R P cl, vO (xg x) vs q, pl (xg x) M]) ?_ (by rw [c_8]; rfl) rfl rfl
      refine sw_loc [3, 4, 5, 6, 2, 0] (L2 := [(0, .ref q), (1, .ref k), (2, .ref v), (3, .int (jI 1)), (4, .ref q_1), (8, .ref k)]) rfl ?_
      exact K123 _ q_1 (by exact (hT.s0 hz).1 _ c_8) (Nat.lt_succ_self _)
    · rename_i hq; cases hq
  ·
    refine SW.cast (Ps' := _) (L' := [(4, .null), (0, .ref q), (1, .ref k), (2, .ref v), (3, .int (jI 1))]) (st' := []) ?_ rfl (by rw [c_8]; rfl) (by first | rfl | rw [c_8]; rfl)
    have hE : Ks = [] := List.eq_nil_iff_forall_not_mem.mpr (hT.no c_8)
    subst hE
    have hfz : f z = none := hmf.nn (fun t ht => by cases ht)
    have hn0 : n = 0 := hND.2.symm
    refine SW.cast (Ps' := [ob (xg x) q 14 [.null, va_rf vs, .null, .null, .int (jI (↑n)), .int (jI mc), .null, .null, .null], nd (xg x) ([]) ka va L R P cl, vO (xg x) vs q, pl (xg x) M]) ?_ (by rw [c_8]; rfl) rfl rfl
    refine sw_aload_n (n := 12) F 1 (some q) rfl rfl rfl dJ10_put_2_11 rfl ?_
    refine sw_aload_n (n := 13) F 2 (some k) rfl rfl rfl dJ10_put_2_12 rfl ?_
    refine sw_aload_n (n := 14) F 3 (some v) rfl rfl rfl dJ10_put_2_13 rfl ?_
    refine sw_callV (n := 17) F (ct_J10_addEntryToEmptyMap (g := xg x) (l := xl x) M q vs (↑n) mc ka va L R P cl k z v hk hz) (rcv_ob F 0 rfl rfl) q2907 q2909 qs49 q114 q2910 nd_J10_addEntryToEmptyMap rfl (by decide) [0, 1, 3, 2] (perm_ok _ 4 (by decide +kernel) rfl) [vO (xg x) vs q] rfl 0 0 ⟨by omega, by omega⟩ [] rfl (Nat.le_of_ble_eq_true rfl) dJ10_put_2_14 rfl (fun _ _ h => h.elim) (fun v Ws h => ?_)
    obtain ⟨e_48, rfl, rfl⟩ := h
    show SW x [ob (xg x) q 14 [.null, va_rf vs, .null, .ref e_48, .int (jI 1), .int (jI (mc + 1)), .null, .null, .null], nd (xg x) ([e_48]) (va_up ka e_48 k) (va_up va e_48 v) (va_up L e_48 none) (va_up R e_48 none) (va_up P e_48 none) (va_up cl e_48 1), pl (xg x) M, vO (xg x) vs q] _ _ _ _ []
    have hTe : TrI [e_48] (va_up L e_48 none) (va_up R e_48 none) (va_up P e_48 none) (va_up rk e_48 z) (fun _ => -2147483649) (fun _ => 2147483648) (some e_48) := TrI.add0 (by rw [va_up_self]; exact hz) (va_up_self ..) (va_up_self ..) (va_up_self ..)
    have hne : ¬ e_48 ∈ ([] : List Nat) := fun h9 => by cases h9
    refine sw_perm [0, 1, 3, 2] (perm_ok _ 4 (by decide +kernel) rfl) [ob (xg x) q 14 [.null, va_rf vs, .null, .ref e_48, .int (jI 1), .int (jI (mc + 1)), .null, .null, .null], nd (xg x) ([e_48]) (va_up ka e_48 k) (va_up va e_48 v) (va_up L e_48 none) (va_up R e_48 none) (va_up P e_48 none) (va_up cl e_48 1), vO (xg x) vs q, pl (xg x) M] rfl ?_; refine sw_tmClose (n := 1) (f := mU f z (some v)) (M := M) hTe ⟨List.nodup_cons.mpr ⟨hne, List.nodup_nil⟩, rfl⟩ (by (repeat' first | assumption | exact Or.inl rfl | exact Or.inr rfl | apply clO_b | refine cb_up ?_ ?_ | refine cb_cu ?_ ?_)) (ka_add hne hk hka) (hmf.add hne (fun t ht => by cases ht) (fun u => by unfold va_up; rfl) (fun u => by unfold va_up; rfl)) ?_
    refine sw_null (n := 18) F dJ10_put_2_17 rfl ?_
    exact sw_aret F none _ rfl rfl (by first | exact Or.inl ⟨_, rfl⟩ | exact Or.inr ⟨_, rfl⟩) dJ10_put_2_18 (by rw [hPo]; exact ⟨mc + 1, 1, (by rw [hfz]; rfl), (by first | exact Or.inl ⟨hfz, rfl⟩ | exact Or.inl ⟨hfz, by omega⟩ | exact Or.inr ⟨by rw [hze, hmf.sm htK]; simp, rfl⟩), rfl⟩)
theorem nd_J10_put : yJ10_put.cls ≠ "java/lang/invoke/MethodHandle" ∧ yJ10_put.cls ≠ "java/lang/invoke/VarHandle" ∧ (parseMethodDescriptor yJ10_put.desc).map (fun d => d.parameters.length) = some 2 := by decide +kernel
set_option maxRecDepth 100000 in
set_option maxHeartbeats 16000000 in
theorem ct_J10_put {g : GG} {l : Launch} (M : Nat → Option PV) (q : Nat) (vs : Option Nat) (mc : Int) (n : Nat) (f : Int → Option Nat) (k : Nat) (z : Int) (v : Nat) (hk : at_ g M k (vN z)) (hz : -2147483648 ≤ z ∧ z ≤ 2147483647) (hn : n < 1000) : Ct g l yJ10_put (ws_ yJ10_put cJ10_put 3 (Option.some (Jvm.ClassFile.FieldType.object "java/lang/Object"))) 7 148 1 6 [.ref q, .ref k, .ref v] [tmap g M q vs mc n f, pl g M] (fun v9 Ws9 => ∃ mc1 : Int, ∃ n1 : Nat, v9 = some (va_rf (f z)) ∧ ((f z = none ∧ n1 = n + 1) ∨ (f z ≠ none ∧ n1 = n)) ∧ Ws9 = [tmap g M q vs mc1 n1 (mU f z (some v)), pl g M]) (nox) := by
  refine Ct.of (cc := cJ10_put) (nL := 3) (ret := (Option.some (Jvm.ClassFile.FieldType.object "java/lang/Object"))) (by decide) rfl (Nat.le_of_ble_eq_true rfl) ?_
  intro x hg hl hPo hPx hmc hms F
  subst hg; subst hl
  refine SW.cast (L' := [(0, .ref q), (1, .ref k), (2, .ref v)]) ?_ rfl rfl rfl
  refine sw_aload_n (n := 1) F 0 (some q) rfl rfl rfl dJ10_put_0 rfl ?_
  refine sw_aload_n (n := 2) F 1 (some k) rfl rfl rfl dJ10_put_1 rfl ?_
  refine sw_aload_n (n := 3) F 2 (some v) rfl rfl rfl dJ10_put_2 rfl ?_
  refine sw_iconst (n := 4) F (1) (by decide) dJ10_put_3 rfl ?_
  refine sw_callV (n := 7) F (ct_J10_put_2 (g := xg x) (l := xl x) M q vs mc n f k z v hk hz hn) (kn_rcv F 0 rfl kn_tmap rfl) q2903 q2905 qs48 q114 q2906 nd_J10_put_2 rfl (by decide) [0, 1] rfl [] rfl 0 0 ⟨by omega, by omega⟩ [] rfl (Nat.le_of_ble_eq_true rfl) dJ10_put_4 rfl (fun _ _ h => h.elim) (fun v Ws h => ?_)
  obtain ⟨mc1_1, n1_2, rfl, hn1_3, rfl⟩ := h
  show SW x [tmap (xg x) M q vs mc1_1 n1_2 (mU f z (some v)), pl (xg x) M] _ _ _ _ [va_rf (f z)]
  exact sw_aret F (f z) _ rfl rfl (by first | exact Or.inl ⟨_, rfl⟩ | exact Or.inr ⟨_, rfl⟩) dJ10_put_7 (by rw [hPo]; exact ⟨mc1_1, n1_2, rfl, hn1_3, rfl⟩)
theorem nd_J10_get : yJ10_get.cls ≠ "java/lang/invoke/MethodHandle" ∧ yJ10_get.cls ≠ "java/lang/invoke/VarHandle" ∧ (parseMethodDescriptor yJ10_get.desc).map (fun d => d.parameters.length) = some 1 := by decide +kernel
set_option maxRecDepth 100000 in
set_option maxHeartbeats 16000000 in
theorem ct_J10_get {g : GG} {l : Launch} (M : Nat → Option PV) (q : Nat) (vs : Option Nat) (mc : Int) (n : Nat) (f : Int → Option Nat) (k : Nat) (z : Int) (hk : at_ g M k (vN z)) (hz : -2147483648 ≤ z ∧ z ≤ 2147483647) : Ct g l yJ10_get (ws_ yJ10_get cJ10_get 3 (Option.some (Jvm.ClassFile.FieldType.object "java/lang/Object"))) 5 99 0 0 [.ref q, .ref k] [tmap g M q vs mc n f, pl g M] (fun v9 Ws9 => v9 = some (va_rf (f z)) ∧ Ws9 = [tmap g M q vs mc n f, pl g M]) (nox) := by
  refine Ct.of (cc := cJ10_get) (nL := 3) (ret := (Option.some (Jvm.ClassFile.FieldType.object "java/lang/Object"))) (by decide) rfl (Nat.le_of_ble_eq_true rfl) ?_
  intro x hg hl hPo hPx hmc hms F
  subst hg; subst hl
  refine SW.cast (L' := [(0, .ref q), (1, .ref k)]) ?_ rfl rfl rfl
  refine sw_tmOpen (fun rt Ks ka va L R P cl rk lo hi hT hND hcb hka hmf => ?_)
  refine sw_aload_n (n := 1) F 0 (some q) rfl rfl rfl dJ10_get_0 rfl ?_
  refine sw_aload_n (n := 2) F 1 (some k) rfl rfl rfl dJ10_get_1 rfl ?_
  refine sw_callV (n := 5) F (ct_J10_getEntry (g := xg x) (l := xl x) M Ks ka va L R P cl q vs rt (↑n) mc rk lo hi k z hT hka hk hz) (rcv_ob F 0 rfl rfl) q3216 q3217 q3218 q114 q3219 nd_J10_getEntry rfl (by decide) [0, 1, 3, 2] (perm_ok _ 4 (by decide +kernel) rfl) [vO (xg x) vs q] rfl 0 0 ⟨by omega, by omega⟩ [] rfl (Nat.le_of_ble_eq_true rfl) dJ10_get_2 rfl (fun _ _ h => h.elim) (fun v Ws h => ?_)
  obtain ⟨o1_1, rfl, hs_2, rfl⟩ := h
  show SW x [ob (xg x) q 14 [.null, va_rf vs, .null, va_rf rt, .int (jI (↑n)), .int (jI mc), .null, .null, .null], nd (xg x) Ks ka va L R P cl, pl (xg x) M, vO (xg x) vs q] _ _ _ _ [va_rf o1_1]
  refine sw_astore_n (n := 6) F o1_1 (L2 := [(2, va_rf o1_1), (0, .ref q), (1, .ref k)]) (by first | rfl | simp [va_rf_cat]) rfl (by decide) rfl dJ10_get_5 rfl ?_
  refine sw_aload_n (n := 7) F 0 o1_1 rfl rfl rfl dJ10_get_6 rfl ?_
  refine sw_ifnonnull (n := 10) F (o := o1_1) rfl (tgt := 14) dJ10_get_7 (by decide) rfl (fun q_3 c_7 => ?_) (fun c_7 => ?_)
  ·
    refine SW.cast (Ps' := _) (L' := [(2, .ref q_3), (0, .ref q), (1, .ref k)]) (st' := []) ?_ rfl (by rw [c_7]; rfl) (by first | rfl | rw [c_7]; rfl)
    have hmt : q_3 ∈ Ks := (hs_2.1 _ c_7).1
    have hfz : f z = some (va q_3) := (hs_2.1 _ c_7).2 ▸ hmf.sm hmt
    refine sw_aload_n (n := 15) F 0 (some q_3) rfl rfl rfl dJ10_get_14 rfl ?_
    refine sw_getK (n := 18) F (nd_hO 1 rfl hmt) (k := 1) ⟨(RJ41, TJ41, 6), rfl, by decide, q3148, in_J41, Or.inl rfl⟩ (v := .ref (va q_3)) rfl dJ10_get_15 rfl ?_
    refine sw_perm [0, 1, 3, 2] (perm_ok _ 4 (by decide +kernel) rfl) [ob (xg x) q 14 [.null, va_rf vs, .null, va_rf rt, .int (jI (↑n)), .int (jI mc), .null, .null, .null], nd (xg x) Ks ka va L R P cl, vO (xg x) vs q, pl (xg x) M] rfl ?_; refine sw_tmClose (n := n) (f := f) (M := M) hT hND (by (repeat' first | assumption | exact Or.inl rfl | exact Or.inr rfl | apply clO_b | refine cb_up ?_ ?_ | refine cb_cu ?_ ?_)) hka hmf ?_
    exact sw_aret F (some (va q_3)) _ rfl rfl (by first | exact Or.inl ⟨_, rfl⟩ | exact Or.inr ⟨_, rfl⟩) dJ10_get_18 (by rw [hPo]; exact ⟨(by rw [hfz]; rfl), rfl⟩)
  ·
    refine SW.cast (Ps' := _) (L' := [(2, .null), (0, .ref q), (1, .ref k)]) (st' := []) ?_ rfl (by rw [c_7]; rfl) (by first | rfl | rw [c_7]; rfl)
    have hfz : f z = none := hmf.nn (hs_2.2 c_7)
    refine sw_null (n := 11) F dJ10_get_10 rfl ?_
    refine sw_goto F (n := 18) dJ10_get_11 (by decide) ?_
    refine sw_perm [0, 1, 3, 2] (perm_ok _ 4 (by decide +kernel) rfl) [ob (xg x) q 14 [.null, va_rf vs, .null, va_rf rt, .int (jI (↑n)), .int (jI mc), .null, .null, .null], nd (xg x) Ks ka va L R P cl, vO (xg x) vs q, pl (xg x) M] rfl ?_; refine sw_tmClose (n := n) (f := f) (M := M) hT hND (by (repeat' first | assumption | exact Or.inl rfl | exact Or.inr rfl | apply clO_b | refine cb_up ?_ ?_ | refine cb_cu ?_ ?_)) hka hmf ?_
    exact sw_aret F none _ rfl rfl (by first | exact Or.inl ⟨_, rfl⟩ | exact Or.inr ⟨_, rfl⟩) dJ10_get_18 (by rw [hPo]; exact ⟨(by rw [hfz]; rfl), rfl⟩)
theorem nd_J10_containsKey : yJ10_containsKey.cls ≠ "java/lang/invoke/MethodHandle" ∧ yJ10_containsKey.cls ≠ "java/lang/invoke/VarHandle" ∧ (parseMethodDescriptor yJ10_containsKey.desc).map (fun d => d.parameters.length) = some 1 := by decide +kernel
set_option maxRecDepth 100000 in
set_option maxHeartbeats 16000000 in
theorem ct_J10_containsKey {g : GG} {l : Launch} (M : Nat → Option PV) (q : Nat) (vs : Option Nat) (mc : Int) (n : Nat) (f : Int → Option Nat) (k : Nat) (z : Int) (hk : at_ g M k (vN z)) (hz : -2147483648 ≤ z ∧ z ≤ 2147483647) : Ct g l yJ10_containsKey (ws_ yJ10_containsKey cJ10_containsKey 2 (Option.some Jvm.ClassFile.FieldType.boolean)) 5 99 0 0 [.ref q, .ref k] [tmap g M q vs mc n f, pl g M] (fun v9 Ws9 => v9 = some (.int (jI (if f z = none then 0 else 1))) ∧ Ws9 = [tmap g M q vs mc n f, pl g M]) (nox) := by
  refine Ct.of (cc := cJ10_containsKey) (nL := 2) (ret := (Option.some Jvm.ClassFile.FieldType.boolean)) (by decide) rfl (Nat.le_of_ble_eq_true rfl) ?_
  intro x hg hl hPo hPx hmc hms F
  subst hg; subst hl
  refine SW.cast (L' := [(0, .ref q), (1, .ref k)]) ?_ rfl rfl rfl
  refine sw_tmOpen (fun rt Ks ka va L R P cl rk lo hi hT hND hcb hka hmf => ?_)
  refine sw_aload_n (n := 1) F 0 (some q) rfl rfl rfl dJ10_containsKey_0 rfl ?_
  refine sw_aload_n (n := 2) F 1 (some k) rfl rfl rfl dJ10_containsKey_1 rfl ?_
  refine sw_callV (n := 5) F (ct_J10_getEntry (g := xg x) (l := xl x) M Ks ka va L R P cl q vs rt (↑n) mc rk lo hi k z hT hka hk hz) (rcv_ob F 0 rfl rfl) q3216 q3217 q3218 q114 q3219 nd_J10_getEntry rfl (by decide) [0, 1, 3, 2] (perm_ok _ 4 (by decide +kernel) rfl) [vO (xg x) vs q] rfl 0 0 ⟨by omega, by omega⟩ [] rfl (Nat.le_of_ble_eq_true rfl) dJ10_containsKey_2 rfl (fun _ _ h => h.elim) (fun v Ws h => ?_)
  obtain ⟨o1_1, rfl, hs_2, rfl⟩ := h
  show SW x [ob (xg x) q 14 [.null, va_rf vs, .null, va_rf rt, .int (jI (↑n)), .int (jI mc), .null, .null, .null], nd (xg x) Ks ka va L R P cl, pl (xg x) M, vO (xg x) vs q] _ _ _ _ [va_rf o1_1]
  refine sw_ifnull (n := 8) F (o := o1_1) rfl (tgt := 12) dJ10_containsKey_5 (by decide) rfl (fun c_5 => ?_) (fun q_3 c_5 => ?_)
  ·
    have hfz : f z = none := hmf.nn (hs_2.2 c_5)
    refine sw_iconst (n := 13) F (0) (by decide) dJ10_containsKey_12 rfl ?_
    refine sw_perm [0, 1, 3, 2] (perm_ok _ 4 (by decide +kernel) rfl) [ob (xg x) q 14 [.null, va_rf vs, .null, va_rf rt, .int (jI (↑n)), .int (jI mc), .null, .null, .null], nd (xg x) Ks ka va L R P cl, vO (xg x) vs q, pl (xg x) M] rfl ?_; refine sw_tmClose (n := n) (f := f) (M := M) hT hND (by (repeat' first | assumption | exact Or.inl rfl | exact Or.inr rfl | apply clO_b | refine cb_up ?_ ?_ | refine cb_cu ?_ ?_)) hka hmf ?_
    exact sw_iret F _ rfl (by first | rfl | exact jI_nz (by omega) | exact jI_nc (by omega)) dJ10_containsKey_13 (by rw [hPo]; exact ⟨(by rw [hfz]; rfl), rfl⟩)
  ·
    have hmt : q_3 ∈ Ks := (hs_2.1 _ c_5).1
    have hfz : f z = some (va q_3) := (hs_2.1 _ c_5).2 ▸ hmf.sm hmt
    refine sw_iconst (n := 9) F (1) (by decide) dJ10_containsKey_8 rfl ?_
    refine sw_goto F (n := 13) dJ10_containsKey_9 (by decide) ?_
    refine sw_perm [0, 1, 3, 2] (perm_ok _ 4 (by decide +kernel) rfl) [ob (xg x) q 14 [.null, va_rf vs, .null, va_rf rt, .int (jI (↑n)), .int (jI mc), .null, .null, .null], nd (xg x) Ks ka va L R P cl, vO (xg x) vs q, pl (xg x) M] rfl ?_; refine sw_tmClose (n := n) (f := f) (M := M) hT hND (by (repeat' first | assumption | exact Or.inl rfl | exact Or.inr rfl | apply clO_b | refine cb_up ?_ ?_ | refine cb_cu ?_ ?_)) hka hmf ?_
    exact sw_iret F _ rfl (by first | rfl | exact jI_nz (by omega) | exact jI_nc (by omega)) dJ10_containsKey_13 (by rw [hPo]; exact ⟨(by rw [hfz]; rfl), rfl⟩)
theorem nd_J10_deleteEntry : yJ10_deleteEntry.cls ≠ "java/lang/invoke/MethodHandle" ∧ yJ10_deleteEntry.cls ≠ "java/lang/invoke/VarHandle" ∧ (parseMethodDescriptor yJ10_deleteEntry.desc).map (fun d => d.parameters.length) = some 1 := by decide +kernel
set_option maxRecDepth 100000 in
set_option maxHeartbeats 16000000 in
theorem ct_J10_deleteEntry {g : GG} {l : Launch} (Ks : List Nat) (ka : Nat → Nat) (va : Nat → Nat) (L : OP) (R : OP) (P : OP) (cl : Nat → Int) (q : Nat) (vs : Option Nat) (rt : Option Nat) (sz : Int) (mc : Int) (rk : Nat → Int) (lo : Nat → Int) (hi : Nat → Int) (nx : Nat) (hT : TrI Ks L R P rk lo hi rt) (hKn : Ks.Nodup) (hcb : ∀ t, cl t = 0 ∨ cl t = 1) (hx : nx ∈ Ks) (hsz : 1 ≤ sz ∧ sz ≤ 1000) : Ct g l yJ10_deleteEntry (ws_ yJ10_deleteEntry cJ10_deleteEntry 3 (Option.none : Option Jvm.ClassFile.FieldType)) 3 56 0 0 [.ref q, .ref nx] [ob g q 14 [.null, va_rf vs, .null, va_rf rt, .int (jI sz), .int (jI mc), .null, .null, .null], nd g Ks ka va L R P cl] (fun v9 Ws9 => ∃ Kt : List Nat, ∃ ka1 : Nat → Nat, ∃ va1 : Nat → Nat, ∃ rk1 : Nat → Int, ∃ L1 : OP, ∃ R1 : OP, ∃ P1 : OP, ∃ rt1 : Option Nat, ∃ lo1 : Nat → Int, ∃ hi1 : Nat → Int, ∃ cl1 : Nat → Int, v9 = none ∧ (TrI Kt L1 R1 P1 rk1 lo1 hi1 rt1) ∧ (Kt.Nodup ∧ Kt.length + 1 = Ks.length) ∧ (∀ t, cl1 t = 0 ∨ cl1 t = 1) ∧ (∀ t, t ∈ Kt → ∃ u, u ∈ Ks ∧ u ≠ nx ∧ rk1 t = rk u ∧ ka1 t = ka u ∧ va1 t = va u) ∧ (∀ u, u ∈ Ks → u ≠ nx → ∃ t, t ∈ Kt ∧ rk1 t = rk u ∧ ka1 t = ka u ∧ va1 t = va u) ∧ Ws9 = [ob g q 14 [.null, va_rf vs, .null, va_rf rt1, .int (jI (sz - 1)), .int (jI (mc + 1)), .null, .null, .null], nd g Kt ka1 va1 L1 R1 P1 cl1]) (nox) := by
  refine Ct.of (cc := cJ10_deleteEntry) (nL := 3) (ret := (Option.none : Option Jvm.ClassFile.FieldType)) (by decide) rfl (Nat.le_of_ble_eq_true rfl) ?_
  intro x hg hl hPo hPx hmc hms F
  subst hg; subst hl
  refine SW.cast (L' := [(0, .ref q), (1, .ref nx)]) ?_ rfl rfl rfl
  refine sw_aload_n (n := 1) F 0 (some q) rfl rfl rfl dJ10_deleteEntry_0 rfl ?_
  refine sw_dup (n := 2) F rfl dJ10_deleteEntry_1 rfl ?_
  refine sw_get (n := 5) F 0 rfl (k := 5) ⟨(RJ10, TJ10, 9), rfl, by decide, q290, in_J10, Or.inl rfl⟩ rfl dJ10_deleteEntry_2 rfl ?_
  refine sw_iconst (n := 6) F (1) (by decide) dJ10_deleteEntry_5 rfl ?_
  refine sw_iadd (n := 7) F dJ10_deleteEntry_6 rfl ?_
  refine sw_put (n := 10) F 0 rfl (k := 5) ⟨(RJ10, TJ10, 9), rfl, by decide, q290, in_J10, Or.inl rfl⟩ .int ⟨(RJ10, TJ10, 9), rfl, rfl, tyJ10_ok 5 (by decide), nmJ10, tyJ10, tyJ10_ok⟩ rfl rfl (Nat.le_of_ble_eq_true rfl) rfl [ob (xg x) q 14 [.null, va_rf vs, .null, va_rf rt, .int (jI sz), .int (jI (mc + 1)), .null, .null, .null], nd (xg x) Ks ka va L R P cl] rfl dJ10_deleteEntry_7 rfl ?_
  refine sw_aload_n (n := 11) F 0 (some q) rfl rfl rfl dJ10_deleteEntry_10 rfl ?_
  refine sw_dup (n := 12) F rfl dJ10_deleteEntry_11 rfl ?_
  refine sw_get (n := 15) F 0 rfl (k := 4) ⟨(RJ10, TJ10, 9), rfl, by decide, q289, in_J10, Or.inl rfl⟩ rfl dJ10_deleteEntry_12 rfl ?_
  refine sw_iconst (n := 16) F (1) (by decide) dJ10_deleteEntry_15 rfl ?_
  refine sw_isub (n := 17) F dJ10_deleteEntry_16 rfl ?_
  refine sw_put (n := 20) F 0 rfl (k := 4) ⟨(RJ10, TJ10, 9), rfl, by decide, q289, in_J10, Or.inl rfl⟩ .int ⟨(RJ10, TJ10, 9), rfl, rfl, tyJ10_ok 4 (by decide), nmJ10, tyJ10, tyJ10_ok⟩ rfl rfl (Nat.le_of_ble_eq_true rfl) rfl [ob (xg x) q 14 [.null, va_rf vs, .null, va_rf rt, .int (jI (sz - 1)), .int (jI (mc + 1)), .null, .null, .null], nd (xg x) Ks ka va L R P cl] rfl dJ10_deleteEntry_17 rfl ?_
  have K57 : ∀ (s2 : Nat) (ka2 : Nat → Nat) (va2 : Nat → Nat), (s2 ∈ Ks) → (L s2 = none ∨ R s2 = none) → ((s2 = nx ∧ ka2 = ka ∧ va2 = va) ∨ (s2 ≠ nx ∧ (rk nx < rk s2 ∧ ∀ t, t ∈ Ks → rk nx < rk t → rk s2 ≤ rk t) ∧ (∀ t, ka2 t = if t = nx then ka s2 else ka t) ∧ ∀ t, va2 t = if t = nx then va s2 else va t)) → SW x [ob (xg x) q 14 [.null, va_rf vs, .null, va_rf rt, .int (jI (sz - 1)), .int (jI (mc + 1)), .null, .null, .null], nd (xg x) Ks ka2 va2 L R P cl] 0 0 57 [(0, .ref q), (1, .ref s2)] [] := by
    intro s2 ka2 va2 hs2K hsh hrel
    refine sw_aload_n (n := 58) F 1 (some s2) rfl rfl rfl dJ10_deleteEntry_57 rfl ?_
    refine sw_getK (n := 61) F (nd_hO 1 rfl hs2K) (k := 2) ⟨(RJ41, TJ41, 6), rfl, by decide, q3149, in_J41, Or.inl rfl⟩ (v := va_rf (L s2)) rfl dJ10_deleteEntry_58 rfl ?_
    refine sw_ifnull (n := 64) F (o := (L s2)) rfl (tgt := 71) dJ10_deleteEntry_61 (by decide) rfl (fun c_61 => ?_) (fun q_1 c_61 => ?_)
    ·
      refine sw_aload_n (n := 72) F 1 (some s2) rfl rfl rfl dJ10_deleteEntry_71 rfl ?_
      refine sw_getK (n := 75) F (nd_hO 1 rfl hs2K) (k := 3) ⟨(RJ41, TJ41, 6), rfl, by decide, q3150, in_J41, Or.inl rfl⟩ (v := va_rf (R s2)) rfl dJ10_deleteEntry_72 rfl ?_
      refine sw_astore_n (n := 76) F (R s2) (L2 := [(2, va_rf (R s2)), (0, .ref q), (1, .ref s2)]) (by first | rfl | simp [va_rf_cat]) rfl (by decide) rfl dJ10_deleteEntry_75 rfl ?_
      refine sw_aload_n (n := 77) F 0 (R s2) rfl rfl rfl dJ10_deleteEntry_76 rfl ?_
      refine sw_ifnull (n := 80) F (o := (R s2)) rfl (tgt := 164) dJ10_deleteEntry_77 (by decide) rfl (fun c_77 => ?_) (fun q_2 c_77 => ?_)
      ·
        refine SW.cast (Ps' := _) (L' := [(2, .null), (0, .ref q), (1, .ref s2)]) (st' := []) ?_ rfl (by rw [c_77]; rfl) (by first | rfl | rw [c_77]; rfl)
        have hLs : L s2 = none := c_61
        have hRs : R s2 = none := c_77
        refine sw_aload_n (n := 165) F 2 (some s2) rfl rfl rfl dJ10_deleteEntry_164 rfl ?_
        refine sw_getK (n := 168) F (nd_hO 1 rfl hs2K) (k := 4) ⟨(RJ41, TJ41, 6), rfl, by decide, q3152, in_J41, Or.inl rfl⟩ (v := va_rf (P s2)) rfl dJ10_deleteEntry_165 rfl ?_
        refine sw_ifnonnull (n := 171) F (o := (P s2)) rfl (tgt := 179) dJ10_deleteEntry_168 (by decide) rfl (fun q_3 c_168 => ?_) (fun c_168 => ?_)
        ·
          have hps : q_3 ≠ s2 := fun e9 => hT.neP hs2K c_168 e9.symm
          have hppK : q_3 ∈ Ks := (hT.p hs2K c_168).1
          refine sw_aload_n (n := 180) F 2 (some s2) rfl rfl rfl dJ10_deleteEntry_179 rfl ?_
          refine sw_getK (n := 183) F (nd_hO 1 rfl hs2K) (k := 5) ⟨(RJ41, TJ41, 6), rfl, by decide, q3154, in_J41, Or.inl rfl⟩ (v := .int (jI (cl s2))) rfl dJ10_deleteEntry_180 rfl ?_
          have hyb_4 : cl s2 = 0 ∨ cl s2 = 1 := (show ∀ t, cl t = 0 ∨ cl t = 1 by (repeat' first | assumption | exact Or.inl rfl | exact Or.inr rfl | apply clO_b | refine cb_up ?_ ?_ | refine cb_cu ?_ ?_)) _
          refine sw_iconst (n := 184) F (1) (by decide) dJ10_deleteEntry_183 rfl ?_
          refine sw_icmp_ne (n := 187) F (by omega) (by decide) (tgt := 192) dJ10_deleteEntry_184 (by decide) rfl (fun c_184 => ?_) (fun c_184 => ?_)
          ·
            have hp1 : P s2 = some q_3 := c_168
            have hTX := hT
            refine sw_aload_n (n := 193) F 2 (some s2) rfl rfl rfl dJ10_deleteEntry_192 rfl ?_
            refine sw_getK (n := 196) F (nd_hO 1 rfl hs2K) (k := 4) ⟨(RJ41, TJ41, 6), rfl, by decide, q3152, in_J41, Or.inl rfl⟩ (v := .ref q_3) (congrArg (fun o9 => some (va_rf o9)) hp1) dJ10_deleteEntry_193 rfl ?_
            refine sw_ifnull (n := 199) F (o := (some q_3)) rfl (tgt := 245) dJ10_deleteEntry_196 (by decide) rfl (fun c_196 => ?_) (fun _ _ => ?_)
            · cases c_196
            ·
              refine sw_aload_n (n := 200) F 2 (some s2) rfl rfl rfl dJ10_deleteEntry_199 rfl ?_
              refine sw_aload_n (n := 201) F 2 (some s2) rfl rfl rfl dJ10_deleteEntry_200 rfl ?_
              refine sw_getK (n := 204) F (nd_hO 1 rfl hs2K) (k := 4) ⟨(RJ41, TJ41, 6), rfl, by decide, q3152, in_J41, Or.inl rfl⟩ (v := .ref q_3) (congrArg (fun o9 => some (va_rf o9)) hp1) dJ10_deleteEntry_201 rfl ?_
              refine sw_getK (n := 207) F (nd_hO 1 rfl hppK) (k := 2) ⟨(RJ41, TJ41, 6), rfl, by decide, q3149, in_J41, Or.inl rfl⟩ (v := va_rf (L q_3)) rfl dJ10_deleteEntry_204 rfl ?_
              refine sw_acmp_ne (n := 210) F (rx := (some s2)) (ry := (L q_3)) rfl rfl (tgt := 221) dJ10_deleteEntry_207 (by decide) rfl (fun c_207 => ?_) (fun c_207 => ?_)
              ·
                refine sw_aload_n (n := 222) F 2 (some s2) rfl rfl rfl dJ10_deleteEntry_221 rfl ?_
                refine sw_aload_n (n := 223) F 2 (some s2) rfl rfl rfl dJ10_deleteEntry_222 rfl ?_
                refine sw_getK (n := 226) F (nd_hO 1 rfl hs2K) (k := 4) ⟨(RJ41, TJ41, 6), rfl, by decide, q3152, in_J41, Or.inl rfl⟩ (v := .ref q_3) (congrArg (fun o9 => some (va_rf o9)) hp1) dJ10_deleteEntry_223 rfl ?_
                refine sw_getK (n := 229) F (nd_hO 1 rfl hppK) (k := 3) ⟨(RJ41, TJ41, 6), rfl, by decide, q3150, in_J41, Or.inl rfl⟩ (v := va_rf (R q_3)) rfl dJ10_deleteEntry_226 rfl ?_
                refine sw_acmp_ne (n := 232) F (rx := (some s2)) (ry := (R q_3)) rfl rfl (tgt := 240) dJ10_deleteEntry_229 (by decide) rfl (fun c_229 => ?_) (fun c_229 => ?_)
                · exfalso; exact (hTX.p hs2K hp1).2.elim (fun e9 => c_207 e9.symm) (fun e9 => c_229 e9.symm)
                ·
                  refine sw_aload_n (n := 233) F 2 (some s2) rfl rfl rfl dJ10_deleteEntry_232 rfl ?_
                  refine sw_getK (n := 236) F (nd_hO 1 rfl hs2K) (k := 4) ⟨(RJ41, TJ41, 6), rfl, by decide, q3152, in_J41, Or.inl rfl⟩ (v := .ref q_3) (congrArg (fun o9 => some (va_rf o9)) hp1) dJ10_deleteEntry_233 rfl ?_
                  refine sw_null (n := 237) F dJ10_deleteEntry_236 rfl ?_
                  refine sw_perm [1, 0] rfl [nd (xg x) Ks ka2 va2 L R P cl, ob (xg x) q 14 [.null, va_rf vs, .null, va_rf rt, .int (jI (sz - 1)), .int (jI (mc + 1)), .null, .null, .null]] rfl ?_
                  refine sw_ndput (ka' := ka2) (va' := va2) (L' := L) (R' := (va_up R q_3 none)) (P' := P) (cl' := cl) F hppK (k := 3) ⟨(RJ41, TJ41, 6), rfl, by decide, q3150, in_J41, Or.inl rfl⟩ (tyJ41 3) ⟨(RJ41, TJ41, 6), rfl, rfl, tyJ41_ok 3 (by decide), nmJ41, tyJ41, tyJ41_ok⟩ rfl rfl (by decide) (by simp [flN, va_up, va_rf]) (fun t9 h9 => by simp [flN, va_up, h9]) dJ10_deleteEntry_237 rfl ?_
                  show SW x [nd (xg x) Ks ka2 va2 L (va_up R q_3 none) P cl, ob (xg x) q 14 [.null, va_rf vs, .null, va_rf rt, .int (jI (sz - 1)), .int (jI (mc + 1)), .null, .null, .null]] _ _ _ _ _
                  refine sw_aload_n (n := 241) F 2 (some s2) rfl rfl rfl dJ10_deleteEntry_240 rfl ?_
                  refine sw_null (n := 242) F dJ10_deleteEntry_241 rfl ?_
                  refine sw_ndput (ka' := ka2) (va' := va2) (L' := L) (R' := (va_up R q_3 none)) (P' := (va_up P s2 none)) (cl' := cl) F hs2K (k := 4) ⟨(RJ41, TJ41, 6), rfl, by decide, q3152, in_J41, Or.inl rfl⟩ (tyJ41 4) ⟨(RJ41, TJ41, 6), rfl, rfl, tyJ41_ok 4 (by decide), nmJ41, tyJ41, tyJ41_ok⟩ rfl rfl (by decide) (by simp [flN, va_up, va_rf]) (fun t9 h9 => by simp [flN, va_up, h9]) dJ10_deleteEntry_242 rfl ?_
                  show SW x [nd (xg x) Ks ka2 va2 L (va_up R q_3 none) (va_up P s2 none) cl, ob (xg x) q 14 [.null, va_rf vs, .null, va_rf rt, .int (jI (sz - 1)), .int (jI (mc + 1)), .null, .null, .null]] _ _ _ _ _
                  obtain ⟨lo7, hi7, hT7⟩ : ∃ lo7 hi7, TrI (Ks.erase s2) L (va_up R q_3 none) (va_up P s2 none) rk lo7 hi7 rt := ⟨_, _, hT.del hs2K (fun t => (hKn.mem_erase_iff).trans and_comm) (c := none) (Or.inl ⟨hLs, hRs⟩) (fun t ht => by (try simp only [va_up]); grind) (fun t ht => by (try simp only [va_up]); grind) (fun t ht => by (try simp only [va_up]); grind) (if_neg (by rw [hp1]; simp)).symm⟩
                  refine (sw_ndDel F hs2K hKn ?_)
                  show SW x [nd (xg x) (Ks.erase s2) ka2 va2 L (va_up R q_3 none) (va_up P s2 none) cl, ob (xg x) q 14 [.null, va_rf vs, .null, va_rf rt, .int (jI (sz - 1)), .int (jI (mc + 1)), .null, .null, .null]] _ _ _ _ _
                  obtain ⟨rk8, lo8, hi8, hT8, hq8, hq9⟩ := hT.fin hT7 (fun t => (hKn.mem_erase_iff).trans and_comm) hx hs2K hrel
                  refine sw_perm [1, 0] rfl [ob (xg x) q 14 [.null, va_rf vs, .null, va_rf rt, .int (jI (sz - 1)), .int (jI (mc + 1)), .null, .null, .null], nd (xg x) (Ks.erase s2) ka2 va2 L (va_up R q_3 none) (va_up P s2 none) cl] rfl ?_
                  exact sw_vret F rfl dJ10_deleteEntry_245 (by rw [hPo]; exact ⟨Ks.erase s2, ka2, va2, rk8, L, va_up R q_3 none, va_up P s2 none, rt, lo8, hi8, cl, rfl, hT8, (by exact ⟨hKn.erase _, by have h8 := List.length_erase_of_mem hs2K; have h9 := List.length_pos_of_mem hs2K; omega⟩), (by (repeat' first | assumption | exact Or.inl rfl | exact Or.inr rfl | apply clO_b | refine cb_up ?_ ?_ | refine cb_cu ?_ ?_)), (by exact hq8), (by exact hq9), rfl⟩)
              ·
                refine sw_aload_n (n := 211) F 2 (some s2) rfl rfl rfl dJ10_deleteEntry_210 rfl ?_
                refine sw_getK (n := 214) F (nd_hO 1 rfl hs2K) (k := 4) ⟨(RJ41, TJ41, 6), rfl, by decide, q3152, in_J41, Or.inl rfl⟩ (v := .ref q_3) (congrArg (fun o9 => some (va_rf o9)) hp1) dJ10_deleteEntry_211 rfl ?_
                refine sw_null (n := 215) F dJ10_deleteEntry_214 rfl ?_
                refine sw_perm [1, 0] rfl [nd (xg x) Ks ka2 va2 L R P cl, ob (xg x) q 14 [.null, va_rf vs, .null, va_rf rt, .int (jI (sz - 1)), .int (jI (mc + 1)), .null, .null, .null]] rfl ?_
                refine sw_ndput (ka' := ka2) (va' := va2) (L' := (va_up L q_3 none)) (R' := R) (P' := P) (cl' := cl) F hppK (k := 2) ⟨(RJ41, TJ41, 6), rfl, by decide, q3149, in_J41, Or.inl rfl⟩ (tyJ41 2) ⟨(RJ41, TJ41, 6), rfl, rfl, tyJ41_ok 2 (by decide), nmJ41, tyJ41, tyJ41_ok⟩ rfl rfl (by decide) (by simp [flN, va_up, va_rf]) (fun t9 h9 => by simp [flN, va_up, h9]) dJ10_deleteEntry_215 rfl ?_
                show SW x [nd (xg x) Ks ka2 va2 (va_up L q_3 none) R P cl, ob (xg x) q 14 [.null, va_rf vs, .null, va_rf rt, .int (jI (sz - 1)), .int (jI (mc + 1)), .null, .null, .null]] _ _ _ _ _
                refine sw_goto F (n := 240) dJ10_deleteEntry_218 (by decide) ?_
                refine sw_aload_n (n := 241) F 2 (some s2) rfl rfl rfl dJ10_deleteEntry_240 rfl ?_
                refine sw_null (n := 242) F dJ10_deleteEntry_241 rfl ?_
                refine sw_ndput (ka' := ka2) (va' := va2) (L' := (va_up L q_3 none)) (R' := R) (P' := (va_up P s2 none)) (cl' := cl) F hs2K (k := 4) ⟨(RJ41, TJ41, 6), rfl, by decide, q3152, in_J41, Or.inl rfl⟩ (tyJ41 4) ⟨(RJ41, TJ41, 6), rfl, rfl, tyJ41_ok 4 (by decide), nmJ41, tyJ41, tyJ41_ok⟩ rfl rfl (by decide) (by simp [flN, va_up, va_rf]) (fun t9 h9 => by simp [flN, va_up, h9]) dJ10_deleteEntry_242 rfl ?_
                show SW x [nd (xg x) Ks ka2 va2 (va_up L q_3 none) R (va_up P s2 none) cl, ob (xg x) q 14 [.null, va_rf vs, .null, va_rf rt, .int (jI (sz - 1)), .int (jI (mc + 1)), .null, .null, .null]] _ _ _ _ _
                obtain ⟨lo7, hi7, hT7⟩ : ∃ lo7 hi7, TrI (Ks.erase s2) (va_up L q_3 none) R (va_up P s2 none) rk lo7 hi7 rt := ⟨_, _, hT.del hs2K (fun t => (hKn.mem_erase_iff).trans and_comm) (c := none) (Or.inl ⟨hLs, hRs⟩) (fun t ht => by (try simp only [va_up]); grind) (fun t ht => by (try simp only [va_up]); grind) (fun t ht => by (try simp only [va_up]); grind) (if_neg (by rw [hp1]; simp)).symm⟩
                refine (sw_ndDel F hs2K hKn ?_)
                show SW x [nd (xg x) (Ks.erase s2) ka2 va2 (va_up L q_3 none) R (va_up P s2 none) cl, ob (xg x) q 14 [.null, va_rf vs, .null, va_rf rt, .int (jI (sz - 1)), .int (jI (mc + 1)), .null, .null, .null]] _ _ _ _ _
                obtain ⟨rk8, lo8, hi8, hT8, hq8, hq9⟩ := hT.fin hT7 (fun t => (hKn.mem_erase_iff).trans and_comm) hx hs2K hrel
                refine sw_perm [1, 0] rfl [ob (xg x) q 14 [.null, va_rf vs, .null, va_rf rt, .int (jI (sz - 1)), .int (jI (mc + 1)), .null, .null, .null], nd (xg x) (Ks.erase s2) ka2 va2 (va_up L q_3 none) R (va_up P s2 none) cl] rfl ?_
                exact sw_vret F rfl dJ10_deleteEntry_245 (by rw [hPo]; exact ⟨Ks.erase s2, ka2, va2, rk8, va_up L q_3 none, R, va_up P s2 none, rt, lo8, hi8, cl, rfl, hT8, (by exact ⟨hKn.erase _, by have h8 := List.length_erase_of_mem hs2K; have h9 := List.length_pos_of_mem hs2K; omega⟩), (by (repeat' first | assumption | exact Or.inl rfl | exact Or.inr rfl | apply clO_b | refine cb_up ?_ ?_ | refine cb_cu ?_ ?_)), (by exact hq8), (by exact hq9), rfl⟩)
          ·
            refine sw_aload_n (n := 188) F 1 (some q) rfl rfl rfl dJ10_deleteEntry_187 rfl ?_
            refine sw_aload_n (n := 189) F 2 (some s2) rfl rfl rfl dJ10_deleteEntry_188 rfl ?_
            refine sw_callV (n := 192) F (ct_J10_fixAfterDeletion (g := xg x) (l := xl x) Ks ka2 va2 L R P cl q vs rt (sz - 1) (mc + 1) rk lo hi s2 s2 hT hs2K (by (repeat' first | assumption | exact Or.inl rfl | exact Or.inr rfl | apply clO_b | refine cb_up ?_ ?_ | refine cb_cu ?_ ?_)) (by exact fun _ => ⟨⟨(hT.rng hs2K).1, (hT.rng hs2K).2.1⟩, c_61, c_77⟩)) (rcv_ob F 0 rfl rfl) q3669 q3671 qs64 q114 q3672 nd_J10_fixAfterDeletion rfl (by decide) [0, 1] rfl [] rfl 0 0 ⟨by omega, by omega⟩ [] rfl (Nat.le_of_ble_eq_true rfl) dJ10_deleteEntry_189 rfl (fun _ _ h => h.elim) (fun v Ws h => ?_)
            obtain ⟨L1_5, R1_6, P1_7, rt1_8, lo1_9, hi1_10, cl1_11, rfl, hT1_12, hcb1_13, hlf1_14, rfl⟩ := h
            show SW x [ob (xg x) q 14 [.null, va_rf vs, .null, va_rf rt1_8, .int (jI (sz - 1)), .int (jI (mc + 1)), .null, .null, .null], nd (xg x) Ks ka2 va2 L1_5 R1_6 P1_7 cl1_11] _ _ _ _ []
            have hLs : L1_5 s2 = none := (hlf1_14 hs2K).1
            have hRs : R1_6 s2 = none := (hlf1_14 hs2K).2
            obtain ⟨p1, hp1, hp1K⟩ := hT1_12.par hs2K (fun e9 => hps (hT1_12.one e9.symm hLs hRs hppK))
            have hTX := hT1_12
            refine sw_aload_n (n := 193) F 2 (some s2) rfl rfl rfl dJ10_deleteEntry_192 rfl ?_
            refine sw_getK (n := 196) F (nd_hO 1 rfl hs2K) (k := 4) ⟨(RJ41, TJ41, 6), rfl, by decide, q3152, in_J41, Or.inl rfl⟩ (v := .ref p1) (congrArg (fun o9 => some (va_rf o9)) hp1) dJ10_deleteEntry_193 rfl ?_
            refine sw_ifnull (n := 199) F (o := (some p1)) rfl (tgt := 245) dJ10_deleteEntry_196 (by decide) rfl (fun c_196 => ?_) (fun _ _ => ?_)
            · cases c_196
            ·
              refine sw_aload_n (n := 200) F 2 (some s2) rfl rfl rfl dJ10_deleteEntry_199 rfl ?_
              refine sw_aload_n (n := 201) F 2 (some s2) rfl rfl rfl dJ10_deleteEntry_200 rfl ?_
              refine sw_getK (n := 204) F (nd_hO 1 rfl hs2K) (k := 4) ⟨(RJ41, TJ41, 6), rfl, by decide, q3152, in_J41, Or.inl rfl⟩ (v := .ref p1) (congrArg (fun o9 => some (va_rf o9)) hp1) dJ10_deleteEntry_201 rfl ?_
              refine sw_getK (n := 207) F (nd_hO 1 rfl hp1K) (k := 2) ⟨(RJ41, TJ41, 6), rfl, by decide, q3149, in_J41, Or.inl rfl⟩ (v := va_rf (L1_5 p1)) rfl dJ10_deleteEntry_204 rfl ?_
              refine sw_acmp_ne (n := 210) F (rx := (some s2)) (ry := (L1_5 p1)) rfl rfl (tgt := 221) dJ10_deleteEntry_207 (by decide) rfl (fun c_207 => ?_) (fun c_207 => ?_)
              ·
                refine sw_aload_n (n := 222) F 2 (some s2) rfl rfl rfl dJ10_deleteEntry_221 rfl ?_
                refine sw_aload_n (n := 223) F 2 (some s2) rfl rfl rfl dJ10_deleteEntry_222 rfl ?_
                refine sw_getK (n := 226) F (nd_hO 1 rfl hs2K) (k := 4) ⟨(RJ41, TJ41, 6), rfl, by decide, q3152, in_J41, Or.inl rfl⟩ (v := .ref p1) (congrArg (fun o9 => some (va_rf o9)) hp1) dJ10_deleteEntry_223 rfl ?_
                refine sw_getK (n := 229) F (nd_hO 1 rfl hp1K) (k := 3) ⟨(RJ41, TJ41, 6), rfl, by decide, q3150, in_J41, Or.inl rfl⟩ (v := va_rf (R1_6 p1)) rfl dJ10_deleteEntry_226 rfl ?_
                refine sw_acmp_ne (n := 232) F (rx := (some s2)) (ry := (R1_6 p1)) rfl rfl (tgt := 240) dJ10_deleteEntry_229 (by decide) rfl (fun c_229 => ?_) (fun c_229 => ?_)
                · exfalso; exact (hTX.p hs2K hp1).2.elim (fun e9 => c_207 e9.symm) (fun e9 => c_229 e9.symm)
                ·
                  refine sw_aload_n (n := 233) F 2 (some s2) rfl rfl rfl dJ10_deleteEntry_232 rfl ?_
                  refine sw_getK (n := 236) F (nd_hO 1 rfl hs2K) (k := 4) ⟨(RJ41, TJ41, 6), rfl, by decide, q3152, in_J41, Or.inl rfl⟩ (v := .ref p1) (congrArg (fun o9 => some (va_rf o9)) hp1) dJ10_deleteEntry_233 rfl ?_
                  refine sw_null (n := 237) F dJ10_deleteEntry_236 rfl ?_
                  refine sw_perm [1, 0] rfl [nd (xg x) Ks ka2 va2 L1_5 R1_6 P1_7 cl1_11, ob (xg x) q 14 [.null, va_rf vs, .null, va_rf rt1_8, .int (jI (sz - 1)), .int (jI (mc + 1)), .null, .null, .null]] rfl ?_
                  refine sw_ndput (ka' := ka2) (va' := va2) (L' := L1_5) (R' := (va_up R1_6 p1 none)) (P' := P1_7) (cl' := cl1_11) F hp1K (k := 3) ⟨(RJ41, TJ41, 6), rfl, by decide, q3150, in_J41, Or.inl rfl⟩ (tyJ41 3) ⟨(RJ41, TJ41, 6), rfl, rfl, tyJ41_ok 3 (by decide), nmJ41, tyJ41, tyJ41_ok⟩ rfl rfl (by decide) (by simp [flN, va_up, va_rf]) (fun t9 h9 => by simp [flN, va_up, h9]) dJ10_deleteEntry_237 rfl ?_
                  show SW x [nd (xg x) Ks ka2 va2 L1_5 (va_up R1_6 p1 none) P1_7 cl1_11, ob (xg x) q 14 [.null, va_rf vs, .null, va_rf rt1_8, .int (jI (sz - 1)), .int (jI (mc + 1)), .null, .null, .null]] _ _ _ _ _
                  refine sw_aload_n (n := 241) F 2 (some s2) rfl rfl rfl dJ10_deleteEntry_240 rfl ?_
                  refine sw_null (n := 242) F dJ10_deleteEntry_241 rfl ?_
                  refine sw_ndput (ka' := ka2) (va' := va2) (L' := L1_5) (R' := (va_up R1_6 p1 none)) (P' := (va_up P1_7 s2 none)) (cl' := cl1_11) F hs2K (k := 4) ⟨(RJ41, TJ41, 6), rfl, by decide, q3152, in_J41, Or.inl rfl⟩ (tyJ41 4) ⟨(RJ41, TJ41, 6), rfl, rfl, tyJ41_ok 4 (by decide), nmJ41, tyJ41, tyJ41_ok⟩ rfl rfl (by decide) (by simp [flN, va_up, va_rf]) (fun t9 h9 => by simp [flN, va_up, h9]) dJ10_deleteEntry_242 rfl ?_
                  show SW x [nd (xg x) Ks ka2 va2 L1_5 (va_up R1_6 p1 none) (va_up P1_7 s2 none) cl1_11, ob (xg x) q 14 [.null, va_rf vs, .null, va_rf rt1_8, .int (jI (sz - 1)), .int (jI (mc + 1)), .null, .null, .null]] _ _ _ _ _
                  obtain ⟨lo7, hi7, hT7⟩ : ∃ lo7 hi7, TrI (Ks.erase s2) L1_5 (va_up R1_6 p1 none) (va_up P1_7 s2 none) rk lo7 hi7 rt1_8 := ⟨_, _, hT1_12.del hs2K (fun t => (hKn.mem_erase_iff).trans and_comm) (c := none) (Or.inl ⟨hLs, hRs⟩) (fun t ht => by (try simp only [va_up]); grind) (fun t ht => by (try simp only [va_up]); grind) (fun t ht => by (try simp only [va_up]); grind) (if_neg (by rw [hp1]; simp)).symm⟩
                  refine (sw_ndDel F hs2K hKn ?_)
                  show SW x [nd (xg x) (Ks.erase s2) ka2 va2 L1_5 (va_up R1_6 p1 none) (va_up P1_7 s2 none) cl1_11, ob (xg x) q 14 [.null, va_rf vs, .null, va_rf rt1_8, .int (jI (sz - 1)), .int (jI (mc + 1)), .null, .null, .null]] _ _ _ _ _
                  obtain ⟨rk8, lo8, hi8, hT8, hq8, hq9⟩ := hT.fin hT7 (fun t => (hKn.mem_erase_iff).trans and_comm) hx hs2K hrel
                  refine sw_perm [1, 0] rfl [ob (xg x) q 14 [.null, va_rf vs, .null, va_rf rt1_8, .int (jI (sz - 1)), .int (jI (mc + 1)), .null, .null, .null], nd (xg x) (Ks.erase s2) ka2 va2 L1_5 (va_up R1_6 p1 none) (va_up P1_7 s2 none) cl1_11] rfl ?_
                  exact sw_vret F rfl dJ10_deleteEntry_245 (by rw [hPo]; exact ⟨Ks.erase s2, ka2, va2, rk8, L1_5, va_up R1_6 p1 none, va_up P1_7 s2 none, rt1_8, lo8, hi8, cl1_11, rfl, hT8, (by exact ⟨hKn.erase _, by have h8 := List.length_erase_of_mem hs2K; have h9 := List.length_pos_of_mem hs2K; omega⟩), (by (repeat' first | assumption | exact Or.inl rfl | exact Or.inr rfl | apply clO_b | refine cb_up ?_ ?_ | refine cb_cu ?_ ?_)), (by exact hq8), (by exact hq9), rfl⟩)
              ·
                refine sw_aload_n (n := 211) F 2 (some s2) rfl rfl rfl dJ10_deleteEntry_210 rfl ?_
                refine sw_getK (n := 214) F (nd_hO 1 rfl hs2K) (k := 4) ⟨(RJ41, TJ41, 6), rfl, by decide, q3152, in_J41, Or.inl rfl⟩ (v := .ref p1) (congrArg (fun o9 => some (va_rf o9)) hp1) dJ10_deleteEntry_211 rfl ?_
                refine sw_null (n := 215) F dJ10_deleteEntry_214 rfl ?_
                refine sw_perm [1, 0] rfl [nd (xg x) Ks ka2 va2 L1_5 R1_6 P1_7 cl1_11, ob (xg x) q 14 [.null, va_rf vs, .null, va_rf rt1_8, .int (jI (sz - 1)), .int (jI (mc + 1)), .null, .null, .null]] rfl ?_
                refine sw_ndput (ka' := ka2) (va' := va2) (L' := (va_up L1_5 p1 none)) (R' := R1_6) (P' := P1_7) (cl' := cl1_11) F hp1K (k := 2) ⟨(RJ41, TJ41, 6), rfl, by decide, q3149, in_J41, Or.inl rfl⟩ (tyJ41 2) ⟨(RJ41, TJ41, 6), rfl, rfl, tyJ41_ok 2 (by decide), nmJ41, tyJ41, tyJ41_ok⟩ rfl rfl (by decide) (by simp [flN, va_up, va_rf]) (fun t9 h9 => by simp [flN, va_up, h9]) dJ10_deleteEntry_215 rfl ?_
                show SW x [nd (xg x) Ks ka2 va2 (va_up L1_5 p1 none) R1_6 P1_7 cl1_11, ob (xg x) q 14 [.null, va_rf vs, .null, va_rf rt1_8, .int (jI (sz - 1)), .int (jI (mc + 1)), .null, .null, .null]] _ _ _ _ _
                refine sw_goto F (n := 240) dJ10_deleteEntry_218 (by decide) ?_
                refine sw_aload_n (n := 241) F 2 (some s2) rfl rfl rfl dJ10_deleteEntry_240 rfl ?_
                refine sw_null (n := 242) F dJ10_deleteEntry_241 rfl ?_
                refine sw_ndput (ka' := ka2) (va' := va2) (L' := (va_up L1_5 p1 none)) (R' := R1_6) (P' := (va_up P1_7 s2 none)) (cl' := cl1_11) F hs2K (k := 4) ⟨(RJ41, TJ41, 6), rfl, by decide, q3152, in_J41, Or.inl rfl⟩ (tyJ41 4) ⟨(RJ41, TJ41, 6), rfl, rfl, tyJ41_ok 4 (by decide), nmJ41, tyJ41, tyJ41_ok⟩ rfl rfl (by decide) (by simp [flN, va_up, va_rf]) (fun t9 h9 => by simp [flN, va_up, h9]) dJ10_deleteEntry_242 rfl ?_
                show SW x [nd (xg x) Ks ka2 va2 (va_up L1_5 p1 none) R1_6 (va_up P1_7 s2 none) cl1_11, ob (xg x) q 14 [.null, va_rf vs, .null, va_rf rt1_8, .int (jI (sz - 1)), .int (jI (mc + 1)), .null, .null, .null]] _ _ _ _ _
                obtain ⟨lo7, hi7, hT7⟩ : ∃ lo7 hi7, TrI (Ks.erase s2) (va_up L1_5 p1 none) R1_6 (va_up P1_7 s2 none) rk lo7 hi7 rt1_8 := ⟨_, _, hT1_12.del hs2K (fun t => (hKn.mem_erase_iff).trans and_comm) (c := none) (Or.inl ⟨hLs, hRs⟩) (fun t ht => by (try simp only [va_up]); grind) (fun t ht => by (try simp only [va_up]); grind) (fun t ht => by (try simp only [va_up]); grind) (if_neg (by rw [hp1]; simp)).symm⟩
                refine (sw_ndDel F hs2K hKn ?_)
                show SW x [nd (xg x) (Ks.erase s2) ka2 va2 (va_up L1_5 p1 none) R1_6 (va_up P1_7 s2 none) cl1_11, ob (xg x) q 14 [.null, va_rf vs, .null, va_rf rt1_8, .int (jI (sz - 1)), .int (jI (mc + 1)), .null, .null, .null]] _ _ _ _ _
                obtain ⟨rk8, lo8, hi8, hT8, hq8, hq9⟩ := hT.fin hT7 (fun t => (hKn.mem_erase_iff).trans and_comm) hx hs2K hrel
                refine sw_perm [1, 0] rfl [ob (xg x) q 14 [.null, va_rf vs, .null, va_rf rt1_8, .int (jI (sz - 1)), .int (jI (mc + 1)), .null, .null, .null], nd (xg x) (Ks.erase s2) ka2 va2 (va_up L1_5 p1 none) R1_6 (va_up P1_7 s2 none) cl1_11] rfl ?_
                exact sw_vret F rfl dJ10_deleteEntry_245 (by rw [hPo]; exact ⟨Ks.erase s2, ka2, va2, rk8, va_up L1_5 p1 none, R1_6, va_up P1_7 s2 none, rt1_8, lo8, hi8, cl1_11, rfl, hT8, (by exact ⟨hKn.erase _, by have h8 := List.length_erase_of_mem hs2K; have h9 := List.length_pos_of_mem hs2K; omega⟩), (by (repeat' first | assumption | exact Or.inl rfl | exact Or.inr rfl | apply clO_b | refine cb_up ?_ ?_ | refine cb_cu ?_ ?_)), (by exact hq8), (by exact hq9), rfl⟩)
        ·
          refine sw_aload_n (n := 172) F 1 (some q) rfl rfl rfl dJ10_deleteEntry_171 rfl ?_
          refine sw_null (n := 173) F dJ10_deleteEntry_172 rfl ?_
          refine sw_put (n := 176) F 0 rfl (k := 3) ⟨(RJ10, TJ10, 9), rfl, by decide, q288, in_J10, Or.inl rfl⟩ (tyJ10 3) ⟨(RJ10, TJ10, 9), rfl, rfl, tyJ10_ok 3 (by decide), nmJ10, tyJ10, tyJ10_ok⟩ rfl rfl (Nat.le_of_ble_eq_true rfl) rfl [ob (xg x) q 14 [.null, va_rf vs, .null, .null, .int (jI (sz - 1)), .int (jI (mc + 1)), .null, .null, .null], nd (xg x) Ks ka2 va2 L R P cl] rfl dJ10_deleteEntry_173 rfl ?_
          refine sw_goto F (n := 245) dJ10_deleteEntry_176 (by decide) ?_
          obtain ⟨lo7, hi7, hT7⟩ : ∃ lo7 hi7, TrI (Ks.erase s2) L R P rk lo7 hi7 none := ⟨_, _, hT.del hs2K (fun t => (hKn.mem_erase_iff).trans and_comm) (c := none) (Or.inl ⟨hLs, hRs⟩) (fun t ht => by (try simp only [va_up]); grind) (fun t ht => by (try simp only [va_up]); grind) (fun t ht => by (try simp only [va_up]); grind) (if_pos c_168).symm⟩
          refine sw_perm [1, 0] rfl [nd (xg x) Ks ka2 va2 L R P cl, ob (xg x) q 14 [.null, va_rf vs, .null, .null, .int (jI (sz - 1)), .int (jI (mc + 1)), .null, .null, .null]] rfl ?_; refine (sw_ndDel F hs2K hKn ?_)
          show SW x [nd (xg x) (Ks.erase s2) ka2 va2 L R P cl, ob (xg x) q 14 [.null, va_rf vs, .null, .null, .int (jI (sz - 1)), .int (jI (mc + 1)), .null, .null, .null]] _ _ _ _ _
          obtain ⟨rk8, lo8, hi8, hT8, hq8, hq9⟩ := hT.fin hT7 (fun t => (hKn.mem_erase_iff).trans and_comm) hx hs2K hrel
          refine sw_perm [1, 0] rfl [ob (xg x) q 14 [.null, va_rf vs, .null, .null, .int (jI (sz - 1)), .int (jI (mc + 1)), .null, .null, .null], nd (xg x) (Ks.erase s2) ka2 va2 L R P cl] rfl ?_
          exact sw_vret F rfl dJ10_deleteEntry_245 (by rw [hPo]; exact ⟨Ks.erase s2, ka2, va2, rk8, L, R, P, none, lo8, hi8, cl, rfl, hT8, (by exact ⟨hKn.erase _, by have h8 := List.length_erase_of_mem hs2K; have h9 := List.length_pos_of_mem hs2K; omega⟩), (by (repeat' first | assumption | exact Or.inl rfl | exact Or.inr rfl | apply clO_b | refine cb_up ?_ ?_ | refine cb_cu ?_ ?_)), (by exact hq8), (by exact hq9), (by rfl)⟩)
      ·
        refine SW.cast (Ps' := _) (L' := [(2, .ref q_2), (0, .ref q), (1, .ref s2)]) (st' := []) ?_ rfl (by rw [c_77]; rfl) (by first | rfl | rw [c_77]; rfl)
        have hcK0 : q_2 ∈ Ks := (hT.r hs2K c_77).1
        have hsc : s2 ≠ q_2 := hT.neR hs2K c_77
        refine sw_aload_n (n := 81) F 0 (some q_2) rfl rfl rfl dJ10_deleteEntry_80 rfl ?_
        refine sw_aload_n (n := 82) F 2 (some s2) rfl rfl rfl dJ10_deleteEntry_81 rfl ?_
        refine sw_getK (n := 85) F (nd_hO 1 rfl hs2K) (k := 4) ⟨(RJ41, TJ41, 6), rfl, by decide, q3152, in_J41, Or.inl rfl⟩ (v := va_rf (P s2)) rfl dJ10_deleteEntry_82 rfl ?_
        refine sw_perm [1, 0] rfl [nd (xg x) Ks ka2 va2 L R P cl, ob (xg x) q 14 [.null, va_rf vs, .null, va_rf rt, .int (jI (sz - 1)), .int (jI (mc + 1)), .null, .null, .null]] rfl ?_
        refine sw_ndput (ka' := ka2) (va' := va2) (L' := L) (R' := R) (P' := (va_up P q_2 (P s2))) (cl' := cl) F hcK0 (k := 4) ⟨(RJ41, TJ41, 6), rfl, by decide, q3152, in_J41, Or.inl rfl⟩ (tyJ41 4) ⟨(RJ41, TJ41, 6), rfl, rfl, tyJ41_ok 4 (by decide), nmJ41, tyJ41, tyJ41_ok⟩ (va_rf_nar _ (by decide)) (va_rf_fit _ (by decide)) (by decide) (by simp [flN, va_up, va_rf]) (fun t9 h9 => by simp [flN, va_up, h9]) dJ10_deleteEntry_85 rfl ?_
        show SW x [nd (xg x) Ks ka2 va2 L R (va_up P q_2 (P s2)) cl, ob (xg x) q 14 [.null, va_rf vs, .null, va_rf rt, .int (jI (sz - 1)), .int (jI (mc + 1)), .null, .null, .null]] _ _ _ _ _
        refine sw_aload_n (n := 89) F 2 (some s2) rfl rfl rfl dJ10_deleteEntry_88 rfl ?_
        refine sw_getK (n := 92) F (nd_hO 0 rfl hs2K) (k := 4) ⟨(RJ41, TJ41, 6), rfl, by decide, q3152, in_J41, Or.inl rfl⟩ (v := va_rf (P s2)) (congrArg (fun o9 => some (va_rf o9)) (va_up_ne _ _ hsc)) dJ10_deleteEntry_89 rfl ?_
        refine sw_ifnonnull (n := 95) F (o := (P s2)) rfl (tgt := 103) dJ10_deleteEntry_92 (by decide) rfl (fun q_15 c_92 => ?_) (fun c_92 => ?_)
        ·
          have hppK : q_15 ∈ Ks := (hT.p hs2K c_92).1
          have hpc : q_15 ≠ q_2 := fun e9 => by have h1 := hT.wid hs2K c_92; have h2 := hT.wid hcK0 (hT.r hs2K c_77).2.1; subst e9; omega
          have hps : q_15 ≠ s2 := fun e9 => hT.neP hs2K c_92 e9.symm
          refine sw_aload_n (n := 104) F 2 (some s2) rfl rfl rfl dJ10_deleteEntry_103 rfl ?_
          refine sw_aload_n (n := 105) F 2 (some s2) rfl rfl rfl dJ10_deleteEntry_104 rfl ?_
          refine sw_getK (n := 108) F (nd_hO 0 rfl hs2K) (k := 4) ⟨(RJ41, TJ41, 6), rfl, by decide, q3152, in_J41, Or.inl rfl⟩ (v := .ref q_15) (congrArg (fun o9 => some (va_rf o9)) (Eq.trans (va_up_ne _ _ hsc) c_92)) dJ10_deleteEntry_105 rfl ?_
          refine sw_getK (n := 111) F (nd_hO 0 rfl hppK) (k := 2) ⟨(RJ41, TJ41, 6), rfl, by decide, q3149, in_J41, Or.inl rfl⟩ (v := va_rf (L q_15)) rfl dJ10_deleteEntry_108 rfl ?_
          refine sw_acmp_ne (n := 114) F (rx := (some s2)) (ry := (L q_15)) rfl rfl (tgt := 125) dJ10_deleteEntry_111 (by decide) rfl (fun c_111 => ?_) (fun c_111 => ?_)
          ·
            refine sw_aload_n (n := 126) F 2 (some s2) rfl rfl rfl dJ10_deleteEntry_125 rfl ?_
            refine sw_getK (n := 129) F (nd_hO 0 rfl hs2K) (k := 4) ⟨(RJ41, TJ41, 6), rfl, by decide, q3152, in_J41, Or.inl rfl⟩ (v := .ref q_15) (congrArg (fun o9 => some (va_rf o9)) (Eq.trans (va_up_ne _ _ hsc) c_92)) dJ10_deleteEntry_126 rfl ?_
            refine sw_aload_n (n := 130) F 0 (some q_2) rfl rfl rfl dJ10_deleteEntry_129 rfl ?_
            refine sw_ndput (ka' := ka2) (va' := va2) (L' := L) (R' := (va_up R q_15 (some q_2))) (P' := (va_up P q_2 (P s2))) (cl' := cl) F hppK (k := 3) ⟨(RJ41, TJ41, 6), rfl, by decide, q3150, in_J41, Or.inl rfl⟩ (tyJ41 3) ⟨(RJ41, TJ41, 6), rfl, rfl, tyJ41_ok 3 (by decide), nmJ41, tyJ41, tyJ41_ok⟩ rfl rfl (by decide) (by simp [flN, va_up, va_rf]) (fun t9 h9 => by simp [flN, va_up, h9]) dJ10_deleteEntry_130 rfl ?_
            show SW x [nd (xg x) Ks ka2 va2 L (va_up R q_15 (some q_2)) (va_up P q_2 (P s2)) cl, ob (xg x) q 14 [.null, va_rf vs, .null, va_rf rt, .int (jI (sz - 1)), .int (jI (mc + 1)), .null, .null, .null]] _ _ _ _ _
            refine sw_aload_n (n := 134) F 2 (some s2) rfl rfl rfl dJ10_deleteEntry_133 rfl ?_
            refine sw_aload_n (n := 135) F 2 (some s2) rfl rfl rfl dJ10_deleteEntry_134 rfl ?_
            refine sw_aload_n (n := 136) F 2 (some s2) rfl rfl rfl dJ10_deleteEntry_135 rfl ?_
            refine sw_null (n := 137) F dJ10_deleteEntry_136 rfl ?_
            refine sw_dup_x1 (n := 138) F rfl rfl dJ10_deleteEntry_137 rfl ?_
            refine sw_ndput (ka' := ka2) (va' := va2) (L' := L) (R' := (va_up R q_15 (some q_2))) (P' := (va_up (va_up P q_2 (P s2)) s2 none)) (cl' := cl) F hs2K (k := 4) ⟨(RJ41, TJ41, 6), rfl, by decide, q3152, in_J41, Or.inl rfl⟩ (tyJ41 4) ⟨(RJ41, TJ41, 6), rfl, rfl, tyJ41_ok 4 (by decide), nmJ41, tyJ41, tyJ41_ok⟩ rfl rfl (by decide) (by simp [flN, va_up, va_rf]) (fun t9 h9 => by simp [flN, va_up, h9]) dJ10_deleteEntry_138 rfl ?_
            show SW x [nd (xg x) Ks ka2 va2 L (va_up R q_15 (some q_2)) (va_up (va_up P q_2 (P s2)) s2 none) cl, ob (xg x) q 14 [.null, va_rf vs, .null, va_rf rt, .int (jI (sz - 1)), .int (jI (mc + 1)), .null, .null, .null]] _ _ _ _ _
            refine sw_dup_x1 (n := 142) F rfl rfl dJ10_deleteEntry_141 rfl ?_
            refine sw_ndput (ka' := ka2) (va' := va2) (L' := L) (R' := (va_up (va_up R q_15 (some q_2)) s2 none)) (P' := (va_up (va_up P q_2 (P s2)) s2 none)) (cl' := cl) F hs2K (k := 3) ⟨(RJ41, TJ41, 6), rfl, by decide, q3150, in_J41, Or.inl rfl⟩ (tyJ41 3) ⟨(RJ41, TJ41, 6), rfl, rfl, tyJ41_ok 3 (by decide), nmJ41, tyJ41, tyJ41_ok⟩ rfl rfl (by decide) (by simp [flN, va_up, va_rf]) (fun t9 h9 => by simp [flN, va_up, h9]) dJ10_deleteEntry_142 rfl ?_
            show SW x [nd (xg x) Ks ka2 va2 L (va_up (va_up R q_15 (some q_2)) s2 none) (va_up (va_up P q_2 (P s2)) s2 none) cl, ob (xg x) q 14 [.null, va_rf vs, .null, va_rf rt, .int (jI (sz - 1)), .int (jI (mc + 1)), .null, .null, .null]] _ _ _ _ _
            refine sw_ndput (ka' := ka2) (va' := va2) (L' := (va_up L s2 none)) (R' := (va_up (va_up R q_15 (some q_2)) s2 none)) (P' := (va_up (va_up P q_2 (P s2)) s2 none)) (cl' := cl) F hs2K (k := 2) ⟨(RJ41, TJ41, 6), rfl, by decide, q3149, in_J41, Or.inl rfl⟩ (tyJ41 2) ⟨(RJ41, TJ41, 6), rfl, rfl, tyJ41_ok 2 (by decide), nmJ41, tyJ41, tyJ41_ok⟩ rfl rfl (by decide) (by simp [flN, va_up, va_rf]) (fun t9 h9 => by simp [flN, va_up, h9]) dJ10_deleteEntry_145 rfl ?_
            show SW x [nd (xg x) Ks ka2 va2 (va_up L s2 none) (va_up (va_up R q_15 (some q_2)) s2 none) (va_up (va_up P q_2 (P s2)) s2 none) cl, ob (xg x) q 14 [.null, va_rf vs, .null, va_rf rt, .int (jI (sz - 1)), .int (jI (mc + 1)), .null, .null, .null]] _ _ _ _ _
            refine sw_aload_n (n := 149) F 2 (some s2) rfl rfl rfl dJ10_deleteEntry_148 rfl ?_
            refine sw_getK (n := 152) F (nd_hO 0 rfl hs2K) (k := 5) ⟨(RJ41, TJ41, 6), rfl, by decide, q3154, in_J41, Or.inl rfl⟩ (v := .int (jI (cl s2))) rfl dJ10_deleteEntry_149 rfl ?_
            have hyb_16 : cl s2 = 0 ∨ cl s2 = 1 := (show ∀ t, cl t = 0 ∨ cl t = 1 by (repeat' first | assumption | exact Or.inl rfl | exact Or.inr rfl | apply clO_b | refine cb_up ?_ ?_ | refine cb_cu ?_ ?_)) _
            obtain ⟨lo7, hi7, hT7⟩ : ∃ lo7 hi7, TrI (Ks.erase s2) (va_up L s2 none) (va_up (va_up R q_15 (some q_2)) s2 none) (va_up (va_up P q_2 (P s2)) s2 none) rk lo7 hi7 rt := ⟨_, _, hT.del hs2K (fun t => (hKn.mem_erase_iff).trans and_comm) (c := some q_2) (Or.inl ⟨c_61, c_77⟩) (fun t ht => by (try simp only [va_up]); grind) (fun t ht => by (try simp only [va_up]); grind) (fun t ht => by (try simp only [va_up]); grind) (if_neg (by rw [c_92]; simp)).symm⟩
            refine (sw_ndDel F hs2K hKn ?_)
            show SW x [nd (xg x) (Ks.erase s2) ka2 va2 (va_up L s2 none) (va_up (va_up R q_15 (some q_2)) s2 none) (va_up (va_up P q_2 (P s2)) s2 none) cl, ob (xg x) q 14 [.null, va_rf vs, .null, va_rf rt, .int (jI (sz - 1)), .int (jI (mc + 1)), .null, .null, .null]] _ _ _ _ _
            have hcK : q_2 ∈ Ks.erase s2 := (hKn.mem_erase_iff).mpr ⟨fun e9 => by subst e9; first | exact hT.neL hs2K c_61 rfl | exact hT.neR hs2K c_77 rfl, by first | exact (hT.l hs2K c_61).1 | exact (hT.r hs2K c_77).1⟩
            refine sw_iconst (n := 153) F (1) (by decide) dJ10_deleteEntry_152 rfl ?_
            refine sw_icmp_ne (n := 156) F (by omega) (by decide) (tgt := 245) dJ10_deleteEntry_153 (by decide) rfl (fun c_153 => ?_) (fun c_153 => ?_)
            ·
              obtain ⟨rk8, lo8, hi8, hT8, hq8, hq9⟩ := hT.fin hT7 (fun t => (hKn.mem_erase_iff).trans and_comm) hx hs2K hrel
              refine sw_perm [1, 0] rfl [ob (xg x) q 14 [.null, va_rf vs, .null, va_rf rt, .int (jI (sz - 1)), .int (jI (mc + 1)), .null, .null, .null], nd (xg x) (Ks.erase s2) ka2 va2 (va_up L s2 none) (va_up (va_up R q_15 (some q_2)) s2 none) (va_up (va_up P q_2 (P s2)) s2 none) cl] rfl ?_
              exact sw_vret F rfl dJ10_deleteEntry_245 (by rw [hPo]; exact ⟨Ks.erase s2, ka2, va2, rk8, va_up L s2 none, va_up (va_up R q_15 (some q_2)) s2 none, va_up (va_up P q_2 (P s2)) s2 none, rt, lo8, hi8, cl, rfl, hT8, (by exact ⟨hKn.erase _, by have h8 := List.length_erase_of_mem hs2K; have h9 := List.length_pos_of_mem hs2K; omega⟩), (by (repeat' first | assumption | exact Or.inl rfl | exact Or.inr rfl | apply clO_b | refine cb_up ?_ ?_ | refine cb_cu ?_ ?_)), (by exact hq8), (by exact hq9), rfl⟩)
            ·
              refine sw_aload_n (n := 157) F 1 (some q) rfl rfl rfl dJ10_deleteEntry_156 rfl ?_
              refine sw_aload_n (n := 158) F 0 (some q_2) rfl rfl rfl dJ10_deleteEntry_157 rfl ?_
              refine sw_callV (n := 161) F (ct_J10_fixAfterDeletion (g := xg x) (l := xl x) (Ks.erase s2) ka2 va2 (va_up L s2 none) (va_up (va_up R q_15 (some q_2)) s2 none) (va_up (va_up P q_2 (P s2)) s2 none) cl q vs rt (sz - 1) (mc + 1) rk lo7 hi7 q_2 s2 hT7 hcK (by (repeat' first | assumption | exact Or.inl rfl | exact Or.inr rfl | apply clO_b | refine cb_up ?_ ?_ | refine cb_cu ?_ ?_)) (by exact fun h9 => absurd rfl ((hKn.mem_erase_iff).mp h9).1)) (rcv_ob F 1 rfl rfl) q3669 q3671 qs64 q114 q3672 nd_J10_fixAfterDeletion rfl (by decide) [1, 0] rfl [] rfl 0 0 ⟨by omega, by omega⟩ [] rfl (Nat.le_of_ble_eq_true rfl) dJ10_deleteEntry_158 rfl (fun _ _ h => h.elim) (fun v Ws h => ?_)
              obtain ⟨L1_17, R1_18, P1_19, rt1_20, lo1_21, hi1_22, cl1_23, rfl, hT1_24, hcb1_25, hlf1_26, rfl⟩ := h
              show SW x [ob (xg x) q 14 [.null, va_rf vs, .null, va_rf rt1_20, .int (jI (sz - 1)), .int (jI (mc + 1)), .null, .null, .null], nd (xg x) (Ks.erase s2) ka2 va2 L1_17 R1_18 P1_19 cl1_23] _ _ _ _ []
              refine sw_goto F (n := 245) dJ10_deleteEntry_161 (by decide) ?_
              obtain ⟨rk8, lo8, hi8, hT8, hq8, hq9⟩ := hT.fin hT1_24 (fun t => (hKn.mem_erase_iff).trans and_comm) hx hs2K hrel
              exact sw_vret F rfl dJ10_deleteEntry_245 (by rw [hPo]; exact ⟨Ks.erase s2, ka2, va2, rk8, L1_17, R1_18, P1_19, rt1_20, lo8, hi8, cl1_23, rfl, hT8, (by exact ⟨hKn.erase _, by have h8 := List.length_erase_of_mem hs2K; have h9 := List.length_pos_of_mem hs2K; omega⟩), (by (repeat' first | assumption | exact Or.inl rfl | exact Or.inr rfl | apply clO_b | refine cb_up ?_ ?_ | refine cb_cu ?_ ?_)), (by exact hq8), (by exact hq9), rfl⟩)
          ·
            refine sw_aload_n (n := 115) F 2 (some s2) rfl rfl rfl dJ10_deleteEntry_114 rfl ?_
            refine sw_getK (n := 118) F (nd_hO 0 rfl hs2K) (k := 4) ⟨(RJ41, TJ41, 6), rfl, by decide, q3152, in_J41, Or.inl rfl⟩ (v := .ref q_15) (congrArg (fun o9 => some (va_rf o9)) (Eq.trans (va_up_ne _ _ hsc) c_92)) dJ10_deleteEntry_115 rfl ?_
            refine sw_aload_n (n := 119) F 0 (some q_2) rfl rfl rfl dJ10_deleteEntry_118 rfl ?_
            refine sw_ndput (ka' := ka2) (va' := va2) (L' := (va_up L q_15 (some q_2))) (R' := R) (P' := (va_up P q_2 (P s2))) (cl' := cl) F hppK (k := 2) ⟨(RJ41, TJ41, 6), rfl, by decide, q3149, in_J41, Or.inl rfl⟩ (tyJ41 2) ⟨(RJ41, TJ41, 6), rfl, rfl, tyJ41_ok 2 (by decide), nmJ41, tyJ41, tyJ41_ok⟩ rfl rfl (by decide) (by simp [flN, va_up, va_rf]) (fun t9 h9 => by simp [flN, va_up, h9]) dJ10_deleteEntry_119 rfl ?_
            show SW x [nd (xg x) Ks ka2 va2 (va_up L q_15 (some q_2)) R (va_up P q_2 (P s2)) cl, ob (xg x) q 14 [.null, va_rf vs, .null, va_rf rt, .int (jI (sz - 1)), .int (jI (mc + 1)), .null, .null, .null]] _ _ _ _ _
            refine sw_goto F (n := 133) dJ10_deleteEntry_122 (by decide) ?_
            refine sw_aload_n (n := 134) F 2 (some s2) rfl rfl rfl dJ10_deleteEntry_133 rfl ?_
            refine sw_aload_n (n := 135) F 2 (some s2) rfl rfl rfl dJ10_deleteEntry_134 rfl ?_
            refine sw_aload_n (n := 136) F 2 (some s2) rfl rfl rfl dJ10_deleteEntry_135 rfl ?_
            refine sw_null (n := 137) F dJ10_deleteEntry_136 rfl ?_
            refine sw_dup_x1 (n := 138) F rfl rfl dJ10_deleteEntry_137 rfl ?_
            refine sw_ndput (ka' := ka2) (va' := va2) (L' := (va_up L q_15 (some q_2))) (R' := R) (P' := (va_up (va_up P q_2 (P s2)) s2 none)) (cl' := cl) F hs2K (k := 4) ⟨(RJ41, TJ41, 6), rfl, by decide, q3152, in_J41, Or.inl rfl⟩ (tyJ41 4) ⟨(RJ41, TJ41, 6), rfl, rfl, tyJ41_ok 4 (by decide), nmJ41, tyJ41, tyJ41_ok⟩ rfl rfl (by decide) (by simp [flN, va_up, va_rf]) (fun t9 h9 => by simp [flN, va_up, h9]) dJ10_deleteEntry_138 rfl ?_
            show SW x [nd (xg x) Ks ka2 va2 (va_up L q_15 (some q_2)) R (va_up (va_up P q_2 (P s2)) s2 none) cl, ob (xg x) q 14 [.null, va_rf vs, .null, va_rf rt, .int (jI (sz - 1)), .int (jI (mc + 1)), .null, .null, .null]] _ _ _ _ _
            refine sw_dup_x1 (n := 142) F rfl rfl dJ10_deleteEntry_141 rfl ?_
            refine sw_ndput (ka' := ka2) (va' := va2) (L' := (va_up L q_15 (some q_2))) (R' := (va_up R s2 none)) (P' := (va_up (va_up P q_2 (P s2)) s2 none)) (cl' := cl) F hs2K (k := 3) ⟨(RJ41, TJ41, 6), rfl, by decide, q3150, in_J41, Or.inl rfl⟩ (tyJ41 3) ⟨(RJ41, TJ41, 6), rfl, rfl, tyJ41_ok 3 (by decide), nmJ41, tyJ41, tyJ41_ok⟩ rfl rfl (by decide) (by simp [flN, va_up, va_rf]) (fun t9 h9 => by simp [flN, va_up, h9]) dJ10_deleteEntry_142 rfl ?_
            show SW x [nd (xg x) Ks ka2 va2 (va_up L q_15 (some q_2)) (va_up R s2 none) (va_up (va_up P q_2 (P s2)) s2 none) cl, ob (xg x) q 14 [.null, va_rf vs, .null, va_rf rt, .int (jI (sz - 1)), .int (jI (mc + 1)), .null, .null, .null]] _ _ _ _ _
            refine sw_ndput (ka' := ka2) (va' := va2) (L' := (va_up (va_up L q_15 (some q_2)) s2 none)) (R' := (va_up R s2 none)) (P' := (va_up (va_up P q_2 (P s2)) s2 none)) (cl' := cl) F hs2K (k := 2) ⟨(RJ41, TJ41, 6), rfl, by decide, q3149, in_J41, Or.inl rfl⟩ (tyJ41 2) ⟨(RJ41, TJ41, 6), rfl, rfl, tyJ41_ok 2 (by decide), nmJ41, tyJ41, tyJ41_ok⟩ rfl rfl (by decide) (by simp [flN, va_up, va_rf]) (fun t9 h9 => by simp [flN, va_up, h9]) dJ10_deleteEntry_145 rfl ?_
            show SW x [nd (xg x) Ks ka2 va2 (va_up (va_up L q_15 (some q_2)) s2 none) (va_up R s2 none) (va_up (va_up P q_2 (P s2)) s2 none) cl, ob (xg x) q 14 [.null, va_rf vs, .null, va_rf rt, .int (jI (sz - 1)), .int (jI (mc + 1)), .null, .null, .null]] _ _ _ _ _
            refine sw_aload_n (n := 149) F 2 (some s2) rfl rfl rfl dJ10_deleteEntry_148 rfl ?_
            refine sw_getK (n := 152) F (nd_hO 0 rfl hs2K) (k := 5) ⟨(RJ41, TJ41, 6), rfl, by decide, q3154, in_J41, Or.inl rfl⟩ (v := .int (jI (cl s2))) rfl dJ10_deleteEntry_149 rfl ?_
            have hyb_27 : cl s2 = 0 ∨ cl s2 = 1 := (show ∀ t, cl t = 0 ∨ cl t = 1 by (repeat' first | assumption | exact Or.inl rfl | exact Or.inr rfl | apply clO_b | refine cb_up ?_ ?_ | refine cb_cu ?_ ?_)) _
            obtain ⟨lo7, hi7, hT7⟩ : ∃ lo7 hi7, TrI (Ks.erase s2) (va_up (va_up L q_15 (some q_2)) s2 none) (va_up R s2 none) (va_up (va_up P q_2 (P s2)) s2 none) rk lo7 hi7 rt := ⟨_, _, hT.del hs2K (fun t => (hKn.mem_erase_iff).trans and_comm) (c := some q_2) (Or.inl ⟨c_61, c_77⟩) (fun t ht => by (try simp only [va_up]); grind) (fun t ht => by (try simp only [va_up]); grind) (fun t ht => by (try simp only [va_up]); grind) (if_neg (by rw [c_92]; simp)).symm⟩
            refine (sw_ndDel F hs2K hKn ?_)
            show SW x [nd (xg x) (Ks.erase s2) ka2 va2 (va_up (va_up L q_15 (some q_2)) s2 none) (va_up R s2 none) (va_up (va_up P q_2 (P s2)) s2 none) cl, ob (xg x) q 14 [.null, va_rf vs, .null, va_rf rt, .int (jI (sz - 1)), .int (jI (mc + 1)), .null, .null, .null]] _ _ _ _ _
            have hcK : q_2 ∈ Ks.erase s2 := (hKn.mem_erase_iff).mpr ⟨fun e9 => by subst e9; first | exact hT.neL hs2K c_61 rfl | exact hT.neR hs2K c_77 rfl, by first | exact (hT.l hs2K c_61).1 | exact (hT.r hs2K c_77).1⟩
            refine sw_iconst (n := 153) F (1) (by decide) dJ10_deleteEntry_152 rfl ?_
            refine sw_icmp_ne (n := 156) F (by omega) (by decide) (tgt := 245) dJ10_deleteEntry_153 (by decide) rfl (fun c_153 => ?_) (fun c_153 => ?_)
            ·
              obtain ⟨rk8, lo8, hi8, hT8, hq8, hq9⟩ := hT.fin hT7 (fun t => (hKn.mem_erase_iff).trans and_comm) hx hs2K hrel
              refine sw_perm [1, 0] rfl [ob (xg x) q 14 [.null, va_rf vs, .null, va_rf rt, .int (jI (sz - 1)), .int (jI (mc + 1)), .null, .null, .null], nd (xg x) (Ks.erase s2) ka2 va2 (va_up (va_up L q_15 (some q_2)) s2 none) (va_up R s2 none) (va_up (va_up P q_2 (P s2)) s2 none) cl] rfl ?_
              exact sw_vret F rfl dJ10_deleteEntry_245 (by rw [hPo]; exact ⟨Ks.erase s2, ka2, va2, rk8, va_up (va_up L q_15 (some q_2)) s2 none, va_up R s2 none, va_up (va_up P q_2 (P s2)) s2 none, rt, lo8, hi8, cl, rfl, hT8, (by exact ⟨hKn.erase _, by have h8 := List.length_erase_of_mem hs2K; have h9 := List.length_pos_of_mem hs2K; omega⟩), (by (repeat' first | assumption | exact Or.inl rfl | exact Or.inr rfl | apply clO_b | refine cb_up ?_ ?_ | refine cb_cu ?_ ?_)), (by exact hq8), (by exact hq9), rfl⟩)
            ·
              refine sw_aload_n (n := 157) F 1 (some q) rfl rfl rfl dJ10_deleteEntry_156 rfl ?_
              refine sw_aload_n (n := 158) F 0 (some q_2) rfl rfl rfl dJ10_deleteEntry_157 rfl ?_
              refine sw_callV (n := 161) F (ct_J10_fixAfterDeletion (g := xg x) (l := xl x) (Ks.erase s2) ka2 va2 (va_up (va_up L q_15 (some q_2)) s2 none) (va_up R s2 none) (va_up (va_up P q_2 (P s2)) s2 none) cl q vs rt (sz - 1) (mc + 1) rk lo7 hi7 q_2 s2 hT7 hcK (by (repeat' first | assumption | exact Or.inl rfl | exact Or.inr rfl | apply clO_b | refine cb_up ?_ ?_ | refine cb_cu ?_ ?_)) (by exact fun h9 => absurd rfl ((hKn.mem_erase_iff).mp h9).1)) (rcv_ob F 1 rfl rfl) q3669 q3671 qs64 q114 q3672 nd_J10_fixAfterDeletion rfl (by decide) [1, 0] rfl [] rfl 0 0 ⟨by omega, by omega⟩ [] rfl (Nat.le_of_ble_eq_true rfl) dJ10_deleteEntry_158 rfl (fun _ _ h => h.elim) (fun v Ws h => ?_)
              obtain ⟨L1_28, R1_29, P1_30, rt1_31, lo1_32, hi1_33, cl1_34, rfl, hT1_35, hcb1_36, hlf1_37, rfl⟩ := h
              show SW x [ob (xg x) q 14 [.null, va_rf vs, .null, va_rf rt1_31, .int (jI (sz - 1)), .int (jI (mc + 1)), .null, .null, .null], nd (xg x) (Ks.erase s2) ka2 va2 L1_28 R1_29 P1_30 cl1_34] _ _ _ _ []
              refine sw_goto F (n := 245) dJ10_deleteEntry_161 (by decide) ?_
              obtain ⟨rk8, lo8, hi8, hT8, hq8, hq9⟩ := hT.fin hT1_35 (fun t => (hKn.mem_erase_iff).trans and_comm) hx hs2K hrel
              exact sw_vret F rfl dJ10_deleteEntry_245 (by rw [hPo]; exact ⟨Ks.erase s2, ka2, va2, rk8, L1_28, R1_29, P1_30, rt1_31, lo8, hi8, cl1_34, rfl, hT8, (by exact ⟨hKn.erase _, by have h8 := List.length_erase_of_mem hs2K; have h9 := List.length_pos_of_mem hs2K; omega⟩), (by (repeat' first | assumption | exact Or.inl rfl | exact Or.inr rfl | apply clO_b | refine cb_up ?_ ?_ | refine cb_cu ?_ ?_)), (by exact hq8), (by exact hq9), rfl⟩)
        ·
          refine sw_aload_n (n := 96) F 1 (some q) rfl rfl rfl dJ10_deleteEntry_95 rfl ?_
          refine sw_aload_n (n := 97) F 0 (some q_2) rfl rfl rfl dJ10_deleteEntry_96 rfl ?_
          refine sw_put (n := 100) F 1 rfl (k := 3) ⟨(RJ10, TJ10, 9), rfl, by decide, q288, in_J10, Or.inl rfl⟩ (tyJ10 3) ⟨(RJ10, TJ10, 9), rfl, rfl, tyJ10_ok 3 (by decide), nmJ10, tyJ10, tyJ10_ok⟩ rfl rfl (Nat.le_of_ble_eq_true rfl) rfl [nd (xg x) Ks ka2 va2 L R (va_up P q_2 (P s2)) cl, ob (xg x) q 14 [.null, va_rf vs, .null, .ref q_2, .int (jI (sz - 1)), .int (jI (mc + 1)), .null, .null, .null]] rfl dJ10_deleteEntry_97 rfl ?_
          refine sw_goto F (n := 133) dJ10_deleteEntry_100 (by decide) ?_
          refine sw_aload_n (n := 134) F 2 (some s2) rfl rfl rfl dJ10_deleteEntry_133 rfl ?_
          refine sw_aload_n (n := 135) F 2 (some s2) rfl rfl rfl dJ10_deleteEntry_134 rfl ?_
          refine sw_aload_n (n := 136) F 2 (some s2) rfl rfl rfl dJ10_deleteEntry_135 rfl ?_
          refine sw_null (n := 137) F dJ10_deleteEntry_136 rfl ?_
          refine sw_dup_x1 (n := 138) F rfl rfl dJ10_deleteEntry_137 rfl ?_
          refine sw_ndput (ka' := ka2) (va' := va2) (L' := L) (R' := R) (P' := (va_up (va_up P q_2 (P s2)) s2 none)) (cl' := cl) F hs2K (k := 4) ⟨(RJ41, TJ41, 6), rfl, by decide, q3152, in_J41, Or.inl rfl⟩ (tyJ41 4) ⟨(RJ41, TJ41, 6), rfl, rfl, tyJ41_ok 4 (by decide), nmJ41, tyJ41, tyJ41_ok⟩ rfl rfl (by decide) (by simp [flN, va_up, va_rf]) (fun t9 h9 => by simp [flN, va_up, h9]) dJ10_deleteEntry_138 rfl ?_
          show SW x [nd (xg x) Ks ka2 va2 L R (va_up (va_up P q_2 (P s2)) s2 none) cl, ob (xg x) q 14 [.null, va_rf vs, .null, .ref q_2, .int (jI (sz - 1)), .int (jI (mc + 1)), .null, .null, .null]] _ _ _ _ _
          refine sw_dup_x1 (n := 142) F rfl rfl dJ10_deleteEntry_141 rfl ?_
          refine sw_ndput (ka' := ka2) (va' := va2) (L' := L) (R' := (va_up R s2 none)) (P' := (va_up (va_up P q_2 (P s2)) s2 none)) (cl' := cl) F hs2K (k := 3) ⟨(RJ41, TJ41, 6), rfl, by decide, q3150, in_J41, Or.inl rfl⟩ (tyJ41 3) ⟨(RJ41, TJ41, 6), rfl, rfl, tyJ41_ok 3 (by decide), nmJ41, tyJ41, tyJ41_ok⟩ rfl rfl (by decide) (by simp [flN, va_up, va_rf]) (fun t9 h9 => by simp [flN, va_up, h9]) dJ10_deleteEntry_142 rfl ?_
          show SW x [nd (xg x) Ks ka2 va2 L (va_up R s2 none) (va_up (va_up P q_2 (P s2)) s2 none) cl, ob (xg x) q 14 [.null, va_rf vs, .null, .ref q_2, .int (jI (sz - 1)), .int (jI (mc + 1)), .null, .null, .null]] _ _ _ _ _
          refine sw_ndput (ka' := ka2) (va' := va2) (L' := (va_up L s2 none)) (R' := (va_up R s2 none)) (P' := (va_up (va_up P q_2 (P s2)) s2 none)) (cl' := cl) F hs2K (k := 2) ⟨(RJ41, TJ41, 6), rfl, by decide, q3149, in_J41, Or.inl rfl⟩ (tyJ41 2) ⟨(RJ41, TJ41, 6), rfl, rfl, tyJ41_ok 2 (by decide), nmJ41, tyJ41, tyJ41_ok⟩ rfl rfl (by decide) (by simp [flN, va_up, va_rf]) (fun t9 h9 => by simp [flN, va_up, h9]) dJ10_deleteEntry_145 rfl ?_
          show SW x [nd (xg x) Ks ka2 va2 (va_up L s2 none) (va_up R s2 none) (va_up (va_up P q_2 (P s2)) s2 none) cl, ob (xg x) q 14 [.null, va_rf vs, .null, .ref q_2, .int (jI (sz - 1)), .int (jI (mc + 1)), .null, .null, .null]] _ _ _ _ _
          refine sw_aload_n (n := 149) F 2 (some s2) rfl rfl rfl dJ10_deleteEntry_148 rfl ?_
          refine sw_getK (n := 152) F (nd_hO 0 rfl hs2K) (k := 5) ⟨(RJ41, TJ41, 6), rfl, by decide, q3154, in_J41, Or.inl rfl⟩ (v := .int (jI (cl s2))) rfl dJ10_deleteEntry_149 rfl ?_
          have hyb_38 : cl s2 = 0 ∨ cl s2 = 1 := (show ∀ t, cl t = 0 ∨ cl t = 1 by (repeat' first | assumption | exact Or.inl rfl | exact Or.inr rfl | apply clO_b | refine cb_up ?_ ?_ | refine cb_cu ?_ ?_)) _
          obtain ⟨lo7, hi7, hT7⟩ : ∃ lo7 hi7, TrI (Ks.erase s2) (va_up L s2 none) (va_up R s2 none) (va_up (va_up P q_2 (P s2)) s2 none) rk lo7 hi7 (some q_2) := ⟨_, _, hT.del hs2K (fun t => (hKn.mem_erase_iff).trans and_comm) (c := some q_2) (Or.inl ⟨c_61, c_77⟩) (fun t ht => by (try simp only [va_up]); grind) (fun t ht => by (try simp only [va_up]); grind) (fun t ht => by (try simp only [va_up]); grind) (if_pos c_92).symm⟩
          refine (sw_ndDel F hs2K hKn ?_)
          show SW x [nd (xg x) (Ks.erase s2) ka2 va2 (va_up L s2 none) (va_up R s2 none) (va_up (va_up P q_2 (P s2)) s2 none) cl, ob (xg x) q 14 [.null, va_rf vs, .null, .ref q_2, .int (jI (sz - 1)), .int (jI (mc + 1)), .null, .null, .null]] _ _ _ _ _
          have hcK : q_2 ∈ Ks.erase s2 := (hKn.mem_erase_iff).mpr ⟨fun e9 => by subst e9; first | exact hT.neL hs2K c_61 rfl | exact hT.neR hs2K c_77 rfl, by first | exact (hT.l hs2K c_61).1 | exact (hT.r hs2K c_77).1⟩
          refine sw_iconst (n := 153) F (1) (by decide) dJ10_deleteEntry_152 rfl ?_
          refine sw_icmp_ne (n := 156) F (by omega) (by decide) (tgt := 245) dJ10_deleteEntry_153 (by decide) rfl (fun c_153 => ?_) (fun c_153 => ?_)
          ·
            obtain ⟨rk8, lo8, hi8, hT8, hq8, hq9⟩ := hT.fin hT7 (fun t => (hKn.mem_erase_iff).trans and_comm) hx hs2K hrel
            refine sw_perm [1, 0] rfl [ob (xg x) q 14 [.null, va_rf vs, .null, .ref q_2, .int (jI (sz - 1)), .int (jI (mc + 1)), .null, .null, .null], nd (xg x) (Ks.erase s2) ka2 va2 (va_up L s2 none) (va_up R s2 none) (va_up (va_up P q_2 (P s2)) s2 none) cl] rfl ?_
            exact sw_vret F rfl dJ10_deleteEntry_245 (by rw [hPo]; exact ⟨Ks.erase s2, ka2, va2, rk8, va_up L s2 none, va_up R s2 none, va_up (va_up P q_2 (P s2)) s2 none, some q_2, lo8, hi8, cl, rfl, hT8, (by exact ⟨hKn.erase _, by have h8 := List.length_erase_of_mem hs2K; have h9 := List.length_pos_of_mem hs2K; omega⟩), (by (repeat' first | assumption | exact Or.inl rfl | exact Or.inr rfl | apply clO_b | refine cb_up ?_ ?_ | refine cb_cu ?_ ?_)), (by exact hq8), (by exact hq9), (by rfl)⟩)
          ·
            refine sw_aload_n (n := 157) F 1 (some q) rfl rfl rfl dJ10_deleteEntry_156 rfl ?_
            refine sw_aload_n (n := 158) F 0 (some q_2) rfl rfl rfl dJ10_deleteEntry_157 rfl ?_
            refine sw_callV (n := 161) F (ct_J10_fixAfterDeletion (g := xg x) (l := xl x) (Ks.erase s2) ka2 va2 (va_up L s2 none) (va_up R s2 none) (va_up (va_up P q_2 (P s2)) s2 none) cl q vs (some q_2) (sz - 1) (mc + 1) rk lo7 hi7 q_2 s2 hT7 hcK (by (repeat' first | assumption | exact Or.inl rfl | exact Or.inr rfl | apply clO_b | refine cb_up ?_ ?_ | refine cb_cu ?_ ?_)) (by exact fun h9 => absurd rfl ((hKn.mem_erase_iff).mp h9).1)) (rcv_ob F 1 rfl rfl) q3669 q3671 qs64 q114 q3672 nd_J10_fixAfterDeletion rfl (by decide) [1, 0] rfl [] rfl 0 0 ⟨by omega, by omega⟩ [] rfl (Nat.le_of_ble_eq_true rfl) dJ10_deleteEntry_158 rfl (fun _ _ h => h.elim) (fun v Ws h => ?_)
            obtain ⟨L1_39, R1_40, P1_41, rt1_42, lo1_43, hi1_44, cl1_45, rfl, hT1_46, hcb1_47, hlf1_48, rfl⟩ := h
            show SW x [ob (xg x) q 14 [.null, va_rf vs, .null, va_rf rt1_42, .int (jI (sz - 1)), .int (jI (mc + 1)), .null, .null, .null], nd (xg x) (Ks.erase s2) ka2 va2 L1_39 R1_40 P1_41 cl1_45] _ _ _ _ []
            refine sw_goto F (n := 245) dJ10_deleteEntry_161 (by decide) ?_
            obtain ⟨rk8, lo8, hi8, hT8, hq8, hq9⟩ := hT.fin hT1_46 (fun t => (hKn.mem_erase_iff).trans and_comm) hx hs2K hrel
            exact sw_vret F rfl dJ10_deleteEntry_245 (by rw [hPo]; exact ⟨Ks.erase s2, ka2, va2, rk8, L1_39, R1_40, P1_41, rt1_42, lo8, hi8, cl1_45, rfl, hT8, (by exact ⟨hKn.erase _, by have h8 := List.length_erase_of_mem hs2K; have h9 := List.length_pos_of_mem hs2K; omega⟩), (by (repeat' first | assumption | exact Or.inl rfl | exact Or.inr rfl | apply clO_b | refine cb_up ?_ ?_ | refine cb_cu ?_ ?_)), (by exact hq8), (by exact hq9), rfl⟩)
    ·
      refine sw_aload_n (n := 65) F 1 (some s2) rfl rfl rfl dJ10_deleteEntry_64 rfl ?_
      refine sw_getK (n := 68) F (nd_hO 1 rfl hs2K) (k := 2) ⟨(RJ41, TJ41, 6), rfl, by decide, q3149, in_J41, Or.inl rfl⟩ (v := .ref q_1) (congrArg (fun o9 => some (va_rf o9)) c_61) dJ10_deleteEntry_65 rfl ?_
      refine sw_goto F (n := 75) dJ10_deleteEntry_68 (by decide) ?_
      refine sw_astore_n (n := 76) F (some q_1) (L2 := [(2, .ref q_1), (0, .ref q), (1, .ref s2)]) rfl rfl (by decide) rfl dJ10_deleteEntry_75 rfl ?_
      refine sw_aload_n (n := 77) F 0 (some q_1) rfl rfl rfl dJ10_deleteEntry_76 rfl ?_
      refine sw_ifnull (n := 80) F (o := (some q_1)) rfl (tgt := 164) dJ10_deleteEntry_77 (by decide) rfl (fun c_77 => ?_) (fun _ _ => ?_)
      · cases c_77
      ·
        have hcK0 : q_1 ∈ Ks := (hT.l hs2K c_61).1
        have hsc : s2 ≠ q_1 := hT.neL hs2K c_61
        have hRn : R s2 = none := hsh.resolve_left (by rw [c_61]; simp)
        refine sw_aload_n (n := 81) F 0 (some q_1) rfl rfl rfl dJ10_deleteEntry_80 rfl ?_
        refine sw_aload_n (n := 82) F 2 (some s2) rfl rfl rfl dJ10_deleteEntry_81 rfl ?_
        refine sw_getK (n := 85) F (nd_hO 1 rfl hs2K) (k := 4) ⟨(RJ41, TJ41, 6), rfl, by decide, q3152, in_J41, Or.inl rfl⟩ (v := va_rf (P s2)) rfl dJ10_deleteEntry_82 rfl ?_
        refine sw_perm [1, 0] rfl [nd (xg x) Ks ka2 va2 L R P cl, ob (xg x) q 14 [.null, va_rf vs, .null, va_rf rt, .int (jI (sz - 1)), .int (jI (mc + 1)), .null, .null, .null]] rfl ?_
        refine sw_ndput (ka' := ka2) (va' := va2) (L' := L) (R' := R) (P' := (va_up P q_1 (P s2))) (cl' := cl) F hcK0 (k := 4) ⟨(RJ41, TJ41, 6), rfl, by decide, q3152, in_J41, Or.inl rfl⟩ (tyJ41 4) ⟨(RJ41, TJ41, 6), rfl, rfl, tyJ41_ok 4 (by decide), nmJ41, tyJ41, tyJ41_ok⟩ (va_rf_nar _ (by decide)) (va_rf_fit _ (by decide)) (by decide) (by simp [flN, va_up, va_rf]) (fun t9 h9 => by simp [flN, va_up, h9]) dJ10_deleteEntry_85 rfl ?_
        show SW x [nd (xg x) Ks ka2 va2 L R (va_up P q_1 (P s2)) cl, ob (xg x) q 14 [.null, va_rf vs, .null, va_rf rt, .int (jI (sz - 1)), .int (jI (mc + 1)), .null, .null, .null]] _ _ _ _ _
        refine sw_aload_n (n := 89) F 2 (some s2) rfl rfl rfl dJ10_deleteEntry_88 rfl ?_
        refine sw_getK (n := 92) F (nd_hO 0 rfl hs2K) (k := 4) ⟨(RJ41, TJ41, 6), rfl, by decide, q3152, in_J41, Or.inl rfl⟩ (v := va_rf (P s2)) (congrArg (fun o9 => some (va_rf o9)) (va_up_ne _ _ hsc)) dJ10_deleteEntry_89 rfl ?_
        refine sw_ifnonnull (n := 95) F (o := (P s2)) rfl (tgt := 103) dJ10_deleteEntry_92 (by decide) rfl (fun q_49 c_92 => ?_) (fun c_92 => ?_)
        ·
          have hppK : q_49 ∈ Ks := (hT.p hs2K c_92).1
          have hpc : q_49 ≠ q_1 := fun e9 => by have h1 := hT.wid hs2K c_92; have h2 := hT.wid hcK0 (hT.l hs2K c_61).2.1; subst e9; omega
          have hps : q_49 ≠ s2 := fun e9 => hT.neP hs2K c_92 e9.symm
          refine sw_aload_n (n := 104) F 2 (some s2) rfl rfl rfl dJ10_deleteEntry_103 rfl ?_
          refine sw_aload_n (n := 105) F 2 (some s2) rfl rfl rfl dJ10_deleteEntry_104 rfl ?_
          refine sw_getK (n := 108) F (nd_hO 0 rfl hs2K) (k := 4) ⟨(RJ41, TJ41, 6), rfl, by decide, q3152, in_J41, Or.inl rfl⟩ (v := .ref q_49) (congrArg (fun o9 => some (va_rf o9)) (Eq.trans (va_up_ne _ _ hsc) c_92)) dJ10_deleteEntry_105 rfl ?_
          refine sw_getK (n := 111) F (nd_hO 0 rfl hppK) (k := 2) ⟨(RJ41, TJ41, 6), rfl, by decide, q3149, in_J41, Or.inl rfl⟩ (v := va_rf (L q_49)) rfl dJ10_deleteEntry_108 rfl ?_
          refine sw_acmp_ne (n := 114) F (rx := (some s2)) (ry := (L q_49)) rfl rfl (tgt := 125) dJ10_deleteEntry_111 (by decide) rfl (fun c_111 => ?_) (fun c_111 => ?_)
          ·
            refine sw_aload_n (n := 126) F 2 (some s2) rfl rfl rfl dJ10_deleteEntry_125 rfl ?_
            refine sw_getK (n := 129) F (nd_hO 0 rfl hs2K) (k := 4) ⟨(RJ41, TJ41, 6), rfl, by decide, q3152, in_J41, Or.inl rfl⟩ (v := .ref q_49) (congrArg (fun o9 => some (va_rf o9)) (Eq.trans (va_up_ne _ _ hsc) c_92)) dJ10_deleteEntry_126 rfl ?_
            refine sw_aload_n (n := 130) F 0 (some q_1) rfl rfl rfl dJ10_deleteEntry_129 rfl ?_
            refine sw_ndput (ka' := ka2) (va' := va2) (L' := L) (R' := (va_up R q_49 (some q_1))) (P' := (va_up P q_1 (P s2))) (cl' := cl) F hppK (k := 3) ⟨(RJ41, TJ41, 6), rfl, by decide, q3150, in_J41, Or.inl rfl⟩ (tyJ41 3) ⟨(RJ41, TJ41, 6), rfl, rfl, tyJ41_ok 3 (by decide), nmJ41, tyJ41, tyJ41_ok⟩ rfl rfl (by decide) (by simp [flN, va_up, va_rf]) (fun t9 h9 => by simp [flN, va_up, h9]) dJ10_deleteEntry_130 rfl ?_
            show SW x [nd (xg x) Ks ka2 va2 L (va_up R q_49 (some q_1)) (va_up P q_1 (P s2)) cl, ob (xg x) q 14 [.null, va_rf vs, .null, va_rf rt, .int (jI (sz - 1)), .int (jI (mc + 1)), .null, .null, .null]] _ _ _ _ _
            refine sw_aload_n (n := 134) F 2 (some s2) rfl rfl rfl dJ10_deleteEntry_133 rfl ?_
            refine sw_aload_n (n := 135) F 2 (some s2) rfl rfl rfl dJ10_deleteEntry_134 rfl ?_
            refine sw_aload_n (n := 136) F 2 (some s2) rfl rfl rfl dJ10_deleteEntry_135 rfl ?_
            refine sw_null (n := 137) F dJ10_deleteEntry_136 rfl ?_
            refine sw_dup_x1 (n := 138) F rfl rfl dJ10_deleteEntry_137 rfl ?_
            refine sw_ndput (ka' := ka2) (va' := va2) (L' := L) (R' := (va_up R q_49 (some q_1))) (P' := (va_up (va_up P q_1 (P s2)) s2 none)) (cl' := cl) F hs2K (k := 4) ⟨(RJ41, TJ41, 6), rfl, by decide, q3152, in_J41, Or.inl rfl⟩ (tyJ41 4) ⟨(RJ41, TJ41, 6), rfl, rfl, tyJ41_ok 4 (by decide), nmJ41, tyJ41, tyJ41_ok⟩ rfl rfl (by decide) (by simp [flN, va_up, va_rf]) (fun t9 h9 => by simp [flN, va_up, h9]) dJ10_deleteEntry_138 rfl ?_
            show SW x [nd (xg x) Ks ka2 va2 L (va_up R q_49 (some q_1)) (va_up (va_up P q_1 (P s2)) s2 none) cl, ob (xg x) q 14 [.null, va_rf vs, .null, va_rf rt, .int (jI (sz - 1)), .int (jI (mc + 1)), .null, .null, .null]] _ _ _ _ _
            refine sw_dup_x1 (n := 142) F rfl rfl dJ10_deleteEntry_141 rfl ?_
            refine sw_ndput (ka' := ka2) (va' := va2) (L' := L) (R' := (va_up (va_up R q_49 (some q_1)) s2 none)) (P' := (va_up (va_up P q_1 (P s2)) s2 none)) (cl' := cl) F hs2K (k := 3) ⟨(RJ41, TJ41, 6), rfl, by decide, q3150, in_J41, Or.inl rfl⟩ (tyJ41 3) ⟨(RJ41, TJ41, 6), rfl, rfl, tyJ41_ok 3 (by decide), nmJ41, tyJ41, tyJ41_ok⟩ rfl rfl (by decide) (by simp [flN, va_up, va_rf]) (fun t9 h9 => by simp [flN, va_up, h9]) dJ10_deleteEntry_142 rfl ?_
            show SW x [nd (xg x) Ks ka2 va2 L (va_up (va_up R q_49 (some q_1)) s2 none) (va_up (va_up P q_1 (P s2)) s2 none) cl, ob (xg x) q 14 [.null, va_rf vs, .null, va_rf rt, .int (jI (sz - 1)), .int (jI (mc + 1)), .null, .null, .null]] _ _ _ _ _
            refine sw_ndput (ka' := ka2) (va' := va2) (L' := (va_up L s2 none)) (R' := (va_up (va_up R q_49 (some q_1)) s2 none)) (P' := (va_up (va_up P q_1 (P s2)) s2 none)) (cl' := cl) F hs2K (k := 2) ⟨(RJ41, TJ41, 6), rfl, by decide, q3149, in_J41, Or.inl rfl⟩ (tyJ41 2) ⟨(RJ41, TJ41, 6), rfl, rfl, tyJ41_ok 2 (by decide), nmJ41, tyJ41, tyJ41_ok⟩ rfl rfl (by decide) (by simp [flN, va_up, va_rf]) (fun t9 h9 => by simp [flN, va_up, h9]) dJ10_deleteEntry_145 rfl ?_
            show SW x [nd (xg x) Ks ka2 va2 (va_up L s2 none) (va_up (va_up R q_49 (some q_1)) s2 none) (va_up (va_up P q_1 (P s2)) s2 none) cl, ob (xg x) q 14 [.null, va_rf vs, .null, va_rf rt, .int (jI (sz - 1)), .int (jI (mc + 1)), .null, .null, .null]] _ _ _ _ _
            refine sw_aload_n (n := 149) F 2 (some s2) rfl rfl rfl dJ10_deleteEntry_148 rfl ?_
            refine sw_getK (n := 152) F (nd_hO 0 rfl hs2K) (k := 5) ⟨(RJ41, TJ41, 6), rfl, by decide, q3154, in_J41, Or.inl rfl⟩ (v := .int (jI (cl s2))) rfl dJ10_deleteEntry_149 rfl ?_
            have hyb_50 : cl s2 = 0 ∨ cl s2 = 1 := (show ∀ t, cl t = 0 ∨ cl t = 1 by (repeat' first | assumption | exact Or.inl rfl | exact Or.inr rfl | apply clO_b | refine cb_up ?_ ?_ | refine cb_cu ?_ ?_)) _
            obtain ⟨lo7, hi7, hT7⟩ : ∃ lo7 hi7, TrI (Ks.erase s2) (va_up L s2 none) (va_up (va_up R q_49 (some q_1)) s2 none) (va_up (va_up P q_1 (P s2)) s2 none) rk lo7 hi7 rt := ⟨_, _, hT.del hs2K (fun t => (hKn.mem_erase_iff).trans and_comm) (c := some q_1) (Or.inr ⟨hRn, c_61⟩) (fun t ht => by (try simp only [va_up]); grind) (fun t ht => by (try simp only [va_up]); grind) (fun t ht => by (try simp only [va_up]); grind) (if_neg (by rw [c_92]; simp)).symm⟩
            refine (sw_ndDel F hs2K hKn ?_)
            show SW x [nd (xg x) (Ks.erase s2) ka2 va2 (va_up L s2 none) (va_up (va_up R q_49 (some q_1)) s2 none) (va_up (va_up P q_1 (P s2)) s2 none) cl, ob (xg x) q 14 [.null, va_rf vs, .null, va_rf rt, .int (jI (sz - 1)), .int (jI (mc + 1)), .null, .null, .null]] _ _ _ _ _
            have hcK : q_1 ∈ Ks.erase s2 := (hKn.mem_erase_iff).mpr ⟨fun e9 => by subst e9; first | exact hT.neL hs2K c_61 rfl | exact hT.neR hs2K c_77 rfl, by first | exact (hT.l hs2K c_61).1 | exact (hT.r hs2K c_77).1⟩
            refine sw_iconst (n := 153) F (1) (by decide) dJ10_deleteEntry_152 rfl ?_
            refine sw_icmp_ne (n := 156) F (by omega) (by decide) (tgt := 245) dJ10_deleteEntry_153 (by decide) rfl (fun c_153 => ?_) (fun c_153 => ?_)
            ·
              obtain ⟨rk8, lo8, hi8, hT8, hq8, hq9⟩ := hT.fin hT7 (fun t => (hKn.mem_erase_iff).trans and_comm) hx hs2K hrel
              refine sw_perm [1, 0] rfl [ob (xg x) q 14 [.null, va_rf vs, .null, va_rf rt, .int (jI (sz - 1)), .int (jI (mc + 1)), .null, .null, .null], nd (xg x) (Ks.erase s2) ka2 va2 (va_up L s2 none) (va_up (va_up R q_49 (some q_1)) s2 none) (va_up (va_up P q_1 (P s2)) s2 none) cl] rfl ?_
              exact sw_vret F rfl dJ10_deleteEntry_245 (by rw [hPo]; exact ⟨Ks.erase s2, ka2, va2, rk8, va_up L s2 none, va_up (va_up R q_49 (some q_1)) s2 none, va_up (va_up P q_1 (P s2)) s2 none, rt, lo8, hi8, cl, rfl, hT8, (by exact ⟨hKn.erase _, by have h8 := List.length_erase_of_mem hs2K; have h9 := List.length_pos_of_mem hs2K; omega⟩), (by (repeat' first | assumption | exact Or.inl rfl | exact Or.inr rfl | apply clO_b | refine cb_up ?_ ?_ | refine cb_cu ?_ ?_)), (by exact hq8), (by exact hq9), rfl⟩)
            ·
              refine sw_aload_n (n := 157) F 1 (some q) rfl rfl rfl dJ10_deleteEntry_156 rfl ?_
              refine sw_aload_n (n := 158) F 0 (some q_1) rfl rfl rfl dJ10_deleteEntry_157 rfl ?_
              refine sw_callV (n := 161) F (ct_J10_fixAfterDeletion (g := xg x) (l := xl x) (Ks.erase s2) ka2 va2 (va_up L s2 none) (va_up (va_up R q_49 (some q_1)) s2 none) (va_up (va_up P q_1 (P s2)) s2 none) cl q vs rt (sz - 1) (mc + 1) rk lo7 hi7 q_1 s2 hT7 hcK (by (repeat' first | assumption | exact Or.inl rfl | exact Or.inr rfl | apply clO_b | refine cb_up ?_ ?_ | refine cb_cu ?_ ?_)) (by exact fun h9 => absurd rfl ((hKn.mem_erase_iff).mp h9).1)) (rcv_ob F 1 rfl rfl) q3669 q3671 qs64 q114 q3672 nd_J10_fixAfterDeletion rfl (by decide) [1, 0] rfl [] rfl 0 0 ⟨by omega, by omega⟩ [] rfl (Nat.le_of_ble_eq_true rfl) dJ10_deleteEntry_158 rfl (fun _ _ h => h.elim) (fun v Ws h => ?_)
              obtain ⟨L1_51, R1_52, P1_53, rt1_54, lo1_55, hi1_56, cl1_57, rfl, hT1_58, hcb1_59, hlf1_60, rfl⟩ := h
              show SW x [ob (xg x) q 14 [.null, va_rf vs, .null, va_rf rt1_54, .int (jI (sz - 1)), .int (jI (mc + 1)), .null, .null, .null], nd (xg x) (Ks.erase s2) ka2 va2 L1_51 R1_52 P1_53 cl1_57] _ _ _ _ []
              refine sw_goto F (n := 245) dJ10_deleteEntry_161 (by decide) ?_
              obtain ⟨rk8, lo8, hi8, hT8, hq8, hq9⟩ := hT.fin hT1_58 (fun t => (hKn.mem_erase_iff).trans and_comm) hx hs2K hrel
              exact sw_vret F rfl dJ10_deleteEntry_245 (by rw [hPo]; exact ⟨Ks.erase s2, ka2, va2, rk8, L1_51, R1_52, P1_53, rt1_54, lo8, hi8, cl1_57, rfl, hT8, (by exact ⟨hKn.erase _, by have h8 := List.length_erase_of_mem hs2K; have h9 := List.length_pos_of_mem hs2K; omega⟩), (by (repeat' first | assumption | exact Or.inl rfl | exact Or.inr rfl | apply clO_b | refine cb_up ?_ ?_ | refine cb_cu ?_ ?_)), (by exact hq8), (by exact hq9), rfl⟩)
          ·
            refine sw_aload_n (n := 115) F 2 (some s2) rfl rfl rfl dJ10_deleteEntry_114 rfl ?_
            refine sw_getK (n := 118) F (nd_hO 0 rfl hs2K) (k := 4) ⟨(RJ41, TJ41, 6), rfl, by decide, q3152, in_J41, Or.inl rfl⟩ (v := .ref q_49) (congrArg (fun o9 => some (va_rf o9)) (Eq.trans (va_up_ne _ _ hsc) c_92)) dJ10_deleteEntry_115 rfl ?_
            refine sw_aload_n (n := 119) F 0 (some q_1) rfl rfl rfl dJ10_deleteEntry_118 rfl ?_
            refine sw_ndput (ka' := ka2) (va' := va2) (L' := (va_up L q_49 (some q_1))) (R' := R) (P' := (va_up P q_1 (P s2))) (cl' := cl) F hppK (k := 2) ⟨(RJ41, TJ41, 6), rfl, by decide, q3149, in_J41, Or.inl rfl⟩ (tyJ41 2) ⟨(RJ41, TJ41, 6), rfl, rfl, tyJ41_ok 2 (by decide), nmJ41, tyJ41, tyJ41_ok⟩ rfl rfl (by decide) (by simp [flN, va_up, va_rf]) (fun t9 h9 => by simp [flN, va_up, h9]) dJ10_deleteEntry_119 rfl ?_
            show SW x [nd (xg x) Ks ka2 va2 (va_up L q_49 (some q_1)) R (va_up P q_1 (P s2)) cl, ob (xg x) q 14 [.null, va_rf vs, .null, va_rf rt, .int (jI (sz - 1)), .int (jI (mc + 1)), .null, .null, .null]] _ _ _ _ _
            refine sw_goto F (n := 133) dJ10_deleteEntry_122 (by decide) ?_
            refine sw_aload_n (n := 134) F 2 (some s2) rfl rfl rfl dJ10_deleteEntry_133 rfl ?_
            refine sw_aload_n (n := 135) F 2 (some s2) rfl rfl rfl dJ10_deleteEntry_134 rfl ?_
            refine sw_aload_n (n := 136) F 2 (some s2) rfl rfl rfl dJ10_deleteEntry_135 rfl ?_
            refine sw_null (n := 137) F dJ10_deleteEntry_136 rfl ?_
            refine sw_dup_x1 (n := 138) F rfl rfl dJ10_deleteEntry_137 rfl ?_
            refine sw_ndput (ka' := ka2) (va' := va2) (L' := (va_up L q_49 (some q_1))) (R' := R) (P' := (va_up (va_up P q_1 (P s2)) s2 none)) (cl' := cl) F hs2K (k := 4) ⟨(RJ41, TJ41, 6), rfl, by decide, q3152, in_J41, Or.inl rfl⟩ (tyJ41 4) ⟨(RJ41, TJ41, 6), rfl, rfl, tyJ41_ok 4 (by decide), nmJ41, tyJ41, tyJ41_ok⟩ rfl rfl (by decide) (by simp [flN, va_up, va_rf]) (fun t9 h9 => by simp [flN, va_up, h9]) dJ10_deleteEntry_138 rfl ?_
            show SW x [nd (xg x) Ks ka2 va2 (va_up L q_49 (some q_1)) R (va_up (va_up P q_1 (P s2)) s2 none) cl, ob (xg x) q 14 [.null, va_rf vs, .null, va_rf rt, .int (jI (sz - 1)), .int (jI (mc + 1)), .null, .null, .null]] _ _ _ _ _
            refine sw_dup_x1 (n := 142) F rfl rfl dJ10_deleteEntry_141 rfl ?_
            refine sw_ndput (ka' := ka2) (va' := va2) (L' := (va_up L q_49 (some q_1))) (R' := (va_up R s2 none)) (P' := (va_up (va_up P q_1 (P s2)) s2 none)) (cl' := cl) F hs2K (k := 3) ⟨(RJ41, TJ41, 6), rfl, by decide, q3150, in_J41, Or.inl rfl⟩ (tyJ41 3) ⟨(RJ41, TJ41, 6), rfl, rfl, tyJ41_ok 3 (by decide), nmJ41, tyJ41, tyJ41_ok⟩ rfl rfl (by decide) (by simp [flN, va_up, va_rf]) (fun t9 h9 => by simp [flN, va_up, h9]) dJ10_deleteEntry_142 rfl ?_
            show SW x [nd (xg x) Ks ka2 va2 (va_up L q_49 (some q_1)) (va_up R s2 none) (va_up (va_up P q_1 (P s2)) s2 none) cl, ob (xg x) q 14 [.null, va_rf vs, .null, va_rf rt, .int (jI (sz - 1)), .int (jI (mc + 1)), .null, .null, .null]] _ _ _ _ _
            refine sw_ndput (ka' := ka2) (va' := va2) (L' := (va_up (va_up L q_49 (some q_1)) s2 none)) (R' := (va_up R s2 none)) (P' := (va_up (va_up P q_1 (P s2)) s2 none)) (cl' := cl) F hs2K (k := 2) ⟨(RJ41, TJ41, 6), rfl, by decide, q3149, in_J41, Or.inl rfl⟩ (tyJ41 2) ⟨(RJ41, TJ41, 6), rfl, rfl, tyJ41_ok 2 (by decide), nmJ41, tyJ41, tyJ41_ok⟩ rfl rfl (by decide) (by simp [flN, va_up, va_rf]) (fun t9 h9 => by simp [flN, va_up, h9]) dJ10_deleteEntry_145 rfl ?_
            show SW x [nd (xg x) Ks ka2 va2 (va_up (va_up L q_49 (some q_1)) s2 none) (va_up R s2 none) (va_up (va_up P q_1 (P s2)) s2 none) cl, ob (xg x) q 14 [.null, va_rf vs, .null, va_rf rt, .int (jI (sz - 1)), .int (jI (mc + 1)), .null, .null, .null]] _ _ _ _ _
            refine sw_aload_n (n := 149) F 2 (some s2) rfl rfl rfl dJ10_deleteEntry_148 rfl ?_
            refine sw_getK (n := 152) F (nd_hO 0 rfl hs2K) (k := 5) ⟨(RJ41, TJ41, 6), rfl, by decide, q3154, in_J41, Or.inl rfl⟩ (v := .int (jI (cl s2))) rfl dJ10_deleteEntry_149 rfl ?_
            have hyb_61 : cl s2 = 0 ∨ cl s2 = 1 := (show ∀ t, cl t = 0 ∨ cl t = 1 by (repeat' first | assumption | exact Or.inl rfl | exact Or.inr rfl | apply clO_b | refine cb_up ?_ ?_ | refine cb_cu ?_ ?_)) _
            obtain ⟨lo7, hi7, hT7⟩ : ∃ lo7 hi7, TrI (Ks.erase s2) (va_up (va_up L q_49 (some q_1)) s2 none) (va_up R s2 none) (va_up (va_up P q_1 (P s2)) s2 none) rk lo7 hi7 rt := ⟨_, _, hT.del hs2K (fun t => (hKn.mem_erase_iff).trans and_comm) (c := some q_1) (Or.inr ⟨hRn, c_61⟩) (fun t ht => by (try simp only [va_up]); grind) (fun t ht => by (try simp only [va_up]); grind) (fun t ht => by (try simp only [va_up]); grind) (if_neg (by rw [c_92]; simp)).symm⟩
            refine (sw_ndDel F hs2K hKn ?_)
            show SW x [nd (xg x) (Ks.erase s2) ka2 va2 (va_up (va_up L q_49 (some q_1)) s2 none) (va_up R s2 none) (va_up (va_up P q_1 (P s2)) s2 none) cl, ob (xg x) q 14 [.null, va_rf vs, .null, va_rf rt, .int (jI (sz - 1)), .int (jI (mc + 1)), .null, .null, .null]] _ _ _ _ _
            have hcK : q_1 ∈ Ks.erase s2 := (hKn.mem_erase_iff).mpr ⟨fun e9 => by subst e9; first | exact hT.neL hs2K c_61 rfl | exact hT.neR hs2K c_77 rfl, by first | exact (hT.l hs2K c_61).1 | exact (hT.r hs2K c_77).1⟩
            refine sw_iconst (n := 153) F (1) (by decide) dJ10_deleteEntry_152 rfl ?_
            refine sw_icmp_ne (n := 156) F (by omega) (by decide) (tgt := 245) dJ10_deleteEntry_153 (by decide) rfl (fun c_153 => ?_) (fun c_153 => ?_)
            ·
              obtain ⟨rk8, lo8, hi8, hT8, hq8, hq9⟩ := hT.fin hT7 (fun t => (hKn.mem_erase_iff).trans and_comm) hx hs2K hrel
              refine sw_perm [1, 0] rfl [ob (xg x) q 14 [.null, va_rf vs, .null, va_rf rt, .int (jI (sz - 1)), .int (jI (mc + 1)), .null, .null, .null], nd (xg x) (Ks.erase s2) ka2 va2 (va_up (va_up L q_49 (some q_1)) s2 none) (va_up R s2 none) (va_up (va_up P q_1 (P s2)) s2 none) cl] rfl ?_
              exact sw_vret F rfl dJ10_deleteEntry_245 (by rw [hPo]; exact ⟨Ks.erase s2, ka2, va2, rk8, va_up (va_up L q_49 (some q_1)) s2 none, va_up R s2 none, va_up (va_up P q_1 (P s2)) s2 none, rt, lo8, hi8, cl, rfl, hT8, (by exact ⟨hKn.erase _, by have h8 := List.length_erase_of_mem hs2K; have h9 := List.length_pos_of_mem hs2K; omega⟩), (by (repeat' first | assumption | exact Or.inl rfl | exact Or.inr rfl | apply clO_b | refine cb_up ?_ ?_ | refine cb_cu ?_ ?_)), (by exact hq8), (by exact hq9), rfl⟩)
            ·
              refine sw_aload_n (n := 157) F 1 (some q) rfl rfl rfl dJ10_deleteEntry_156 rfl ?_
              refine sw_aload_n (n := 158) F 0 (some q_1) rfl rfl rfl dJ10_deleteEntry_157 rfl ?_
              refine sw_callV (n := 161) F (ct_J10_fixAfterDeletion (g := xg x) (l := xl x) (Ks.erase s2) ka2 va2 (va_up (va_up L q_49 (some q_1)) s2 none) (va_up R s2 none) (va_up (va_up P q_1 (P s2)) s2 none) cl q vs rt (sz - 1) (mc + 1) rk lo7 hi7 q_1 s2 hT7 hcK (by (repeat' first | assumption | exact Or.inl rfl | exact Or.inr rfl | apply clO_b | refine cb_up ?_ ?_ | refine cb_cu ?_ ?_)) (by exact fun h9 => absurd rfl ((hKn.mem_erase_iff).mp h9).1)) (rcv_ob F 1 rfl rfl) q3669 q3671 qs64 q114 q3672 nd_J10_fixAfterDeletion rfl (by decide) [1, 0] rfl [] rfl 0 0 ⟨by omega, by omega⟩ [] rfl (Nat.le_of_ble_eq_true rfl) dJ10_deleteEntry_158 rfl (fun _ _ h => h.elim) (fun v Ws h => ?_)
              obtain ⟨L1_62, R1_63, P1_64, rt1_65, lo1_66, hi1_67, cl1_68, rfl, hT1_69, hcb1_70, hlf1_71, rfl⟩ := h
              show SW x [ob (xg x) q 14 [.null, va_rf vs, .null, va_rf rt1_65, .int (jI (sz - 1)), .int (jI (mc + 1)), .null, .null, .null], nd (xg x) (Ks.erase s2) ka2 va2 L1_62 R1_63 P1_64 cl1_68] _ _ _ _ []
              refine sw_goto F (n := 245) dJ10_deleteEntry_161 (by decide) ?_
              obtain ⟨rk8, lo8, hi8, hT8, hq8, hq9⟩ := hT.fin hT1_69 (fun t => (hKn.mem_erase_iff).trans and_comm) hx hs2K hrel
              exact sw_vret F rfl dJ10_deleteEntry_245 (by rw [hPo]; exact ⟨Ks.erase s2, ka2, va2, rk8, L1_62, R1_63, P1_64, rt1_65, lo8, hi8, cl1_68, rfl, hT8, (by exact ⟨hKn.erase _, by have h8 := List.length_erase_of_mem hs2K; have h9 := List.length_pos_of_mem hs2K; omega⟩), (by (repeat' first | assumption | exact Or.inl rfl | exact Or.inr rfl | apply clO_b | refine cb_up ?_ ?_ | refine cb_cu ?_ ?_)), (by exact hq8), (by exact hq9), rfl⟩)
        ·
          refine sw_aload_n (n := 96) F 1 (some q) rfl rfl rfl dJ10_deleteEntry_95 rfl ?_
          refine sw_aload_n (n := 97) F 0 (some q_1) rfl rfl rfl dJ10_deleteEntry_96 rfl ?_
          refine sw_put (n := 100) F 1 rfl (k := 3) ⟨(RJ10, TJ10, 9), rfl, by decide, q288, in_J10, Or.inl rfl⟩ (tyJ10 3) ⟨(RJ10, TJ10, 9), rfl, rfl, tyJ10_ok 3 (by decide), nmJ10, tyJ10, tyJ10_ok⟩ rfl rfl (Nat.le_of_ble_eq_true rfl) rfl [nd (xg x) Ks ka2 va2 L R (va_up P q_1 (P s2)) cl, ob (xg x) q 14 [.null, va_rf vs, .null, .ref q_1, .int (jI (sz - 1)), .int (jI (mc + 1)), .null, .null, .null]] rfl dJ10_deleteEntry_97 rfl ?_
          refine sw_goto F (n := 133) dJ10_deleteEntry_100 (by decide) ?_
          refine sw_aload_n (n := 134) F 2 (some s2) rfl rfl rfl dJ10_deleteEntry_133 rfl ?_
          refine sw_aload_n (n := 135) F 2 (some s2) rfl rfl rfl dJ10_deleteEntry_134 rfl ?_
          refine sw_aload_n (n := 136) F 2 (some s2) rfl rfl rfl dJ10_deleteEntry_135 rfl ?_
          refine sw_null (n := 137) F dJ10_deleteEntry_136 rfl ?_
          refine sw_dup_x1 (n := 138) F rfl rfl dJ10_deleteEntry_137 rfl ?_
          refine sw_ndput (ka' := ka2) (va' := va2) (L' := L) (R' := R) (P' := (va_up (va_up P q_1 (P s2)) s2 none)) (cl' := cl) F hs2K (k := 4) ⟨(RJ41, TJ41, 6), rfl, by decide, q3152, in_J41, Or.inl rfl⟩ (tyJ41 4) ⟨(RJ41, TJ41, 6), rfl, rfl, tyJ41_ok 4 (by decide), nmJ41, tyJ41, tyJ41_ok⟩ rfl rfl (by decide) (by simp [flN, va_up, va_rf]) (fun t9 h9 => by simp [flN, va_up, h9]) dJ10_deleteEntry_138 rfl ?_
          show SW x [nd (xg x) Ks ka2 va2 L R (va_up (va_up P q_1 (P s2)) s2 none) cl, ob (xg x) q 14 [.null, va_rf vs, .null, .ref q_1, .int (jI (sz - 1)), .int (jI (mc + 1)), .null, .null, .null]] _ _ _ _ _
          refine sw_dup_x1 (n := 142) F rfl rfl dJ10_deleteEntry_141 rfl ?_
          refine sw_ndput (ka' := ka2) (va' := va2) (L' := L) (R' := (va_up R s2 none)) (P' := (va_up (va_up P q_1 (P s2)) s2 none)) (cl' := cl) F hs2K (k := 3) ⟨(RJ41, TJ41, 6), rfl, by decide, q3150, in_J41, Or.inl rfl⟩ (tyJ41 3) ⟨(RJ41, TJ41, 6), rfl, rfl, tyJ41_ok 3 (by decide), nmJ41, tyJ41, tyJ41_ok⟩ rfl rfl (by decide) (by simp [flN, va_up, va_rf]) (fun t9 h9 => by simp [flN, va_up, h9]) dJ10_deleteEntry_142 rfl ?_
          show SW x [nd (xg x) Ks ka2 va2 L (va_up R s2 none) (va_up (va_up P q_1 (P s2)) s2 none) cl, ob (xg x) q 14 [.null, va_rf vs, .null, .ref q_1, .int (jI (sz - 1)), .int (jI (mc + 1)), .null, .null, .null]] _ _ _ _ _
          refine sw_ndput (ka' := ka2) (va' := va2) (L' := (va_up L s2 none)) (R' := (va_up R s2 none)) (P' := (va_up (va_up P q_1 (P s2)) s2 none)) (cl' := cl) F hs2K (k := 2) ⟨(RJ41, TJ41, 6), rfl, by decide, q3149, in_J41, Or.inl rfl⟩ (tyJ41 2) ⟨(RJ41, TJ41, 6), rfl, rfl, tyJ41_ok 2 (by decide), nmJ41, tyJ41, tyJ41_ok⟩ rfl rfl (by decide) (by simp [flN, va_up, va_rf]) (fun t9 h9 => by simp [flN, va_up, h9]) dJ10_deleteEntry_145 rfl ?_
          show SW x [nd (xg x) Ks ka2 va2 (va_up L s2 none) (va_up R s2 none) (va_up (va_up P q_1 (P s2)) s2 none) cl, ob (xg x) q 14 [.null, va_rf vs, .null, .ref q_1, .int (jI (sz - 1)), .int (jI (mc + 1)), .null, .null, .null]] _ _ _ _ _
          refine sw_aload_n (n := 149) F 2 (some s2) rfl rfl rfl dJ10_deleteEntry_148 rfl ?_
          refine sw_getK (n := 152) F (nd_hO 0 rfl hs2K) (k := 5) ⟨(RJ41, TJ41, 6), rfl, by decide, q3154, in_J41, Or.inl rfl⟩ (v := .int (jI (cl s2))) rfl dJ10_deleteEntry_149 rfl ?_
          have hyb_72 : cl s2 = 0 ∨ cl s2 = 1 := (show ∀ t, cl t = 0 ∨ cl t = 1 by (repeat' first | assumption | exact Or.inl rfl | exact Or.inr rfl | apply clO_b | refine cb_up ?_ ?_ | refine cb_cu ?_ ?_)) _
          obtain ⟨lo7, hi7, hT7⟩ : ∃ lo7 hi7, TrI (Ks.erase s2) (va_up L s2 none) (va_up R s2 none) (va_up (va_up P q_1 (P s2)) s2 none) rk lo7 hi7 (some q_1) := ⟨_, _, hT.del hs2K (fun t => (hKn.mem_erase_iff).trans and_comm) (c := some q_1) (Or.inr ⟨hRn, c_61⟩) (fun t ht => by (try simp only [va_up]); grind) (fun t ht => by (try simp only [va_up]); grind) (fun t ht => by (try simp only [va_up]); grind) (if_pos c_92).symm⟩
          refine (sw_ndDel F hs2K hKn ?_)
          show SW x [nd (xg x) (Ks.erase s2) ka2 va2 (va_up L s2 none) (va_up R s2 none) (va_up (va_up P q_1 (P s2)) s2 none) cl, ob (xg x) q 14 [.null, va_rf vs, .null, .ref q_1, .int (jI (sz - 1)), .int (jI (mc + 1)), .null, .null, .null]] _ _ _ _ _
          have hcK : q_1 ∈ Ks.erase s2 := (hKn.mem_erase_iff).mpr ⟨fun e9 => by subst e9; first | exact hT.neL hs2K c_61 rfl | exact hT.neR hs2K c_77 rfl, by first | exact (hT.l hs2K c_61).1 | exact (hT.r hs2K c_77).1⟩
          refine sw_iconst (n := 153) F (1) (by decide) dJ10_deleteEntry_152 rfl ?_
          refine sw_icmp_ne (n := 156) F (by omega) (by decide) (tgt := 245) dJ10_deleteEntry_153 (by decide) rfl (fun c_153 => ?_) (fun c_153 => ?_)
          ·
            obtain ⟨rk8, lo8, hi8, hT8, hq8, hq9⟩ := hT.fin hT7 (fun t => (hKn.mem_erase_iff).trans and_comm) hx hs2K hrel
            refine sw_perm [1, 0] rfl [ob (xg x) q 14 [.null, va_rf vs, .null, .ref q_1, .int (jI (sz - 1)), .int (jI (mc + 1)), .null, .null, .null], nd (xg x) (Ks.erase s2) ka2 va2 (va_up L s2 none) (va_up R s2 none) (va_up (va_up P q_1 (P s2)) s2 none) cl] rfl ?_
            exact sw_vret F rfl dJ10_deleteEntry_245 (by rw [hPo]; exact ⟨Ks.erase s2, ka2, va2, rk8, va_up L s2 none, va_up R s2 none, va_up (va_up P q_1 (P s2)) s2 none, some q_1, lo8, hi8, cl, rfl, hT8, (by exact ⟨hKn.erase _, by have h8 := List.length_erase_of_mem hs2K; have h9 := List.length_pos_of_mem hs2K; omega⟩), (by (repeat' first | assumption | exact Or.inl rfl | exact Or.inr rfl | apply clO_b | refine cb_up ?_ ?_ | refine cb_cu ?_ ?_)), (by exact hq8), (by exact hq9), (by rfl)⟩)
          ·
            refine sw_aload_n (n := 157) F 1 (some q) rfl rfl rfl dJ10_deleteEntry_156 rfl ?_
            refine sw_aload_n (n := 158) F 0 (some q_1) rfl rfl rfl dJ10_deleteEntry_157 rfl ?_
            refine sw_callV (n := 161) F (ct_J10_fixAfterDeletion (g := xg x) (l := xl x) (Ks.erase s2) ka2 va2 (va_up L s2 none) (va_up R s2 none) (va_up (va_up P q_1 (P s2)) s2 none) cl q vs (some q_1) (sz - 1) (mc + 1) rk lo7 hi7 q_1 s2 hT7 hcK (by (repeat' first | assumption | exact Or.inl rfl | exact Or.inr rfl | apply clO_b | refine cb_up ?_ ?_ | refine cb_cu ?_ ?_)) (by exact fun h9 => absurd rfl ((hKn.mem_erase_iff).mp h9).1)) (rcv_ob F 1 rfl rfl) q3669 q3671 qs64 q114 q3672 nd_J10_fixAfterDeletion rfl (by decide) [1, 0] rfl [] rfl 0 0 ⟨by omega, by omega⟩ [] rfl (Nat.le_of_ble_eq_true rfl) dJ10_deleteEntry_158 rfl (fun _ _ h => h.elim) (fun v Ws h => ?_)
            obtain ⟨L1_73, R1_74, P1_75, rt1_76, lo1_77, hi1_78, cl1_79, rfl, hT1_80, hcb1_81, hlf1_82, rfl⟩ := h
            show SW x [ob (xg x) q 14 [.null, va_rf vs, .null, va_rf rt1_76, .int (jI (sz - 1)), .int (jI (mc + 1)), .null, .null, .null], nd (xg x) (Ks.erase s2) ka2 va2 L1_73 R1_74 P1_75 cl1_79] _ _ _ _ []
            refine sw_goto F (n := 245) dJ10_deleteEntry_161 (by decide) ?_
            obtain ⟨rk8, lo8, hi8, hT8, hq8, hq9⟩ := hT.fin hT1_80 (fun t => (hKn.mem_erase_iff).trans and_comm) hx hs2K hrel
            exact sw_vret F rfl dJ10_deleteEntry_245 (by rw [hPo]; exact ⟨Ks.erase s2, ka2, va2, rk8, L1_73, R1_74, P1_75, rt1_76, lo8, hi8, cl1_79, rfl, hT8, (by exact ⟨hKn.erase _, by have h8 := List.length_erase_of_mem hs2K; have h9 := List.length_pos_of_mem hs2K; omega⟩), (by (repeat' first | assumption | exact Or.inl rfl | exact Or.inr rfl | apply clO_b | refine cb_up ?_ ?_ | refine cb_cu ?_ ?_)), (by exact hq8), (by exact hq9), rfl⟩)
  refine sw_aload_n (n := 21) F 1 (some nx) rfl rfl rfl dJ10_deleteEntry_20 rfl ?_
  refine sw_getK (n := 24) F (nd_hO 1 rfl hx) (k := 2) ⟨(RJ41, TJ41, 6), rfl, by decide, q3149, in_J41, Or.inl rfl⟩ (v := va_rf (L nx)) rfl dJ10_deleteEntry_21 rfl ?_
  refine sw_ifnull (n := 27) F (o := (L nx)) rfl (tgt := 57) dJ10_deleteEntry_24 (by decide) rfl (fun c_24 => ?_) (fun q_83 c_24 => ?_)
  ·
    exact K57 nx ka va hx (by first | exact Or.inl c_24 | exact Or.inr c_31) (by exact Or.inl ⟨rfl, rfl, rfl⟩)
  ·
    refine sw_aload_n (n := 28) F 1 (some nx) rfl rfl rfl dJ10_deleteEntry_27 rfl ?_
    refine sw_getK (n := 31) F (nd_hO 1 rfl hx) (k := 3) ⟨(RJ41, TJ41, 6), rfl, by decide, q3150, in_J41, Or.inl rfl⟩ (v := va_rf (R nx)) rfl dJ10_deleteEntry_28 rfl ?_
    refine sw_ifnull (n := 34) F (o := (R nx)) rfl (tgt := 57) dJ10_deleteEntry_31 (by decide) rfl (fun c_31 => ?_) (fun q_84 c_31 => ?_)
    ·
      exact K57 nx ka va hx (by first | exact Or.inl c_24 | exact Or.inr c_31) (by exact Or.inl ⟨rfl, rfl, rfl⟩)
    ·
      refine sw_aload_n (n := 35) F 1 (some nx) rfl rfl rfl dJ10_deleteEntry_34 rfl ?_
      refine sw_callS (n := 38) F (ct_J10_successor (g := xg x) (l := xl x) Ks ka va L R P cl rk lo hi nx rt hT hx) q3668 q1019 q114 q1020 nd_J10_successor rfl (by decide) [1, 0] rfl [ob (xg x) q 14 [.null, va_rf vs, .null, va_rf rt, .int (jI (sz - 1)), .int (jI (mc + 1)), .null, .null, .null]] rfl 0 0 ⟨by omega, by omega⟩ [] rfl (Nat.le_of_ble_eq_true rfl) dJ10_deleteEntry_35 rfl (fun _ _ h => h.elim) (fun v Ws h => ?_)
      obtain ⟨o1_85, rfl, hs_86, hl_87, rfl⟩ := h
      show SW x [nd (xg x) Ks ka va L R P cl, ob (xg x) q 14 [.null, va_rf vs, .null, va_rf rt, .int (jI (sz - 1)), .int (jI (mc + 1)), .null, .null, .null]] _ _ _ _ [va_rf o1_85]
      refine sw_astore_n (n := 39) F o1_85 (L2 := [(2, va_rf o1_85), (0, .ref q), (1, .ref nx)]) (by first | rfl | simp [va_rf_cat]) rfl (by decide) rfl dJ10_deleteEntry_38 rfl ?_
      obtain ⟨s1, hs1⟩ := (show ∃ s1, o1_85 = some s1 by cases e9 : o1_85 with | some s1 => exact ⟨s1, rfl⟩ | none => (have h1 := hs_86.2 e9; have h2 := hT.r hx c_31; have h3 := hT.rng h2.1; have h4 := h1 _ h2.1; omega))
      obtain ⟨hs1K, hlt, hmin⟩ := hs_86.1 _ hs1
      have hs1L : L s1 = none := hl_87 (by rw [c_31]; simp) _ hs1
      have hs1x : s1 ≠ nx := fun e9 => by subst e9; omega
      refine SW.cast (L' := [(2, .ref s1), (0, .ref q), (1, .ref nx)]) (st' := []) ?_ rfl (by simp only [hs1]; rfl) (by first | rfl | (simp only [hs1]; rfl))
      refine sw_aload_n (n := 40) F 2 (some nx) rfl rfl rfl dJ10_deleteEntry_39 rfl ?_
      refine sw_aload_n (n := 41) F 0 (some s1) rfl rfl rfl dJ10_deleteEntry_40 rfl ?_
      refine sw_getK (n := 44) F (nd_hO 0 rfl hs1K) (k := 0) ⟨(RJ41, TJ41, 6), rfl, by decide, q3145, in_J41, Or.inl rfl⟩ (v := .ref (ka s1)) rfl dJ10_deleteEntry_41 rfl ?_
      refine sw_ndput (ka' := (va_up ka nx (ka s1))) (va' := va) (L' := L) (R' := R) (P' := P) (cl' := cl) F hx (k := 0) ⟨(RJ41, TJ41, 6), rfl, by decide, q3145, in_J41, Or.inl rfl⟩ (tyJ41 0) ⟨(RJ41, TJ41, 6), rfl, rfl, tyJ41_ok 0 (by decide), nmJ41, tyJ41, tyJ41_ok⟩ rfl rfl (by decide) (by simp [flN, va_up, va_rf]) (fun t9 h9 => by simp [flN, va_up, h9]) dJ10_deleteEntry_44 rfl ?_
      show SW x [nd (xg x) Ks (va_up ka nx (ka s1)) va L R P cl, ob (xg x) q 14 [.null, va_rf vs, .null, va_rf rt, .int (jI (sz - 1)), .int (jI (mc + 1)), .null, .null, .null]] _ _ _ _ _
      refine sw_aload_n (n := 48) F 2 (some nx) rfl rfl rfl dJ10_deleteEntry_47 rfl ?_
      refine sw_aload_n (n := 49) F 0 (some s1) rfl rfl rfl dJ10_deleteEntry_48 rfl ?_
      refine sw_getK (n := 52) F (nd_hO 0 rfl hs1K) (k := 1) ⟨(RJ41, TJ41, 6), rfl, by decide, q3148, in_J41, Or.inl rfl⟩ (v := .ref (va s1)) rfl dJ10_deleteEntry_49 rfl ?_
      refine sw_ndput (ka' := (va_up ka nx (ka s1))) (va' := (va_up va nx (va s1))) (L' := L) (R' := R) (P' := P) (cl' := cl) F hx (k := 1) ⟨(RJ41, TJ41, 6), rfl, by decide, q3148, in_J41, Or.inl rfl⟩ (tyJ41 1) ⟨(RJ41, TJ41, 6), rfl, rfl, tyJ41_ok 1 (by decide), nmJ41, tyJ41, tyJ41_ok⟩ rfl rfl (by decide) (by simp [flN, va_up, va_rf]) (fun t9 h9 => by simp [flN, va_up, h9]) dJ10_deleteEntry_52 rfl ?_
      show SW x [nd (xg x) Ks (va_up ka nx (ka s1)) (va_up va nx (va s1)) L R P cl, ob (xg x) q 14 [.null, va_rf vs, .null, va_rf rt, .int (jI (sz - 1)), .int (jI (mc + 1)), .null, .null, .null]] _ _ _ _ _
      refine sw_aload_n (n := 56) F 0 (some s1) rfl rfl rfl dJ10_deleteEntry_55 rfl ?_
      refine sw_astore_n (n := 57) F (some s1) (L2 := [(1, .ref s1), (2, .ref s1), (0, .ref q)]) rfl rfl (by decide) rfl dJ10_deleteEntry_56 rfl ?_
      refine sw_perm [1, 0] rfl [ob (xg x) q 14 [.null, va_rf vs, .null, va_rf rt, .int (jI (sz - 1)), .int (jI (mc + 1)), .null, .null, .null], nd (xg x) Ks (va_up ka nx (ka s1)) (va_up va nx (va s1)) L R P cl] rfl ?_
      refine sw_loc [2, 0] (L2 := [(0, .ref q), (1, .ref s1)]) rfl ?_
      exact K57 s1 (va_up ka nx (ka s1)) (va_up va nx (va s1)) hs1K (by exact Or.inl hs1L) (by exact Or.inr ⟨hs1x, ⟨hlt, hmin⟩, fun t => by unfold va_up; rfl, fun t => by unfold va_up; rfl⟩)
theorem nd_J10_remove : yJ10_remove.cls ≠ "java/lang/invoke/MethodHandle" ∧ yJ10_remove.cls ≠ "java/lang/invoke/VarHandle" ∧ (parseMethodDescriptor yJ10_remove.desc).map (fun d => d.parameters.length) = some 1 := by decide +kernel
set_option maxRecDepth 100000 in
set_option maxHeartbeats 16000000 in
theorem ct_J10_remove {g : GG} {l : Launch} (M : Nat → Option PV) (q : Nat) (vs : Option Nat) (mc : Int) (n : Nat) (f : Int → Option Nat) (k : Nat) (z : Int) (hk : at_ g M k (vN z)) (hz : -2147483648 ≤ z ∧ z ≤ 2147483647) (hn : n < 1000) : Ct g l yJ10_remove (ws_ yJ10_remove cJ10_remove 4 (Option.some (Jvm.ClassFile.FieldType.object "java/lang/Object"))) 5 99 0 0 [.ref q, .ref k] [tmap g M q vs mc n f, pl g M] (fun v9 Ws9 => ∃ mc1 : Int, ∃ n1 : Nat, v9 = some (va_rf (f z)) ∧ ((f z = none ∧ n1 = n) ∨ (f z ≠ none ∧ n1 + 1 = n)) ∧ Ws9 = [tmap g M q vs mc1 n1 (mU f z none), pl g M]) (nox) := by
  refine Ct.of (cc := cJ10_remove) (nL := 4) (ret := (Option.some (Jvm.ClassFile.FieldType.object "java/lang/Object"))) (by decide) rfl (Nat.le_of_ble_eq_true rfl) ?_
  intro x hg hl hPo hPx hmc hms F
  subst hg; subst hl
  refine SW.cast (L' := [(0, .ref q), (1, .ref k)]) ?_ rfl rfl rfl
  refine sw_tmOpen (fun rt Ks ka va L R P cl rk lo hi hT hND hcb hka hmf => ?_)
  refine sw_aload_n (n := 1) F 0 (some q) rfl rfl rfl dJ10_remove_0 rfl ?_
  refine sw_aload_n (n := 2) F 1 (some k) rfl rfl rfl dJ10_remove_1 rfl ?_
  refine sw_callV (n := 5) F (ct_J10_getEntry (g := xg x) (l := xl x) M Ks ka va L R P cl q vs rt (↑n) mc rk lo hi k z hT hka hk hz) (rcv_ob F 0 rfl rfl) q3216 q3217 q3218 q114 q3219 nd_J10_getEntry rfl (by decide) [0, 1, 3, 2] (perm_ok _ 4 (by decide +kernel) rfl) [vO (xg x) vs q] rfl 0 0 ⟨by omega, by omega⟩ [] rfl (Nat.le_of_ble_eq_true rfl) dJ10_remove_2 rfl (fun _ _ h => h.elim) (fun v Ws h => ?_)
  obtain ⟨o1_1, rfl, hs_2, rfl⟩ := h
  show SW x [ob (xg x) q 14 [.null, va_rf vs, .null, va_rf rt, .int (jI (↑n)), .int (jI mc), .null, .null, .null], nd (xg x) Ks ka va L R P cl, pl (xg x) M, vO (xg x) vs q] _ _ _ _ [va_rf o1_1]
  refine sw_astore_n (n := 6) F o1_1 (L2 := [(2, va_rf o1_1), (0, .ref q), (1, .ref k)]) (by first | rfl | simp [va_rf_cat]) rfl (by decide) rfl dJ10_remove_5 rfl ?_
  refine sw_aload_n (n := 7) F 0 o1_1 rfl rfl rfl dJ10_remove_6 rfl ?_
  refine sw_ifnonnull (n := 10) F (o := o1_1) rfl (tgt := 12) dJ10_remove_7 (by decide) rfl (fun q_3 c_7 => ?_) (fun c_7 => ?_)
  ·
    refine SW.cast (Ps' := _) (L' := [(2, .ref q_3), (0, .ref q), (1, .ref k)]) (st' := []) ?_ rfl (by rw [c_7]; rfl) (by first | rfl | rw [c_7]; rfl)
    have hmt : q_3 ∈ Ks := (hs_2.1 _ c_7).1
    have hfz : f z = some (va q_3) := (hs_2.1 _ c_7).2 ▸ hmf.sm hmt
    have hzr : rk q_3 = z := (hs_2.1 _ c_7).2
    have hpos := List.length_pos_of_mem hmt
    have hl9 := hND.2
    refine sw_aload_n (n := 13) F 0 (some q_3) rfl rfl rfl dJ10_remove_12 rfl ?_
    refine sw_getK (n := 16) F (nd_hO 1 rfl hmt) (k := 1) ⟨(RJ41, TJ41, 6), rfl, by decide, q3148, in_J41, Or.inl rfl⟩ (v := .ref (va q_3)) rfl dJ10_remove_13 rfl ?_
    refine sw_astore_n (n := 17) F (some (va q_3)) (L2 := [(3, .ref (va q_3)), (2, .ref q_3), (0, .ref q), (1, .ref k)]) rfl rfl (by decide) rfl dJ10_remove_16 rfl ?_
    refine sw_aload_n (n := 18) F 2 (some q) rfl rfl rfl dJ10_remove_17 rfl ?_
    refine sw_aload_n (n := 19) F 1 (some q_3) rfl rfl rfl dJ10_remove_18 rfl ?_
    refine sw_callV (n := 22) F (ct_J10_deleteEntry (g := xg x) (l := xl x) Ks ka va L R P cl q vs rt (↑n) mc rk lo hi q_3 hT (by exact hND.1) (by (repeat' first | assumption | exact Or.inl rfl | exact Or.inr rfl | apply clO_b | refine cb_up ?_ ?_ | refine cb_cu ?_ ?_)) hmt (by omega)) (rcv_ob F 0 rfl rfl) q3664 q3666 qs63 q114 q3667 nd_J10_deleteEntry rfl (by decide) [0, 1, 2, 3] (perm_ok _ 4 (by decide +kernel) rfl) [pl (xg x) M, vO (xg x) vs q] rfl 0 0 ⟨by omega, by omega⟩ [] rfl (Nat.le_of_ble_eq_true rfl) dJ10_remove_19 rfl (fun _ _ h => h.elim) (fun v Ws h => ?_)
    obtain ⟨Kt_4, ka1_5, va1_6, rk1_7, L1_8, R1_9, P1_10, rt1_11, lo1_12, hi1_13, cl1_14, rfl, hT1_15, hK1_16, hcb1_17, hq1_18, hq2_19, rfl⟩ := h
    show SW x [ob (xg x) q 14 [.null, va_rf vs, .null, va_rf rt1_11, .int (jI ((↑n) - 1)), .int (jI (mc + 1)), .null, .null, .null], nd (xg x) Kt_4 ka1_5 va1_6 L1_8 R1_9 P1_10 cl1_14, pl (xg x) M, vO (xg x) vs q] _ _ _ _ []
    rw [show ((n : Nat) : Int) - 1 = ((n - 1 : Nat) : Int) by omega]
    refine sw_perm [0, 1, 3, 2] (perm_ok _ 4 (by decide +kernel) rfl) [ob (xg x) q 14 [.null, va_rf vs, .null, va_rf rt1_11, .int (jI (↑(n - 1))), .int (jI (mc + 1)), .null, .null, .null], nd (xg x) Kt_4 ka1_5 va1_6 L1_8 R1_9 P1_10 cl1_14, vO (xg x) vs q, pl (xg x) M] rfl ?_; refine sw_tmClose (n := n - 1) (f := mU f z none) (M := M) hT1_15 ⟨hK1_16.1, by have h8 := hK1_16.2; omega⟩ (by (repeat' first | assumption | exact Or.inl rfl | exact Or.inr rfl | apply clO_b | refine cb_up ?_ ?_ | refine cb_cu ?_ ?_)) (fun t ht => by obtain ⟨u, e4, e5, e1, e2, e3⟩ := hq1_18 t ht; rw [e1, e2]; exact hka u e4) (hzr ▸ hmf.del hT hmt hq1_18 hq2_19) ?_
    refine sw_aload_n (n := 23) F 0 (some (va q_3)) rfl rfl rfl dJ10_remove_22 rfl ?_
    exact sw_aret F (some (va q_3)) _ rfl rfl (by first | exact Or.inl ⟨_, rfl⟩ | exact Or.inr ⟨_, rfl⟩) dJ10_remove_23 (by rw [hPo]; exact ⟨mc + 1, n - 1, (by rw [hfz]; rfl), (by first | exact Or.inl ⟨hfz, rfl⟩ | exact Or.inr ⟨by rw [hfz]; simp, by omega⟩), rfl⟩)
  ·
    refine SW.cast (Ps' := _) (L' := [(2, .null), (0, .ref q), (1, .ref k)]) (st' := []) ?_ rfl (by rw [c_7]; rfl) (by first | rfl | rw [c_7]; rfl)
    have hfz : f z = none := hmf.nn (hs_2.2 c_7)
    refine sw_perm [0, 1, 3, 2] (perm_ok _ 4 (by decide +kernel) rfl) [ob (xg x) q 14 [.null, va_rf vs, .null, va_rf rt, .int (jI (↑n)), .int (jI mc), .null, .null, .null], nd (xg x) Ks ka va L R P cl, vO (xg x) vs q, pl (xg x) M] rfl ?_; refine sw_tmClose (n := n) (f := mU f z none) (M := M) hT hND (by (repeat' first | assumption | exact Or.inl rfl | exact Or.inr rfl | apply clO_b | refine cb_up ?_ ?_ | refine cb_cu ?_ ?_)) hka (by rw [mU_no hfz]; exact hmf) ?_
    refine sw_null (n := 11) F dJ10_remove_10 rfl ?_
    exact sw_aret F none _ rfl rfl (by first | exact Or.inl ⟨_, rfl⟩ | exact Or.inr ⟨_, rfl⟩) dJ10_remove_11 (by rw [hPo]; exact ⟨mc, n, (by rw [hfz]; rfl), (by first | exact Or.inl ⟨hfz, rfl⟩ | exact Or.inr ⟨by rw [hfz]; simp, by omega⟩), rfl⟩)
theorem nd_J10_firstKey : yJ10_firstKey.cls ≠ "java/lang/invoke/MethodHandle" ∧ yJ10_firstKey.cls ≠ "java/lang/invoke/VarHandle" ∧ (parseMethodDescriptor yJ10_firstKey.desc).map (fun d => d.parameters.length) = some 0 := by decide +kernel
set_option maxRecDepth 100000 in
set_option maxHeartbeats 16000000 in
theorem ct_J10_firstKey {g : GG} {l : Launch} (M : Nat → Option PV) (q : Nat) (vs : Option Nat) (mc : Int) (n : Nat) (f : Int → Option Nat) (hne : 0 < n) : Ct g l yJ10_firstKey (ws_ yJ10_firstKey cJ10_firstKey 1 (Option.some (Jvm.ClassFile.FieldType.object "java/lang/Object"))) 2 33 0 0 [.ref q] [tmap g M q vs mc n f, pl g M] (fun v9 Ws9 => ∃ r1 : Nat, ∃ y : Int, v9 = some (.ref r1) ∧ (hiK f (-2147483649) (some r1) y) ∧ (at_ g M r1 (vN y)) ∧ (-2147483648 ≤ y ∧ y ≤ 2147483647) ∧ Ws9 = [tmap g M q vs mc n f, pl g M]) (nox) := by
  refine Ct.of (cc := cJ10_firstKey) (nL := 1) (ret := (Option.some (Jvm.ClassFile.FieldType.object "java/lang/Object"))) (by decide) rfl (Nat.le_of_ble_eq_true rfl) ?_
  intro x hg hl hPo hPx hmc hms F
  subst hg; subst hl
  refine SW.cast (L' := [(0, .ref q)]) ?_ rfl rfl rfl
  refine sw_tmOpen (fun rt Ks ka va L R P cl rk lo hi hT hND hcb hka hmf => ?_)
  refine sw_aload_n (n := 1) F 0 (some q) rfl rfl rfl dJ10_firstKey_0 rfl ?_
  refine sw_callV (n := 4) F (ct_J10_getFirstEntry (g := xg x) (l := xl x) Ks ka va L R P cl q vs rt (↑n) mc rk lo hi hT) (rcv_ob F 0 rfl rfl) q3493 q888 q889 q114 q890 nd_J10_getFirstEntry rfl (by decide) [0, 1, 2, 3] (perm_ok _ 4 (by decide +kernel) rfl) [vO (xg x) vs q, pl (xg x) M] rfl 0 0 ⟨by omega, by omega⟩ [] rfl (Nat.le_of_ble_eq_true rfl) dJ10_firstKey_1 rfl (fun _ _ h => h.elim) (fun v Ws h => ?_)
  obtain ⟨o1_1, rfl, hs_2, rfl⟩ := h
  show SW x [ob (xg x) q 14 [.null, va_rf vs, .null, va_rf rt, .int (jI (↑n)), .int (jI mc), .null, .null, .null], nd (xg x) Ks ka va L R P cl, vO (xg x) vs q, pl (xg x) M] _ _ _ _ [va_rf o1_1]
  obtain ⟨t, ht⟩ := (show ∃ t, o1_1 = some t by cases e9 : o1_1 with | some t => exact ⟨t, rfl⟩ | none => (exfalso; have h1 := hs_2.2 e9; have h2 := hND.2; cases h3 : Ks with | nil => rw [h3] at h2; simp at h2; omega | cons a b => (have h4 := h1 a (by rw [h3]; exact List.mem_cons_self ..); have h5 := hT.rng (x := a) (by rw [h3]; exact List.mem_cons_self ..); omega)))
  have htK : t ∈ Ks := (hs_2.1 _ ht).1
  have hkt : at_ (xg x) M (ka t) (vN (rk t)) := hka _ htK
  refine SW.cast (st' := [.ref t]) ?_ rfl rfl (congrArg (fun o9 => va_rf o9 :: _) ht)
  refine sw_callS (n := 7) F (ct_J10_key (g := xg x) (l := xl x) Ks ka va L R P cl t htK) q3494 q3495 q114 q3496 nd_J10_key rfl (by decide) [1, 0, 2, 3] (perm_ok _ 4 (by decide +kernel) rfl) [ob (xg x) q 14 [.null, va_rf vs, .null, va_rf rt, .int (jI (↑n)), .int (jI mc), .null, .null, .null], vO (xg x) vs q, pl (xg x) M] rfl 0 0 ⟨by omega, by omega⟩ [] rfl (Nat.le_of_ble_eq_true rfl) dJ10_firstKey_4 rfl (fun _ _ h => h.elim) (fun v Ws h => ?_)
  obtain ⟨rfl, rfl⟩ := h
  show SW x [nd (xg x) Ks ka va L R P cl, ob (xg x) q 14 [.null, va_rf vs, .null, va_rf rt, .int (jI (↑n)), .int (jI mc), .null, .null, .null], vO (xg x) vs q, pl (xg x) M] _ _ _ _ [.ref (ka t)]
  refine sw_perm [1, 0, 2, 3] (perm_ok _ 4 (by decide +kernel) rfl) [ob (xg x) q 14 [.null, va_rf vs, .null, va_rf rt, .int (jI (↑n)), .int (jI mc), .null, .null, .null], nd (xg x) Ks ka va L R P cl, vO (xg x) vs q, pl (xg x) M] rfl ?_; refine sw_tmClose (n := n) (f := f) (M := M) hT hND (by (repeat' first | assumption | exact Or.inl rfl | exact Or.inr rfl | apply clO_b | refine cb_up ?_ ?_ | refine cb_cu ?_ ?_)) hka hmf ?_
  exact sw_aret F (some (ka t)) _ rfl rfl (by first | exact Or.inl ⟨_, rfl⟩ | exact Or.inr ⟨_, rfl⟩) dJ10_firstKey_7 (by rw [hPo]; exact ⟨ka t, rk t, rfl, (by have h8 := hmf.hi (ka := ka) hs_2; rw [ht] at h8; exact h8), hkt, (by have h8 := hT.rng htK; omega), rfl⟩)
theorem nd_J10_higherKey : yJ10_higherKey.cls ≠ "java/lang/invoke/MethodHandle" ∧ yJ10_higherKey.cls ≠ "java/lang/invoke/VarHandle" ∧ (parseMethodDescriptor yJ10_higherKey.desc).map (fun d => d.parameters.length) = some 1 := by decide +kernel
set_option maxRecDepth 100000 in
set_option maxHeartbeats 16000000 in
theorem ct_J10_higherKey {g : GG} {l : Launch} (M : Nat → Option PV) (q : Nat) (vs : Option Nat) (mc : Int) (n : Nat) (f : Int → Option Nat) (k : Nat) (z : Int) (hk : at_ g M k (vN z)) (hz : -2147483648 ≤ z ∧ z ≤ 2147483647) : Ct g l yJ10_higherKey (ws_ yJ10_higherKey cJ10_higherKey 2 (Option.some (Jvm.ClassFile.FieldType.object "java/lang/Object"))) 6 122 0 0 [.ref q, .ref k] [tmap g M q vs mc n f, pl g M] (fun v9 Ws9 => ∃ o1 : Option Nat, ∃ y : Int, v9 = some (va_rf o1) ∧ (hiK f z o1 y) ∧ (∀ a9, o1 = some a9 → at_ g M a9 (vN y)) ∧ (-2147483648 ≤ y ∧ y ≤ 2147483647) ∧ Ws9 = [tmap g M q vs mc n f, pl g M]) (nox) := by
  refine Ct.of (cc := cJ10_higherKey) (nL := 2) (ret := (Option.some (Jvm.ClassFile.FieldType.object "java/lang/Object"))) (by decide) rfl (Nat.le_of_ble_eq_true rfl) ?_
  intro x hg hl hPo hPx hmc hms F
  subst hg; subst hl
  refine SW.cast (L' := [(0, .ref q), (1, .ref k)]) ?_ rfl rfl rfl
  refine sw_tmOpen (fun rt Ks ka va L R P cl rk lo hi hT hND hcb hka hmf => ?_)
  refine sw_aload_n (n := 1) F 0 (some q) rfl rfl rfl dJ10_higherKey_0 rfl ?_
  refine sw_aload_n (n := 2) F 1 (some k) rfl rfl rfl dJ10_higherKey_1 rfl ?_
  refine sw_callV (n := 5) F (ct_J10_getHigherEntry (g := xg x) (l := xl x) M Ks ka va L R P cl q vs rt (↑n) mc rk lo hi k z hT hka hk hz) (rcv_ob F 0 rfl rfl) q3507 q3508 q3509 q114 q3510 nd_J10_getHigherEntry rfl (by decide) [0, 1, 3, 2] (perm_ok _ 4 (by decide +kernel) rfl) [vO (xg x) vs q] rfl 0 0 ⟨by omega, by omega⟩ [] rfl (Nat.le_of_ble_eq_true rfl) dJ10_higherKey_2 rfl (fun _ _ h => h.elim) (fun v Ws h => ?_)
  obtain ⟨o1_1, rfl, hs_2, rfl⟩ := h
  show SW x [ob (xg x) q 14 [.null, va_rf vs, .null, va_rf rt, .int (jI (↑n)), .int (jI mc), .null, .null, .null], nd (xg x) Ks ka va L R P cl, pl (xg x) M, vO (xg x) vs q] _ _ _ _ [va_rf o1_1]
  have hmm := fun x9 e9 => (hs_2.1 x9 e9).1
  refine sw_callS (n := 8) F (ct_J10_keyOrNull (g := xg x) (l := xl x) Ks ka va L R P cl o1_1 (by exact hmm)) q3274 q3275 q114 q3276 nd_J10_keyOrNull rfl (by decide) [1, 0, 2, 3] (perm_ok _ 4 (by decide +kernel) rfl) [ob (xg x) q 14 [.null, va_rf vs, .null, va_rf rt, .int (jI (↑n)), .int (jI mc), .null, .null, .null], pl (xg x) M, vO (xg x) vs q] rfl 0 0 ⟨by omega, by omega⟩ [] rfl (Nat.le_of_ble_eq_true rfl) dJ10_higherKey_5 rfl (fun _ _ h => h.elim) (fun v Ws h => ?_)
  obtain ⟨rfl, rfl⟩ := h
  show SW x [nd (xg x) Ks ka va L R P cl, ob (xg x) q 14 [.null, va_rf vs, .null, va_rf rt, .int (jI (↑n)), .int (jI mc), .null, .null, .null], pl (xg x) M, vO (xg x) vs q] _ _ _ _ [va_rf (o1_1.map ka)]
  refine sw_perm [1, 0, 3, 2] (perm_ok _ 4 (by decide +kernel) rfl) [ob (xg x) q 14 [.null, va_rf vs, .null, va_rf rt, .int (jI (↑n)), .int (jI mc), .null, .null, .null], nd (xg x) Ks ka va L R P cl, vO (xg x) vs q, pl (xg x) M] rfl ?_; refine sw_tmClose (n := n) (f := f) (M := M) hT hND (by (repeat' first | assumption | exact Or.inl rfl | exact Or.inr rfl | apply clO_b | refine cb_up ?_ ?_ | refine cb_cu ?_ ?_)) hka hmf ?_
  exact sw_aret F (o1_1.map ka) _ rfl rfl (by first | exact Or.inl ⟨_, rfl⟩ | exact Or.inr ⟨_, rfl⟩) dJ10_higherKey_8 (by rw [hPo]; exact ⟨o1_1.map ka, rkO rk o1_1, rfl, (by exact hmf.hi hs_2), (by exact mapk hmm hka), (by exact rkO_r hT hmm), rfl⟩)
theorem nd_J10_ceilingKey : yJ10_ceilingKey.cls ≠ "java/lang/invoke/MethodHandle" ∧ yJ10_ceilingKey.cls ≠ "java/lang/invoke/VarHandle" ∧ (parseMethodDescriptor yJ10_ceilingKey.desc).map (fun d => d.parameters.length) = some 1 := by decide +kernel
set_option maxRecDepth 100000 in
set_option maxHeartbeats 16000000 in
theorem ct_J10_ceilingKey {g : GG} {l : Launch} (M : Nat → Option PV) (q : Nat) (vs : Option Nat) (mc : Int) (n : Nat) (f : Int → Option Nat) (k : Nat) (z : Int) (hk : at_ g M k (vN z)) (hz : -2147483648 ≤ z ∧ z ≤ 2147483647) : Ct g l yJ10_ceilingKey (ws_ yJ10_ceilingKey cJ10_ceilingKey 2 (Option.some (Jvm.ClassFile.FieldType.object "java/lang/Object"))) 6 122 0 0 [.ref q, .ref k] [tmap g M q vs mc n f, pl g M] (fun v9 Ws9 => ∃ o1 : Option Nat, ∃ y : Int, v9 = some (va_rf o1) ∧ (geK f z o1 y) ∧ (∀ a9, o1 = some a9 → at_ g M a9 (vN y)) ∧ (-2147483648 ≤ y ∧ y ≤ 2147483647) ∧ Ws9 = [tmap g M q vs mc n f, pl g M]) (nox) := by
  refine Ct.of (cc := cJ10_ceilingKey) (nL := 2) (ret := (Option.some (Jvm.ClassFile.FieldType.object "java/lang/Object"))) (by decide) rfl (Nat.le_of_ble_eq_true rfl) ?_
  intro x hg hl hPo hPx hmc hms F
  subst hg; subst hl
  refine SW.cast (L' := [(0, .ref q), (1, .ref k)]) ?_ rfl rfl rfl
  refine sw_tmOpen (fun rt Ks ka va L R P cl rk lo hi hT hND hcb hka hmf => ?_)
  refine sw_aload_n (n := 1) F 0 (some q) rfl rfl rfl dJ10_ceilingKey_0 rfl ?_
  refine sw_aload_n (n := 2) F 1 (some k) rfl rfl rfl dJ10_ceilingKey_1 rfl ?_
  refine sw_callV (n := 5) F (ct_J10_getCeilingEntry (g := xg x) (l := xl x) M Ks ka va L R P cl q vs rt (↑n) mc rk lo hi k z hT hka hk hz) (rcv_ob F 0 rfl rfl) q3740 q3741 q3742 q114 q3743 nd_J10_getCeilingEntry rfl (by decide) [0, 1, 3, 2] (perm_ok _ 4 (by decide +kernel) rfl) [vO (xg x) vs q] rfl 0 0 ⟨by omega, by omega⟩ [] rfl (Nat.le_of_ble_eq_true rfl) dJ10_ceilingKey_2 rfl (fun _ _ h => h.elim) (fun v Ws h => ?_)
  obtain ⟨o1_1, rfl, hs_2, rfl⟩ := h
  show SW x [ob (xg x) q 14 [.null, va_rf vs, .null, va_rf rt, .int (jI (↑n)), .int (jI mc), .null, .null, .null], nd (xg x) Ks ka va L R P cl, pl (xg x) M, vO (xg x) vs q] _ _ _ _ [va_rf o1_1]
  have hmm := fun x9 e9 => (hs_2.1 x9 e9).1
  refine sw_callS (n := 8) F (ct_J10_keyOrNull (g := xg x) (l := xl x) Ks ka va L R P cl o1_1 (by exact hmm)) q3274 q3275 q114 q3276 nd_J10_keyOrNull rfl (by decide) [1, 0, 2, 3] (perm_ok _ 4 (by decide +kernel) rfl) [ob (xg x) q 14 [.null, va_rf vs, .null, va_rf rt, .int (jI (↑n)), .int (jI mc), .null, .null, .null], pl (xg x) M, vO (xg x) vs q] rfl 0 0 ⟨by omega, by omega⟩ [] rfl (Nat.le_of_ble_eq_true rfl) dJ10_ceilingKey_5 rfl (fun _ _ h => h.elim) (fun v Ws h => ?_)
  obtain ⟨rfl, rfl⟩ := h
  show SW x [nd (xg x) Ks ka va L R P cl, ob (xg x) q 14 [.null, va_rf vs, .null, va_rf rt, .int (jI (↑n)), .int (jI mc), .null, .null, .null], pl (xg x) M, vO (xg x) vs q] _ _ _ _ [va_rf (o1_1.map ka)]
  refine sw_perm [1, 0, 3, 2] (perm_ok _ 4 (by decide +kernel) rfl) [ob (xg x) q 14 [.null, va_rf vs, .null, va_rf rt, .int (jI (↑n)), .int (jI mc), .null, .null, .null], nd (xg x) Ks ka va L R P cl, vO (xg x) vs q, pl (xg x) M] rfl ?_; refine sw_tmClose (n := n) (f := f) (M := M) hT hND (by (repeat' first | assumption | exact Or.inl rfl | exact Or.inr rfl | apply clO_b | refine cb_up ?_ ?_ | refine cb_cu ?_ ?_)) hka hmf ?_
  exact sw_aret F (o1_1.map ka) _ rfl rfl (by first | exact Or.inl ⟨_, rfl⟩ | exact Or.inr ⟨_, rfl⟩) dJ10_ceilingKey_8 (by rw [hPo]; exact ⟨o1_1.map ka, rkO rk o1_1, rfl, (by exact hmf.ge hs_2), (by exact mapk hmm hka), (by exact rkO_r hT hmm), rfl⟩)
theorem nd_J10_floorKey : yJ10_floorKey.cls ≠ "java/lang/invoke/MethodHandle" ∧ yJ10_floorKey.cls ≠ "java/lang/invoke/VarHandle" ∧ (parseMethodDescriptor yJ10_floorKey.desc).map (fun d => d.parameters.length) = some 1 := by decide +kernel
set_option maxRecDepth 100000 in
set_option maxHeartbeats 16000000 in
theorem ct_J10_floorKey {g : GG} {l : Launch} (M : Nat → Option PV) (q : Nat) (vs : Option Nat) (mc : Int) (n : Nat) (f : Int → Option Nat) (k : Nat) (z : Int) (hk : at_ g M k (vN z)) (hz : -2147483648 ≤ z ∧ z ≤ 2147483647) : Ct g l yJ10_floorKey (ws_ yJ10_floorKey cJ10_floorKey 2 (Option.some (Jvm.ClassFile.FieldType.object "java/lang/Object"))) 6 122 0 0 [.ref q, .ref k] [tmap g M q vs mc n f, pl g M] (fun v9 Ws9 => ∃ o1 : Option Nat, ∃ y : Int, v9 = some (va_rf o1) ∧ (leK f z o1 y) ∧ (∀ a9, o1 = some a9 → at_ g M a9 (vN y)) ∧ (-2147483648 ≤ y ∧ y ≤ 2147483647) ∧ Ws9 = [tmap g M q vs mc n f, pl g M]) (nox) := by
  refine Ct.of (cc := cJ10_floorKey) (nL := 2) (ret := (Option.some (Jvm.ClassFile.FieldType.object "java/lang/Object"))) (by decide) rfl (Nat.le_of_ble_eq_true rfl) ?_
  intro x hg hl hPo hPx hmc hms F
  subst hg; subst hl
  refine SW.cast (L' := [(0, .ref q), (1, .ref k)]) ?_ rfl rfl rfl
  refine sw_tmOpen (fun rt Ks ka va L R P cl rk lo hi hT hND hcb hka hmf => ?_)
  refine sw_aload_n (n := 1) F 0 (some q) rfl rfl rfl dJ10_floorKey_0 rfl ?_
  refine sw_aload_n (n := 2) F 1 (some k) rfl rfl rfl dJ10_floorKey_1 rfl ?_
  refine sw_callV (n := 5) F (ct_J10_getFloorEntry (g := xg x) (l := xl x) M Ks ka va L R P cl q vs rt (↑n) mc rk lo hi k z hT hka hk hz) (rcv_ob F 0 rfl rfl) q3270 q3271 q3272 q114 q3273 nd_J10_getFloorEntry rfl (by decide) [0, 1, 3, 2] (perm_ok _ 4 (by decide +kernel) rfl) [vO (xg x) vs q] rfl 0 0 ⟨by omega, by omega⟩ [] rfl (Nat.le_of_ble_eq_true rfl) dJ10_floorKey_2 rfl (fun _ _ h => h.elim) (fun v Ws h => ?_)
  obtain ⟨o1_1, rfl, hs_2, rfl⟩ := h
  show SW x [ob (xg x) q 14 [.null, va_rf vs, .null, va_rf rt, .int (jI (↑n)), .int (jI mc), .null, .null, .null], nd (xg x) Ks ka va L R P cl, pl (xg x) M, vO (xg x) vs q] _ _ _ _ [va_rf o1_1]
  have hmm := fun x9 e9 => (hs_2.1 x9 e9).1
  refine sw_callS (n := 8) F (ct_J10_keyOrNull (g := xg x) (l := xl x) Ks ka va L R P cl o1_1 (by exact hmm)) q3274 q3275 q114 q3276 nd_J10_keyOrNull rfl (by decide) [1, 0, 2, 3] (perm_ok _ 4 (by decide +kernel) rfl) [ob (xg x) q 14 [.null, va_rf vs, .null, va_rf rt, .int (jI (↑n)), .int (jI mc), .null, .null, .null], pl (xg x) M, vO (xg x) vs q] rfl 0 0 ⟨by omega, by omega⟩ [] rfl (Nat.le_of_ble_eq_true rfl) dJ10_floorKey_5 rfl (fun _ _ h => h.elim) (fun v Ws h => ?_)
  obtain ⟨rfl, rfl⟩ := h
  show SW x [nd (xg x) Ks ka va L R P cl, ob (xg x) q 14 [.null, va_rf vs, .null, va_rf rt, .int (jI (↑n)), .int (jI mc), .null, .null, .null], pl (xg x) M, vO (xg x) vs q] _ _ _ _ [va_rf (o1_1.map ka)]
  refine sw_perm [1, 0, 3, 2] (perm_ok _ 4 (by decide +kernel) rfl) [ob (xg x) q 14 [.null, va_rf vs, .null, va_rf rt, .int (jI (↑n)), .int (jI mc), .null, .null, .null], nd (xg x) Ks ka va L R P cl, vO (xg x) vs q, pl (xg x) M] rfl ?_; refine sw_tmClose (n := n) (f := f) (M := M) hT hND (by (repeat' first | assumption | exact Or.inl rfl | exact Or.inr rfl | apply clO_b | refine cb_up ?_ ?_ | refine cb_cu ?_ ?_)) hka hmf ?_
  exact sw_aret F (o1_1.map ka) _ rfl rfl (by first | exact Or.inl ⟨_, rfl⟩ | exact Or.inr ⟨_, rfl⟩) dJ10_floorKey_8 (by rw [hPo]; exact ⟨o1_1.map ka, rkO rk o1_1, rfl, (by exact hmf.le hs_2), (by exact mapk hmm hka), (by exact rkO_r hT hmm), rfl⟩)
