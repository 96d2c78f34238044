/-! java.util.TreeMap: isEmpty, values, their iterator -/
theorem kn_vals {g : GG} {M : Nat → Option PV} {q v n : Nat} {mc : Int} {f : Int → Option Nat} : kn g (tmap g M q (some v) mc n f) v 22 := Or.inl fun h hp => by
  obtain ⟨rt, Ks, ka, va, L, R, P, cl, rk, lo, hi, hq, -⟩ := hp
  obtain ⟨a, b, hD, rfl, ha, -⟩ := sl_at (i := 2) rfl hq
  obtain ⟨c, rfl, r, -, k1, k2, -⟩ := (show ob g v 22 [.ref q] a from ha)
  exact ⟨c, by simp [ph_U, ph_1], k1, by rw [k2]; rfl⟩
/-- a map while its values are gone through: those up to z are done; the iterator is at it -/
def tmIt (g : GG) (M : Nat → Option PV) (q : Nat) (vs : Option Nat) (mc : Int) (n : Nat) (f : Int → Option Nat) (it : Nat) (z : Int) : HP := fun h => ∃ (rt : Option Nat) (Ks : List Nat) (ka va : Nat → Nat) (L R P : OP) (cl rk lo hi : Nat → Int) (o lr : Option Nat),
  sl [ob g q 14 [.null, va_rf vs, .null, va_rf rt, .int (jI (n : Int)), .int (jI mc), .null, .null, .null], nd g Ks ka va L R P cl, vO g vs q, ob g it 23 [va_rf o, va_rf lr, .int (jI mc), .ref q]] h ∧ TrI Ks L R P rk lo hi rt ∧ (Ks.Nodup ∧ Ks.length = n) ∧ (∀ t, cl t = 0 ∨ cl t = 1) ∧ (∀ t, t ∈ Ks → at_ g M (ka t) (vN (rk t))) ∧ mF Ks rk va f ∧ isHi Ks rk z o
theorem tmIt_up {g : GG} {M M' : Nat → Option PV} {q n it : Nat} {vs : Option Nat} {mc z : Int} {f : Int → Option Nat} (hM : le_ M M') : ∀ h, tmIt g M q vs mc n f it z h → tmIt g M' q vs mc n f it z h := fun h ⟨rt, Ks, ka, va, L, R, P, cl, rk, lo, hi, o, lr, h1, h2, h3, h4, h5, h6⟩ => ⟨rt, Ks, ka, va, L, R, P, cl, rk, lo, hi, o, lr, h1, h2, h3, h4, fun t ht => (h5 t ht).up hM, h6⟩
theorem kn_tmIt {g : GG} {M : Nat → Option PV} {q n it : Nat} {vs : Option Nat} {mc z : Int} {f : Int → Option Nat} : kn g (tmIt g M q vs mc n f it z) it 23 := Or.inl fun h hp => by
  obtain ⟨rt, Ks, ka, va, L, R, P, cl, rk, lo, hi, o, lr, hq, -⟩ := hp
  obtain ⟨a, b, hD, rfl, ha, -⟩ := sl_at (i := 3) rfl hq
  obtain ⟨c, rfl, r, -, k1, k2, -⟩ := (show ob g it 23 [va_rf o, va_rf lr, .int (jI mc), .ref q] a from ha)
  exact ⟨c, by simp [ph_U, ph_1], k1, by rw [k2]; rfl⟩
section TMIT
variable {x : EX} {bc bs pc : Nat} {LL : List (Nat × Value)} {st : List Value} {q n it : Nat} {vs : Option Nat} {mc z : Int} {f : Int → Option Nat} {M : Nat → Option PV} {Rs : List HP}
theorem sw_itOpen (kk : ∀ (rt : Option Nat) (Ks : List Nat) (ka va : Nat → Nat) (L R P : OP) (cl rk lo hi : Nat → Int) (o lr : Option Nat), TrI Ks L R P rk lo hi rt → Ks.Nodup ∧ Ks.length = n → (∀ t, cl t = 0 ∨ cl t = 1) → (∀ t, t ∈ Ks → at_ (xg x) M (ka t) (vN (rk t))) → mF Ks rk va f → isHi Ks rk z o → SW x (ob (xg x) q 14 [.null, va_rf vs, .null, va_rf rt, .int (jI (n : Int)), .int (jI mc), .null, .null, .null] :: nd (xg x) Ks ka va L R P cl :: vO (xg x) vs q :: ob (xg x) it 23 [va_rf o, va_rf lr, .int (jI mc), .ref q] :: Rs) bc bs pc LL st) : SW x (tmIt (xg x) M q vs mc n f it z :: Rs) bc bs pc LL st := by
  intro H locs h uc us ls I hL
  obtain ⟨hs, hS, hA, hV, i1, i2⟩ := I
  obtain ⟨a, b, hd, rfl, ⟨rt, Ks, ka, va, L, R, P, cl, rk, lo, hi, o, lr, k1, k2, k3, k4, k5, k6, k7⟩, hR⟩ := hs
  exact kk rt Ks ka va L R P cl rk lo hi o lr k2 k3 k4 k5 k6 k7 H locs _ uc us ls ⟨(sl_app (Ps := [_, _, _, _]) _).mpr ⟨a, b, hd, rfl, k1, hR⟩, hS, hA, hV, i1, i2⟩ hL
theorem sw_itClose {rt : Option Nat} {Ks : List Nat} {ka va : Nat → Nat} {L R P : OP} {cl rk lo hi : Nat → Int} {o lr : Option Nat} (h1 : TrI Ks L R P rk lo hi rt) (h2 : Ks.Nodup ∧ Ks.length = n) (h3 : ∀ t, cl t = 0 ∨ cl t = 1) (h4 : ∀ t, t ∈ Ks → at_ (xg x) M (ka t) (vN (rk t))) (h5 : mF Ks rk va f) (h6 : isHi Ks rk z o) (kk : SW x (tmIt (xg x) M q vs mc n f it z :: Rs) bc bs pc LL st) : SW x (ob (xg x) q 14 [.null, va_rf vs, .null, va_rf rt, .int (jI (n : Int)), .int (jI mc), .null, .null, .null] :: nd (xg x) Ks ka va L R P cl :: vO (xg x) vs q :: ob (xg x) it 23 [va_rf o, va_rf lr, .int (jI mc), .ref q] :: Rs) bc bs pc LL st :=
  sw_fold (Qs := [_, _, _, _]) (fun h hq => ⟨rt, Ks, ka, va, L, R, P, cl, rk, lo, hi, o, lr, hq, h1, h2, h3, h4, h5, h6⟩) kk
/-- the iterator is let go -/
theorem sw_itEnd (kk : SW x (tmap (xg x) M q vs mc n f :: Rs) bc bs pc LL st) : SW x (tmIt (xg x) M q vs mc n f it z :: Rs) bc bs pc LL st := by
  intro H locs h uc us ls I hL
  obtain ⟨hs, hS, hA, hV, i1, i2⟩ := I
  obtain ⟨a, b, hd, rfl, ⟨rt, Ks, ka, va, L, R, P, cl, rk, lo, hi, o, lr, k1, k2, k3, k4, k5, k6, k7⟩, hR⟩ := hs
  obtain ⟨a1, a2, d1, rfl, k8, -⟩ := (sl_app (Ps := [ob (xg x) q 14 [.null, va_rf vs, .null, va_rf rt, .int (jI (n : Int)), .int (jI mc), .null, .null, .null], nd (xg x) Ks ka va L R P cl, vO (xg x) vs q]) (Qs := [ob (xg x) it 23 [va_rf o, va_rf lr, .int (jI mc), .ref q]]) _).mp k1
  obtain ⟨e1, e2⟩ := ph_U_D.mp hd
  refine kk H locs (ph_U a1 b) uc us ls ⟨⟨a1, b, e1, rfl, ⟨rt, Ks, ka, va, L, R, P, cl, rk, lo, hi, k8, k2, k3, k4, k5, k6⟩, hR⟩, ?_, fun r hr => hA r (fun z => hr ?_), hV, i1, i2⟩ hL
  · intro r c e
    refine hS r c ?_
    cases z1 : a1 r with
    | some w => simp only [ph_U, z1] at e ⊢; exact e
    | none =>
      simp only [ph_U, z1] at e ⊢
      rcases e2 r with k | k
      · rw [k]; exact e
      · rw [k] at e; cases e
  · have h4 := ph_U_none.mp z
    exact ph_U_none.mpr ⟨(ph_U_none.mp h4.1).1, h4.2⟩
end TMIT
set_option maxRecDepth 100000
def dkwJ9_isEmpty_0 : List UInt8 := [42, 182, 0, 19, 154, 0, 7, 4, 167, 0, 4, 3, 172]
abbrev dktJ9_isEmpty_0 : List UInt8 := dkwJ9_isEmpty_0 ++ []
theorem dksJ9_isEmpty_0 : cJ9_isEmpty.data.toList.drop 0 = dktJ9_isEmpty_0 := by decide +kernel
theorem dJ9_isEmpty_0 : decode cJ9_isEmpty 0 = .ok (.aload_n 0, 1) := dk_42 (dk_at dksJ9_isEmpty_0 0 rfl rfl)
theorem dJ9_isEmpty_1 : decode cJ9_isEmpty 1 = .ok (.invokevirtual 19, 3) := dk_182 0 19 (dk_at dksJ9_isEmpty_0 1 rfl rfl)
theorem dJ9_isEmpty_4 : decode cJ9_isEmpty 4 = .ok (.ifCond .ne 7, 3) := dk_154 0 7 (dk_at dksJ9_isEmpty_0 4 rfl rfl)
theorem dJ9_isEmpty_7 : decode cJ9_isEmpty 7 = .ok (.iconst 1, 1) := dk_4 (dk_at dksJ9_isEmpty_0 7 rfl rfl)
theorem dJ9_isEmpty_8 : decode cJ9_isEmpty 8 = .ok (.goto 4, 3) := dk_167 0 4 (dk_at dksJ9_isEmpty_0 8 rfl rfl)
theorem dJ9_isEmpty_11 : decode cJ9_isEmpty 11 = .ok (.iconst 0, 1) := dk_3 (dk_at dksJ9_isEmpty_0 11 rfl rfl)
theorem dJ9_isEmpty_12 : decode cJ9_isEmpty 12 = .ok (.ireturn, 1) := dk_172 (dk_at dksJ9_isEmpty_0 12 rfl rfl)
def dkwJ10_values_1 : List UInt8 := [176]
abbrev dktJ10_values_1 : List UInt8 := dkwJ10_values_1 ++ []
def dkwJ10_values_0 : List UInt8 := [42, 180, 0, 233, 76, 43, 199, 0, 17, 187, 0, 237, 89, 42, 183, 0, 239, 76, 42, 43, 181, 0, 233, 43]
abbrev dktJ10_values_0 : List UInt8 := dkwJ10_values_0 ++ dktJ10_values_1
theorem dksJ10_values_0 : cJ10_values.data.toList.drop 0 = dktJ10_values_0 := by decide +kernel
theorem dksJ10_values_1 : cJ10_values.data.toList.drop 24 = dktJ10_values_1 := dk_seg dksJ10_values_0 24 rfl rfl
theorem dJ10_values_0 : decode cJ10_values 0 = .ok (.aload_n 0, 1) := dk_42 (dk_at dksJ10_values_0 0 rfl rfl)
theorem dJ10_values_1 : decode cJ10_values 1 = .ok (.getfield 233, 3) := dk_180 0 233 (dk_at dksJ10_values_0 1 rfl rfl)
theorem dJ10_values_4 : decode cJ10_values 4 = .ok (.astore_n 1, 1) := dk_76 (dk_at dksJ10_values_0 4 rfl rfl)
theorem dJ10_values_5 : decode cJ10_values 5 = .ok (.aload_n 1, 1) := dk_43 (dk_at dksJ10_values_0 5 rfl rfl)
theorem dJ10_values_6 : decode cJ10_values 6 = .ok (.ifnonnull 17, 3) := dk_199 0 17 (dk_at dksJ10_values_0 6 rfl rfl)
theorem dJ10_values_9 : decode cJ10_values 9 = .ok (.new 237, 3) := dk_187 0 237 (dk_at dksJ10_values_0 9 rfl rfl)
theorem dJ10_values_12 : decode cJ10_values 12 = .ok (.dup, 1) := dk_89 (dk_at dksJ10_values_0 12 rfl rfl)
theorem dJ10_values_13 : decode cJ10_values 13 = .ok (.aload_n 0, 1) := dk_42 (dk_at dksJ10_values_0 13 rfl rfl)
theorem dJ10_values_14 : decode cJ10_values 14 = .ok (.invokespecial 239, 3) := dk_183 0 239 (dk_at dksJ10_values_0 14 rfl rfl)
theorem dJ10_values_17 : decode cJ10_values 17 = .ok (.astore_n 1, 1) := dk_76 (dk_at dksJ10_values_0 17 rfl rfl)
theorem dJ10_values_18 : decode cJ10_values 18 = .ok (.aload_n 0, 1) := dk_42 (dk_at dksJ10_values_0 18 rfl rfl)
theorem dJ10_values_19 : decode cJ10_values 19 = .ok (.aload_n 1, 1) := dk_43 (dk_at dksJ10_values_0 19 rfl rfl)
theorem dJ10_values_20 : decode cJ10_values 20 = .ok (.putfield 233, 3) := dk_181 0 233 (dk_at dksJ10_values_0 20 rfl rfl)
theorem dJ10_values_23 : decode cJ10_values 23 = .ok (.aload_n 1, 1) := dk_43 (dk_at dksJ10_values_0 23 rfl rfl)
theorem dJ10_values_24 : decode cJ10_values 24 = .ok (.areturn, 1) := dk_176 (dk_at dksJ10_values_1 0 rfl rfl)
def dkwJ45_init_0 : List UInt8 := [42, 43, 181, 0, 1, 42, 183, 0, 7, 177]
abbrev dktJ45_init_0 : List UInt8 := dkwJ45_init_0 ++ []
theorem dksJ45_init_0 : cJ45_init.data.toList.drop 0 = dktJ45_init_0 := by decide +kernel
theorem dJ45_init_0 : decode cJ45_init 0 = .ok (.aload_n 0, 1) := dk_42 (dk_at dksJ45_init_0 0 rfl rfl)
theorem dJ45_init_1 : decode cJ45_init 1 = .ok (.aload_n 1, 1) := dk_43 (dk_at dksJ45_init_0 1 rfl rfl)
theorem dJ45_init_2 : decode cJ45_init 2 = .ok (.putfield 1, 3) := dk_181 0 1 (dk_at dksJ45_init_0 2 rfl rfl)
theorem dJ45_init_5 : decode cJ45_init 5 = .ok (.aload_n 0, 1) := dk_42 (dk_at dksJ45_init_0 5 rfl rfl)
theorem dJ45_init_6 : decode cJ45_init 6 = .ok (.invokespecial 7, 3) := dk_183 0 7 (dk_at dksJ45_init_0 6 rfl rfl)
theorem dJ45_init_9 : decode cJ45_init 9 = .ok (.return_, 1) := dk_177 (dk_at dksJ45_init_0 9 rfl rfl)
def dkwJ45_iterator_0 : List UInt8 := [187, 0, 13, 89, 42, 180, 0, 1, 42, 180, 0, 1, 182, 0, 15, 183, 0, 21, 176]
abbrev dktJ45_iterator_0 : List UInt8 := dkwJ45_iterator_0 ++ []
theorem dksJ45_iterator_0 : cJ45_iterator.data.toList.drop 0 = dktJ45_iterator_0 := by decide +kernel
theorem dJ45_iterator_0 : decode cJ45_iterator 0 = .ok (.new 13, 3) := dk_187 0 13 (dk_at dksJ45_iterator_0 0 rfl rfl)
theorem dJ45_iterator_3 : decode cJ45_iterator 3 = .ok (.dup, 1) := dk_89 (dk_at dksJ45_iterator_0 3 rfl rfl)
theorem dJ45_iterator_4 : decode cJ45_iterator 4 = .ok (.aload_n 0, 1) := dk_42 (dk_at dksJ45_iterator_0 4 rfl rfl)
theorem dJ45_iterator_5 : decode cJ45_iterator 5 = .ok (.getfield 1, 3) := dk_180 0 1 (dk_at dksJ45_iterator_0 5 rfl rfl)
theorem dJ45_iterator_8 : decode cJ45_iterator 8 = .ok (.aload_n 0, 1) := dk_42 (dk_at dksJ45_iterator_0 8 rfl rfl)
theorem dJ45_iterator_9 : decode cJ45_iterator 9 = .ok (.getfield 1, 3) := dk_180 0 1 (dk_at dksJ45_iterator_0 9 rfl rfl)
theorem dJ45_iterator_12 : decode cJ45_iterator 12 = .ok (.invokevirtual 15, 3) := dk_182 0 15 (dk_at dksJ45_iterator_0 12 rfl rfl)
theorem dJ45_iterator_15 : decode cJ45_iterator 15 = .ok (.invokespecial 21, 3) := dk_183 0 21 (dk_at dksJ45_iterator_0 15 rfl rfl)
theorem dJ45_iterator_18 : decode cJ45_iterator 18 = .ok (.areturn, 1) := dk_176 (dk_at dksJ45_iterator_0 18 rfl rfl)
def dkwJ47_init_1 : List UInt8 := [181, 0, 26, 177]
abbrev dktJ47_init_1 : List UInt8 := dkwJ47_init_1 ++ []
def dkwJ47_init_0 : List UInt8 := [42, 43, 181, 0, 1, 42, 183, 0, 7, 42, 43, 180, 0, 13, 181, 0, 19, 42, 1, 181, 0, 22, 42, 44]
abbrev dktJ47_init_0 : List UInt8 := dkwJ47_init_0 ++ dktJ47_init_1
theorem dksJ47_init_0 : cJ47_init.data.toList.drop 0 = dktJ47_init_0 := by decide +kernel
theorem dksJ47_init_1 : cJ47_init.data.toList.drop 24 = dktJ47_init_1 := dk_seg dksJ47_init_0 24 rfl rfl
theorem dJ47_init_0 : decode cJ47_init 0 = .ok (.aload_n 0, 1) := dk_42 (dk_at dksJ47_init_0 0 rfl rfl)
theorem dJ47_init_1 : decode cJ47_init 1 = .ok (.aload_n 1, 1) := dk_43 (dk_at dksJ47_init_0 1 rfl rfl)
theorem dJ47_init_2 : decode cJ47_init 2 = .ok (.putfield 1, 3) := dk_181 0 1 (dk_at dksJ47_init_0 2 rfl rfl)
theorem dJ47_init_5 : decode cJ47_init 5 = .ok (.aload_n 0, 1) := dk_42 (dk_at dksJ47_init_0 5 rfl rfl)
theorem dJ47_init_6 : decode cJ47_init 6 = .ok (.invokespecial 7, 3) := dk_183 0 7 (dk_at dksJ47_init_0 6 rfl rfl)
theorem dJ47_init_9 : decode cJ47_init 9 = .ok (.aload_n 0, 1) := dk_42 (dk_at dksJ47_init_0 9 rfl rfl)
theorem dJ47_init_10 : decode cJ47_init 10 = .ok (.aload_n 1, 1) := dk_43 (dk_at dksJ47_init_0 10 rfl rfl)
theorem dJ47_init_11 : decode cJ47_init 11 = .ok (.getfield 13, 3) := dk_180 0 13 (dk_at dksJ47_init_0 11 rfl rfl)
theorem dJ47_init_14 : decode cJ47_init 14 = .ok (.putfield 19, 3) := dk_181 0 19 (dk_at dksJ47_init_0 14 rfl rfl)
theorem dJ47_init_17 : decode cJ47_init 17 = .ok (.aload_n 0, 1) := dk_42 (dk_at dksJ47_init_0 17 rfl rfl)
theorem dJ47_init_18 : decode cJ47_init 18 = .ok (.aconst_null, 1) := dk_1 (dk_at dksJ47_init_0 18 rfl rfl)
theorem dJ47_init_19 : decode cJ47_init 19 = .ok (.putfield 22, 3) := dk_181 0 22 (dk_at dksJ47_init_0 19 rfl rfl)
theorem dJ47_init_22 : decode cJ47_init 22 = .ok (.aload_n 0, 1) := dk_42 (dk_at dksJ47_init_0 22 rfl rfl)
theorem dJ47_init_23 : decode cJ47_init 23 = .ok (.aload_n 2, 1) := dk_44 (dk_at dksJ47_init_0 23 rfl rfl)
theorem dJ47_init_24 : decode cJ47_init 24 = .ok (.putfield 26, 3) := dk_181 0 26 (dk_at dksJ47_init_1 0 rfl rfl)
theorem dJ47_init_27 : decode cJ47_init 27 = .ok (.return_, 1) := dk_177 (dk_at dksJ47_init_1 3 rfl rfl)
def dkwJ47_hasNext_0 : List UInt8 := [42, 180, 0, 26, 198, 0, 7, 4, 167, 0, 4, 3, 172]
abbrev dktJ47_hasNext_0 : List UInt8 := dkwJ47_hasNext_0 ++ []
theorem dksJ47_hasNext_0 : cJ47_hasNext.data.toList.drop 0 = dktJ47_hasNext_0 := by decide +kernel
theorem dJ47_hasNext_0 : decode cJ47_hasNext 0 = .ok (.aload_n 0, 1) := dk_42 (dk_at dksJ47_hasNext_0 0 rfl rfl)
theorem dJ47_hasNext_1 : decode cJ47_hasNext 1 = .ok (.getfield 26, 3) := dk_180 0 26 (dk_at dksJ47_hasNext_0 1 rfl rfl)
theorem dJ47_hasNext_4 : decode cJ47_hasNext 4 = .ok (.ifnull 7, 3) := dk_198 0 7 (dk_at dksJ47_hasNext_0 4 rfl rfl)
theorem dJ47_hasNext_7 : decode cJ47_hasNext 7 = .ok (.iconst 1, 1) := dk_4 (dk_at dksJ47_hasNext_0 7 rfl rfl)
theorem dJ47_hasNext_8 : decode cJ47_hasNext 8 = .ok (.goto 4, 3) := dk_167 0 4 (dk_at dksJ47_hasNext_0 8 rfl rfl)
theorem dJ47_hasNext_11 : decode cJ47_hasNext 11 = .ok (.iconst 0, 1) := dk_3 (dk_at dksJ47_hasNext_0 11 rfl rfl)
theorem dJ47_hasNext_12 : decode cJ47_hasNext 12 = .ok (.ireturn, 1) := dk_172 (dk_at dksJ47_hasNext_0 12 rfl rfl)
def dkwJ47_nextEntry_2 : List UInt8 := [43, 181, 0, 22, 43, 176]
abbrev dktJ47_nextEntry_2 : List UInt8 := dkwJ47_nextEntry_2 ++ []
def dkwJ47_nextEntry_1 : List UInt8 := [42, 180, 0, 19, 159, 0, 11, 187, 0, 32, 89, 183, 0, 34, 191, 42, 43, 184, 0, 35, 181, 0, 26, 42]
abbrev dktJ47_nextEntry_1 : List UInt8 := dkwJ47_nextEntry_1 ++ dktJ47_nextEntry_2
def dkwJ47_nextEntry_0 : List UInt8 := [42, 180, 0, 26, 76, 43, 199, 0, 11, 187, 0, 29, 89, 183, 0, 31, 191, 42, 180, 0, 1, 180, 0, 13]
abbrev dktJ47_nextEntry_0 : List UInt8 := dkwJ47_nextEntry_0 ++ dktJ47_nextEntry_1
theorem dksJ47_nextEntry_0 : cJ47_nextEntry.data.toList.drop 0 = dktJ47_nextEntry_0 := by decide +kernel
theorem dksJ47_nextEntry_1 : cJ47_nextEntry.data.toList.drop 24 = dktJ47_nextEntry_1 := dk_seg dksJ47_nextEntry_0 24 rfl rfl
theorem dksJ47_nextEntry_2 : cJ47_nextEntry.data.toList.drop 48 = dktJ47_nextEntry_2 := dk_seg dksJ47_nextEntry_1 24 rfl rfl
theorem dJ47_nextEntry_0 : decode cJ47_nextEntry 0 = .ok (.aload_n 0, 1) := dk_42 (dk_at dksJ47_nextEntry_0 0 rfl rfl)
theorem dJ47_nextEntry_1 : decode cJ47_nextEntry 1 = .ok (.getfield 26, 3) := dk_180 0 26 (dk_at dksJ47_nextEntry_0 1 rfl rfl)
theorem dJ47_nextEntry_4 : decode cJ47_nextEntry 4 = .ok (.astore_n 1, 1) := dk_76 (dk_at dksJ47_nextEntry_0 4 rfl rfl)
theorem dJ47_nextEntry_5 : decode cJ47_nextEntry 5 = .ok (.aload_n 1, 1) := dk_43 (dk_at dksJ47_nextEntry_0 5 rfl rfl)
theorem dJ47_nextEntry_6 : decode cJ47_nextEntry 6 = .ok (.ifnonnull 11, 3) := dk_199 0 11 (dk_at dksJ47_nextEntry_0 6 rfl rfl)
theorem dJ47_nextEntry_9 : decode cJ47_nextEntry 9 = .ok (.new 29, 3) := dk_187 0 29 (dk_at dksJ47_nextEntry_0 9 rfl rfl)
theorem dJ47_nextEntry_12 : decode cJ47_nextEntry 12 = .ok (.dup, 1) := dk_89 (dk_at dksJ47_nextEntry_0 12 rfl rfl)
theorem dJ47_nextEntry_13 : decode cJ47_nextEntry 13 = .ok (.invokespecial 31, 3) := dk_183 0 31 (dk_at dksJ47_nextEntry_0 13 rfl rfl)
theorem dJ47_nextEntry_16 : decode cJ47_nextEntry 16 = .ok (.athrow, 1) := dk_191 (dk_at dksJ47_nextEntry_0 16 rfl rfl)
theorem dJ47_nextEntry_17 : decode cJ47_nextEntry 17 = .ok (.aload_n 0, 1) := dk_42 (dk_at dksJ47_nextEntry_0 17 rfl rfl)
theorem dJ47_nextEntry_18 : decode cJ47_nextEntry 18 = .ok (.getfield 1, 3) := dk_180 0 1 (dk_at dksJ47_nextEntry_0 18 rfl rfl)
theorem dJ47_nextEntry_21 : decode cJ47_nextEntry 21 = .ok (.getfield 13, 3) := dk_180 0 13 (dk_at dksJ47_nextEntry_0 21 rfl rfl)
theorem dJ47_nextEntry_24 : decode cJ47_nextEntry 24 = .ok (.aload_n 0, 1) := dk_42 (dk_at dksJ47_nextEntry_1 0 rfl rfl)
theorem dJ47_nextEntry_25 : decode cJ47_nextEntry 25 = .ok (.getfield 19, 3) := dk_180 0 19 (dk_at dksJ47_nextEntry_1 1 rfl rfl)
theorem dJ47_nextEntry_28 : decode cJ47_nextEntry 28 = .ok (.if_icmp .eq 11, 3) := dk_159 0 11 (dk_at dksJ47_nextEntry_1 4 rfl rfl)
theorem dJ47_nextEntry_31 : decode cJ47_nextEntry 31 = .ok (.new 32, 3) := dk_187 0 32 (dk_at dksJ47_nextEntry_1 7 rfl rfl)
theorem dJ47_nextEntry_34 : decode cJ47_nextEntry 34 = .ok (.dup, 1) := dk_89 (dk_at dksJ47_nextEntry_1 10 rfl rfl)
theorem dJ47_nextEntry_35 : decode cJ47_nextEntry 35 = .ok (.invokespecial 34, 3) := dk_183 0 34 (dk_at dksJ47_nextEntry_1 11 rfl rfl)
theorem dJ47_nextEntry_38 : decode cJ47_nextEntry 38 = .ok (.athrow, 1) := dk_191 (dk_at dksJ47_nextEntry_1 14 rfl rfl)
theorem dJ47_nextEntry_39 : decode cJ47_nextEntry 39 = .ok (.aload_n 0, 1) := dk_42 (dk_at dksJ47_nextEntry_1 15 rfl rfl)
theorem dJ47_nextEntry_40 : decode cJ47_nextEntry 40 = .ok (.aload_n 1, 1) := dk_43 (dk_at dksJ47_nextEntry_1 16 rfl rfl)
theorem dJ47_nextEntry_41 : decode cJ47_nextEntry 41 = .ok (.invokestatic 35, 3) := dk_184 0 35 (dk_at dksJ47_nextEntry_1 17 rfl rfl)
theorem dJ47_nextEntry_44 : decode cJ47_nextEntry 44 = .ok (.putfield 26, 3) := dk_181 0 26 (dk_at dksJ47_nextEntry_1 20 rfl rfl)
theorem dJ47_nextEntry_47 : decode cJ47_nextEntry 47 = .ok (.aload_n 0, 1) := dk_42 (dk_at dksJ47_nextEntry_1 23 rfl rfl)
theorem dJ47_nextEntry_48 : decode cJ47_nextEntry 48 = .ok (.aload_n 1, 1) := dk_43 (dk_at dksJ47_nextEntry_2 0 rfl rfl)
theorem dJ47_nextEntry_49 : decode cJ47_nextEntry 49 = .ok (.putfield 22, 3) := dk_181 0 22 (dk_at dksJ47_nextEntry_2 1 rfl rfl)
theorem dJ47_nextEntry_52 : decode cJ47_nextEntry 52 = .ok (.aload_n 1, 1) := dk_43 (dk_at dksJ47_nextEntry_2 4 rfl rfl)
theorem dJ47_nextEntry_53 : decode cJ47_nextEntry 53 = .ok (.areturn, 1) := dk_176 (dk_at dksJ47_nextEntry_2 5 rfl rfl)
def dkwJ49_init_0 : List UInt8 := [42, 43, 44, 183, 0, 1, 177]
abbrev dktJ49_init_0 : List UInt8 := dkwJ49_init_0 ++ []
theorem dksJ49_init_0 : cJ49_init.data.toList.drop 0 = dktJ49_init_0 := by decide +kernel
theorem dJ49_init_0 : decode cJ49_init 0 = .ok (.aload_n 0, 1) := dk_42 (dk_at dksJ49_init_0 0 rfl rfl)
theorem dJ49_init_1 : decode cJ49_init 1 = .ok (.aload_n 1, 1) := dk_43 (dk_at dksJ49_init_0 1 rfl rfl)
theorem dJ49_init_2 : decode cJ49_init 2 = .ok (.aload_n 2, 1) := dk_44 (dk_at dksJ49_init_0 2 rfl rfl)
theorem dJ49_init_3 : decode cJ49_init 3 = .ok (.invokespecial 1, 3) := dk_183 0 1 (dk_at dksJ49_init_0 3 rfl rfl)
theorem dJ49_init_6 : decode cJ49_init 6 = .ok (.return_, 1) := dk_177 (dk_at dksJ49_init_0 6 rfl rfl)
def dkwJ49_next_0 : List UInt8 := [42, 182, 0, 7, 180, 0, 13, 176]
abbrev dktJ49_next_0 : List UInt8 := dkwJ49_next_0 ++ []
theorem dksJ49_next_0 : cJ49_next.data.toList.drop 0 = dktJ49_next_0 := by decide +kernel
theorem dJ49_next_0 : decode cJ49_next 0 = .ok (.aload_n 0, 1) := dk_42 (dk_at dksJ49_next_0 0 rfl rfl)
theorem dJ49_next_1 : decode cJ49_next 1 = .ok (.invokevirtual 7, 3) := dk_182 0 7 (dk_at dksJ49_next_0 1 rfl rfl)
theorem dJ49_next_4 : decode cJ49_next 4 = .ok (.getfield 13, 3) := dk_180 0 13 (dk_at dksJ49_next_0 4 rfl rfl)
theorem dJ49_next_7 : decode cJ49_next 7 = .ok (.areturn, 1) := dk_176 (dk_at dksJ49_next_0 7 rfl rfl)
theorem ndU_J10_size_abs : "java/util/AbstractMap" ≠ "java/lang/invoke/MethodHandle" ∧ "java/util/AbstractMap" ≠ "java/lang/invoke/VarHandle" ∧ (parseMethodDescriptor "()I").map (fun d => d.parameters.length) = some 0 := by decide +kernel
theorem nd_J9_isEmpty : yJ9_isEmpty.cls ≠ "java/lang/invoke/MethodHandle" ∧ yJ9_isEmpty.cls ≠ "java/lang/invoke/VarHandle" ∧ (parseMethodDescriptor yJ9_isEmpty.desc).map (fun d => d.parameters.length) = some 0 := by decide +kernel
set_option maxRecDepth 100000 in
set_option maxHeartbeats 16000000 in
theorem ct_J9_isEmpty {g : GG} {l : Launch} (M : Nat → Option PV) (q : Nat) (vs : Option Nat) (mc : Int) (n : Nat) (f : Int → Option Nat) (hn : n < 1000) : Ct g l yJ9_isEmpty (ws_ yJ9_isEmpty cJ9_isEmpty 1 (Option.some Jvm.ClassFile.FieldType.boolean)) 2 32 0 0 [.ref q] [tmap g M q vs mc n f, pl g M] (fun v9 Ws9 => v9 = some (.int (jI (if n = 0 then 1 else 0))) ∧ Ws9 = [tmap g M q vs mc n f, pl g M]) (nox) := by
  refine Ct.of (cc := cJ9_isEmpty) (nL := 1) (ret := (Option.some Jvm.ClassFile.FieldType.boolean)) (by decide) rfl (Nat.le_of_ble_eq_true rfl) ?_
  intro x hg hl hPo hPx hmc hms F
  subst hg; subst hl
  refine SW.cast (L' := [(0, .ref q)]) ?_ rfl rfl rfl
  refine sw_aload_n (n := 1) F 0 (some q) rfl rfl rfl dJ9_isEmpty_0 rfl ?_
  refine sw_callU (n := 4) F (ct_J10_size (g := xg x) (l := xl x) M q vs mc n f ) (kn_rcv F 0 rfl kn_tmap rfl) (fun R h1 h2 => va_cwA 0 F.wd (lw_app (lw_5 q3484 q3486 q3487 q3252 q114) (lw_meth q3254)) rfl rfl rfl (va_Nw.warmD F.gx.2.1 (va_Nw.of rfl (F.gx.1.2.1 _ q3488))) ndU_J10_size_abs ⟨h1, h2⟩) rfl (by decide) [0, 1] rfl [] rfl 0 0 ⟨by omega, by omega⟩ [] rfl (Nat.le_of_ble_eq_true rfl) dJ9_isEmpty_1 rfl (fun _ _ h => h.elim) (fun v Ws h => ?_)
  obtain ⟨rfl, rfl⟩ := h
  show SW x [tmap (xg x) M q vs mc n f, pl (xg x) M] _ _ _ _ [.int (jI (↑n))]
  refine sw_if_ne (n := 7) F (by omega) (tgt := 11) dJ9_isEmpty_4 (by decide) rfl (fun c_4 => ?_) (fun c_4 => ?_)
  ·
    refine sw_iconst (n := 12) F (0) (by decide) dJ9_isEmpty_11 rfl ?_
    exact sw_iret F _ rfl (by first | rfl | exact jI_nz (by omega) | exact jI_nc (by omega)) dJ9_isEmpty_12 (by rw [hPo]; exact ⟨(by first | rw [if_pos (by omega)] | rw [if_neg (by omega)]), rfl⟩)
  ·
    refine sw_iconst (n := 8) F (1) (by decide) dJ9_isEmpty_7 rfl ?_
    refine sw_goto F (n := 12) dJ9_isEmpty_8 (by decide) ?_
    exact sw_iret F _ rfl (by first | rfl | exact jI_nz (by omega) | exact jI_nc (by omega)) dJ9_isEmpty_12 (by rw [hPo]; exact ⟨(by first | rw [if_pos (by omega)] | rw [if_neg (by omega)]), rfl⟩)
theorem nd_J45_init : yJ45_init.cls ≠ "java/lang/invoke/MethodHandle" ∧ yJ45_init.cls ≠ "java/lang/invoke/VarHandle" ∧ (parseMethodDescriptor yJ45_init.desc).map (fun d => d.parameters.length) = some 1 := by decide +kernel
set_option maxRecDepth 100000 in
set_option maxHeartbeats 16000000 in
theorem ct_J45_init {g : GG} {l : Launch} (v : Nat) (q : Nat)  : Ct g l yJ45_init (ws_ yJ45_init cJ45_init 2 (Option.none : Option Jvm.ClassFile.FieldType)) 2 32 0 0 [.ref v, .ref q] [ob g v 22 [.null]] (fun v9 Ws9 => v9 = none ∧ Ws9 = [ob g v 22 [.ref q]]) (nox) := by
  refine Ct.of (cc := cJ45_init) (nL := 2) (ret := (Option.none : Option Jvm.ClassFile.FieldType)) (by decide) rfl (Nat.le_of_ble_eq_true rfl) ?_
  intro x hg hl hPo hPx hmc hms F
  subst hg; subst hl
  refine SW.cast (L' := [(0, .ref v), (1, .ref q)]) ?_ rfl rfl rfl
  refine sw_aload_n (n := 1) F 0 (some v) rfl rfl rfl dJ45_init_0 rfl ?_
  refine sw_aload_n (n := 2) F 1 (some q) rfl rfl rfl dJ45_init_1 rfl ?_
  refine sw_putF (n := 5) F rfl 0 rfl (k := 0) ⟨(RJ45, TJ45, 1), rfl, by decide, q814, in_J45, Or.inl rfl⟩ (tyJ45 0) ⟨(RJ45, TJ45, 1), rfl, rfl, rfl, tyJ45_ok 0 (by decide), nmJ45, tyJ45, tyJ45_ok⟩ rfl rfl (Nat.le_of_ble_eq_true rfl) rfl [ob (xg x) v 22 [.ref q]] rfl dJ45_init_2 rfl ?_
  refine sw_aload_n (n := 6) F 0 (some v) rfl rfl rfl dJ45_init_5 rfl ?_
  refine sw_callI (n := 9) F (ct_J4_init (g := xg x) (l := xl x) v ) q813 q225 q108 q226 rfl nd_J4_init rfl (by decide) [0] rfl [ob (xg x) v 22 [.ref q]] rfl 0 0 ⟨by omega, by omega⟩ [] rfl (Nat.le_of_ble_eq_true rfl) dJ45_init_6 rfl (fun _ _ h => h.elim) (fun v Ws h => ?_)
  obtain ⟨rfl, rfl⟩ := h
  show SW x [ob (xg x) v 22 [.ref q]] _ _ _ _ []
  exact sw_vret F rfl dJ45_init_9 (by rw [hPo]; exact ⟨rfl, rfl⟩)
theorem nd_J10_values : yJ10_values.cls ≠ "java/lang/invoke/MethodHandle" ∧ yJ10_values.cls ≠ "java/lang/invoke/VarHandle" ∧ (parseMethodDescriptor yJ10_values.desc).map (fun d => d.parameters.length) = some 0 := by decide +kernel
set_option maxRecDepth 100000 in
set_option maxHeartbeats 16000000 in
theorem ct_J10_values_n {g : GG} {l : Launch} (M : Nat → Option PV) (q : Nat) (vs : Option Nat) (mc : Int) (n : Nat) (f : Int → Option Nat)  : Ct g l yJ10_values (ws_ yJ10_values cJ10_values 2 (Option.some (Jvm.ClassFile.FieldType.object "java/util/Collection"))) 3 53 1 1 [.ref q] [tmap g M q none mc n f, pl g M] (fun v9 Ws9 => ∃ v : Nat, v9 = some (.ref v) ∧ Ws9 = [tmap g M q (some v) mc n f, pl g M]) (nox) := by
  refine Ct.of (cc := cJ10_values) (nL := 2) (ret := (Option.some (Jvm.ClassFile.FieldType.object "java/util/Collection"))) (by decide) rfl (Nat.le_of_ble_eq_true rfl) ?_
  intro x hg hl hPo hPx hmc hms F
  subst hg; subst hl
  refine SW.cast (L' := [(0, .ref q)]) ?_ rfl rfl rfl
  refine sw_tmOpen (fun rt Ks ka va L R P cl rk lo hi hT hND hcb hka hmf => ?_)
  refine sw_perm [2, 0, 1, 3] (perm_ok _ 4 (by decide +kernel) rfl) [vO (xg x) none q, ob (xg x) q 14 [.null, .null, .null, va_rf rt, .int (jI (↑n)), .int (jI mc), .null, .null, .null], nd (xg x) Ks ka va L R P cl, pl (xg x) M] rfl ?_; refine sw_vOU ?_
  refine sw_aload_n (n := 1) F 0 (some q) rfl rfl rfl dJ10_values_0 rfl ?_
  refine sw_get (n := 4) F 0 rfl (k := 1) ⟨(RJ10, TJ10, 9), rfl, by decide, q293, in_J10, Or.inr q294⟩ rfl dJ10_values_1 rfl ?_
  refine sw_astore_n (n := 5) F none (L2 := [(1, .null), (0, .ref q)]) rfl rfl (by decide) rfl dJ10_values_4 rfl ?_
  refine sw_aload_n (n := 6) F 0 none rfl rfl rfl dJ10_values_5 rfl ?_
  refine sw_ifnonnull (n := 9) F (o := none) rfl (tgt := 23) dJ10_values_6 (by decide) rfl (fun _ _ => ?_) (fun c_6 => ?_)
  · rename_i hq; cases hq
  ·
    refine sw_new (n := 12) F (ci := 22) (N := 1) RJ45 TJ45 tyJ45 rfl q808 q809 q164 in_J45 tyJ45_ok (fs := [.null]) rfl 0 0 ⟨by omega, by omega⟩ dJ10_values_9 rfl (fun q_1 => ?_)
    refine sw_dup (n := 13) F rfl dJ10_values_12 rfl ?_
    refine sw_aload_n (n := 14) F 1 (some q) rfl rfl rfl dJ10_values_13 rfl ?_
    refine sw_callI (n := 17) F (ct_J45_init (g := xg x) (l := xl x) q_1 q ) q810 q811 q164 q812 rfl nd_J45_init rfl (by decide) [0, 1, 2, 3] (perm_ok _ 4 (by decide +kernel) rfl) [ob (xg x) q 14 [.null, .null, .null, va_rf rt, .int (jI (↑n)), .int (jI mc), .null, .null, .null], nd (xg x) Ks ka va L R P cl, pl (xg x) M] rfl 0 0 ⟨by omega, by omega⟩ [.ref q_1] rfl (Nat.le_of_ble_eq_true rfl) dJ10_values_14 rfl (fun _ _ h => h.elim) (fun v Ws h => ?_)
    obtain ⟨rfl, rfl⟩ := h
    show SW x [ob (xg x) q_1 22 [.ref q], ob (xg x) q 14 [.null, .null, .null, va_rf rt, .int (jI (↑n)), .int (jI mc), .null, .null, .null], nd (xg x) Ks ka va L R P cl, pl (xg x) M] _ _ _ _ [.ref q_1]
    refine sw_astore_n (n := 18) F (some q_1) (L2 := [(1, .ref q_1), (0, .ref q)]) rfl rfl (by decide) rfl dJ10_values_17 rfl ?_
    refine sw_aload_n (n := 19) F 1 (some q) rfl rfl rfl dJ10_values_18 rfl ?_
    refine sw_aload_n (n := 20) F 0 (some q_1) rfl rfl rfl dJ10_values_19 rfl ?_
    refine sw_put (n := 23) F 1 rfl (k := 1) ⟨(RJ10, TJ10, 9), rfl, by decide, q293, in_J10, Or.inr q294⟩ (tyJ10 1) ⟨(RJ10, TJ10, 9), rfl, rfl, tyJ10_ok 1 (by decide), nmJ10, tyJ10, tyJ10_ok⟩ rfl rfl (Nat.le_of_ble_eq_true rfl) rfl [ob (xg x) q_1 22 [.ref q], ob (xg x) q 14 [.null, .ref q_1, .null, va_rf rt, .int (jI (↑n)), .int (jI mc), .null, .null, .null], nd (xg x) Ks ka va L R P cl, pl (xg x) M] rfl dJ10_values_20 rfl ?_
    show SW x [vO (xg x) (some q_1) q, ob (xg x) q 14 [.null, .ref q_1, .null, va_rf rt, .int (jI (↑n)), .int (jI mc), .null, .null, .null], nd (xg x) Ks ka va L R P cl, pl (xg x) M] _ _ _ _ _
    refine sw_perm [1, 2, 0, 3] (perm_ok _ 4 (by decide +kernel) rfl) [ob (xg x) q 14 [.null, .ref q_1, .null, va_rf rt, .int (jI (↑n)), .int (jI mc), .null, .null, .null], nd (xg x) Ks ka va L R P cl, vO (xg x) (some q_1) q, pl (xg x) M] rfl ?_; refine sw_tmClose (vs := (some q_1)) (n := n) (f := f) (M := M) hT hND (by (repeat' first | assumption | exact Or.inl rfl | exact Or.inr rfl | apply clO_b | refine cb_up ?_ ?_ | refine cb_cu ?_ ?_)) hka hmf ?_
    refine sw_aload_n (n := 24) F 0 (some q_1) rfl rfl rfl dJ10_values_23 rfl ?_
    exact sw_aret F (some q_1) _ rfl rfl (by first | exact Or.inl ⟨_, rfl⟩ | exact Or.inr ⟨_, rfl⟩) dJ10_values_24 (by rw [hPo]; exact ⟨q_1, rfl, rfl⟩)
set_option maxRecDepth 100000 in
set_option maxHeartbeats 16000000 in
theorem ct_J10_values_s {g : GG} {l : Launch} (M : Nat → Option PV) (q : Nat) (vs : Option Nat) (mc : Int) (n : Nat) (f : Int → Option Nat) (v : Nat)  : Ct g l yJ10_values (ws_ yJ10_values cJ10_values 2 (Option.some (Jvm.ClassFile.FieldType.object "java/util/Collection"))) 1 12 0 0 [.ref q] [tmap g M q (some v) mc n f, pl g M] (fun v9 Ws9 => v9 = some (.ref v) ∧ Ws9 = [tmap g M q (some v) mc n f, pl g M]) (nox) := by
  refine Ct.of (cc := cJ10_values) (nL := 2) (ret := (Option.some (Jvm.ClassFile.FieldType.object "java/util/Collection"))) (by decide) rfl (Nat.le_of_ble_eq_true rfl) ?_
  intro x hg hl hPo hPx hmc hms F
  subst hg; subst hl
  refine SW.cast (L' := [(0, .ref q)]) ?_ rfl rfl rfl
  refine sw_tmOpen (fun rt Ks ka va L R P cl rk lo hi hT hND hcb hka hmf => ?_)
  refine sw_aload_n (n := 1) F 0 (some q) rfl rfl rfl dJ10_values_0 rfl ?_
  refine sw_get (n := 4) F 0 rfl (k := 1) ⟨(RJ10, TJ10, 9), rfl, by decide, q293, in_J10, Or.inr q294⟩ rfl dJ10_values_1 rfl ?_
  refine sw_astore_n (n := 5) F (some v) (L2 := [(1, .ref v), (0, .ref q)]) rfl rfl (by decide) rfl dJ10_values_4 rfl ?_
  refine sw_aload_n (n := 6) F 0 (some v) rfl rfl rfl dJ10_values_5 rfl ?_
  refine sw_ifnonnull (n := 9) F (o := (some v)) rfl (tgt := 23) dJ10_values_6 (by decide) rfl (fun _ _ => ?_) (fun c_6 => ?_)
  ·
    refine sw_tmClose (vs := (some v)) (n := n) (f := f) (M := M) hT hND (by (repeat' first | assumption | exact Or.inl rfl | exact Or.inr rfl | apply clO_b | refine cb_up ?_ ?_ | refine cb_cu ?_ ?_)) hka hmf ?_
    refine sw_aload_n (n := 24) F 0 (some v) rfl rfl rfl dJ10_values_23 rfl ?_
    exact sw_aret F (some v) _ rfl rfl (by first | exact Or.inl ⟨_, rfl⟩ | exact Or.inr ⟨_, rfl⟩) dJ10_values_24 (by rw [hPo]; exact ⟨rfl, rfl⟩)
  · cases c_6
theorem nd_J47_init : yJ47_init.cls ≠ "java/lang/invoke/MethodHandle" ∧ yJ47_init.cls ≠ "java/lang/invoke/VarHandle" ∧ (parseMethodDescriptor yJ47_init.desc).map (fun d => d.parameters.length) = some 2 := by decide +kernel
set_option maxRecDepth 100000 in
set_option maxHeartbeats 16000000 in
theorem ct_J47_init {g : GG} {l : Launch} (it : Nat) (q : Nat) (vs : Option Nat) (rt : Option Nat) (sz : Int) (mc : Int) (o : Option Nat)  : Ct g l yJ47_init (ws_ yJ47_init cJ47_init 3 (Option.none : Option Jvm.ClassFile.FieldType)) 1 12 0 0 [.ref it, .ref q, va_rf o] [ob g it 23 [.null, .null, .int (jI 0), .null], ob g q 14 [.null, va_rf vs, .null, va_rf rt, .int (jI sz), .int (jI mc), .null, .null, .null]] (fun v9 Ws9 => v9 = none ∧ Ws9 = [ob g it 23 [va_rf o, .null, .int (jI mc), .ref q], ob g q 14 [.null, va_rf vs, .null, va_rf rt, .int (jI sz), .int (jI mc), .null, .null, .null]]) (nox) := by
  refine Ct.of (cc := cJ47_init) (nL := 3) (ret := (Option.none : Option Jvm.ClassFile.FieldType)) (by decide) rfl (by cases o <;> exact Nat.le_of_ble_eq_true rfl) ?_
  intro x hg hl hPo hPx hmc hms F
  subst hg; subst hl
  refine SW.cast (L' := [(0, .ref it), (1, .ref q), (2, va_rf o)]) ?_ rfl (by cases o <;> rfl) rfl
  refine sw_aload_n (n := 1) F 0 (some it) rfl rfl rfl dJ47_init_0 rfl ?_
  refine sw_aload_n (n := 2) F 1 (some q) rfl rfl rfl dJ47_init_1 rfl ?_
  refine sw_putF (n := 5) F rfl 0 rfl (k := 3) ⟨(RJ49, TJ49, 4), rfl, by decide, q901, in_J49, Or.inl rfl⟩ (tyJ49 3) ⟨(RJ49, TJ49, 4), rfl, rfl, rfl, tyJ49_ok 3 (by decide), nmJ49, tyJ49, tyJ49_ok⟩ rfl rfl (Nat.le_of_ble_eq_true rfl) rfl [ob (xg x) it 23 [.null, .null, .int (jI 0), .ref q], ob (xg x) q 14 [.null, va_rf vs, .null, va_rf rt, .int (jI sz), .int (jI mc), .null, .null, .null]] rfl dJ47_init_2 rfl ?_
  refine sw_aload_n (n := 6) F 0 (some it) rfl rfl rfl dJ47_init_5 rfl ?_
  refine sw_objInit (n := 9) F q897 q_oi q_oc (by decide) dJ47_init_6 rfl ?_
  refine sw_aload_n (n := 10) F 0 (some it) rfl rfl rfl dJ47_init_9 rfl ?_
  refine sw_aload_n (n := 11) F 1 (some q) rfl rfl rfl dJ47_init_10 rfl ?_
  refine sw_getN (n := 14) F 1 rfl (k := 5) ⟨(RJ10, TJ10, 9), _, rfl, by decide, q291, in_J10, Or.inl rfl⟩ rfl dJ47_init_11 rfl ?_
  refine sw_put (n := 17) F 0 rfl (k := 2) ⟨(RJ49, TJ49, 4), rfl, by decide, q900, in_J49, Or.inl rfl⟩ .int ⟨(RJ49, TJ49, 4), rfl, rfl, tyJ49_ok 2 (by decide), nmJ49, tyJ49, tyJ49_ok⟩ rfl rfl (Nat.le_of_ble_eq_true rfl) rfl [ob (xg x) it 23 [.null, .null, .int (jI mc), .ref q], ob (xg x) q 14 [.null, va_rf vs, .null, va_rf rt, .int (jI sz), .int (jI mc), .null, .null, .null]] rfl dJ47_init_14 rfl ?_
  refine sw_aload_n (n := 18) F 0 (some it) rfl rfl rfl dJ47_init_17 rfl ?_
  refine sw_null (n := 19) F dJ47_init_18 rfl ?_
  refine sw_put (n := 22) F 0 rfl (k := 1) ⟨(RJ49, TJ49, 4), rfl, by decide, q899, in_J49, Or.inl rfl⟩ (tyJ49 1) ⟨(RJ49, TJ49, 4), rfl, rfl, tyJ49_ok 1 (by decide), nmJ49, tyJ49, tyJ49_ok⟩ rfl rfl (Nat.le_of_ble_eq_true rfl) rfl [ob (xg x) it 23 [.null, .null, .int (jI mc), .ref q], ob (xg x) q 14 [.null, va_rf vs, .null, va_rf rt, .int (jI sz), .int (jI mc), .null, .null, .null]] rfl dJ47_init_19 rfl ?_
  refine sw_aload_n (n := 23) F 0 (some it) rfl rfl rfl dJ47_init_22 rfl ?_
  refine sw_aload_n (n := 24) F 2 o rfl rfl rfl dJ47_init_23 rfl ?_
  refine sw_put (n := 27) F 0 rfl (k := 0) ⟨(RJ49, TJ49, 4), rfl, by decide, q898, in_J49, Or.inl rfl⟩ (tyJ49 0) ⟨(RJ49, TJ49, 4), rfl, rfl, tyJ49_ok 0 (by decide), nmJ49, tyJ49, tyJ49_ok⟩ (va_rf_nar _ (by decide)) (va_rf_fit _ (by decide)) (Nat.le_of_ble_eq_true rfl) rfl [ob (xg x) it 23 [va_rf o, .null, .int (jI mc), .ref q], ob (xg x) q 14 [.null, va_rf vs, .null, va_rf rt, .int (jI sz), .int (jI mc), .null, .null, .null]] rfl dJ47_init_24 rfl ?_
  exact sw_vret F rfl dJ47_init_27 (by rw [hPo]; exact ⟨rfl, rfl⟩)
theorem nd_J49_init : yJ49_init.cls ≠ "java/lang/invoke/MethodHandle" ∧ yJ49_init.cls ≠ "java/lang/invoke/VarHandle" ∧ (parseMethodDescriptor yJ49_init.desc).map (fun d => d.parameters.length) = some 2 := by decide +kernel
set_option maxRecDepth 100000 in
set_option maxHeartbeats 16000000 in
theorem ct_J49_init {g : GG} {l : Launch} (it : Nat) (q : Nat) (vs : Option Nat) (rt : Option Nat) (sz : Int) (mc : Int) (o : Option Nat)  : Ct g l yJ49_init (ws_ yJ49_init cJ49_init 3 (Option.none : Option Jvm.ClassFile.FieldType)) 2 34 0 0 [.ref it, .ref q, va_rf o] [ob g it 23 [.null, .null, .int (jI 0), .null], ob g q 14 [.null, va_rf vs, .null, va_rf rt, .int (jI sz), .int (jI mc), .null, .null, .null]] (fun v9 Ws9 => v9 = none ∧ Ws9 = [ob g it 23 [va_rf o, .null, .int (jI mc), .ref q], ob g q 14 [.null, va_rf vs, .null, va_rf rt, .int (jI sz), .int (jI mc), .null, .null, .null]]) (nox) := by
  refine Ct.of (cc := cJ49_init) (nL := 3) (ret := (Option.none : Option Jvm.ClassFile.FieldType)) (by decide) rfl (by cases o <;> exact Nat.le_of_ble_eq_true rfl) ?_
  intro x hg hl hPo hPx hmc hms F
  subst hg; subst hl
  refine SW.cast (L' := [(0, .ref it), (1, .ref q), (2, va_rf o)]) ?_ rfl (by cases o <;> rfl) rfl
  refine sw_aload_n (n := 1) F 0 (some it) rfl rfl rfl dJ49_init_0 rfl ?_
  refine sw_aload_n (n := 2) F 1 (some q) rfl rfl rfl dJ49_init_1 rfl ?_
  refine sw_aload_n (n := 3) F 2 o rfl rfl rfl dJ49_init_2 rfl ?_
  refine sw_callI (n := 6) F (ct_J47_init (g := xg x) (l := xl x) it q vs rt sz mc o ) q923 q895 q166 q896 rfl nd_J47_init rfl (by decide) [0, 1] rfl [] rfl 0 0 ⟨by omega, by omega⟩ [] rfl (Nat.le_of_ble_eq_true rfl) dJ49_init_3 rfl (fun _ _ h => h.elim) (fun v Ws h => ?_)
  obtain ⟨rfl, rfl⟩ := h
  show SW x [ob (xg x) it 23 [va_rf o, .null, .int (jI mc), .ref q], ob (xg x) q 14 [.null, va_rf vs, .null, va_rf rt, .int (jI sz), .int (jI mc), .null, .null, .null]] _ _ _ _ []
  exact sw_vret F rfl dJ49_init_6 (by rw [hPo]; exact ⟨rfl, rfl⟩)
theorem nd_J45_iterator : yJ45_iterator.cls ≠ "java/lang/invoke/MethodHandle" ∧ yJ45_iterator.cls ≠ "java/lang/invoke/VarHandle" ∧ (parseMethodDescriptor yJ45_iterator.desc).map (fun d => d.parameters.length) = some 0 := by decide +kernel
set_option maxRecDepth 100000 in
set_option maxHeartbeats 16000000 in
theorem ct_J45_iterator {g : GG} {l : Launch} (M : Nat → Option PV) (q : Nat) (vs : Option Nat) (mc : Int) (n : Nat) (f : Int → Option Nat) (v : Nat)  : Ct g l yJ45_iterator (ws_ yJ45_iterator cJ45_iterator 1 (Option.some (Jvm.ClassFile.FieldType.object "java/util/Iterator"))) 3 56 1 4 [.ref v] [tmap g M q (some v) mc n f, pl g M] (fun v9 Ws9 => ∃ it : Nat, v9 = some (.ref it) ∧ Ws9 = [tmIt g M q (some v) mc n f it (-2147483649), pl g M]) (nox) := by
  refine Ct.of (cc := cJ45_iterator) (nL := 1) (ret := (Option.some (Jvm.ClassFile.FieldType.object "java/util/Iterator"))) (by decide) rfl (Nat.le_of_ble_eq_true rfl) ?_
  intro x hg hl hPo hPx hmc hms F
  subst hg; subst hl
  refine SW.cast (L' := [(0, .ref v)]) ?_ rfl rfl rfl
  refine sw_tmOpen (fun rt Ks ka va L R P cl rk lo hi hT hND hcb hka hmf => ?_)
  show SW x [ob (xg x) q 14 [.null, .ref v, .null, va_rf rt, .int (jI (↑n)), .int (jI mc), .null, .null, .null], nd (xg x) Ks ka va L R P cl, ob (xg x) v 22 [.ref q], pl (xg x) M] _ _ _ _ _
  refine sw_new (n := 3) F (ci := 23) (N := 4) RJ49 TJ49 tyJ49 rfl q917 q918 q168 in_J49 tyJ49_ok (fs := [.null, .null, .int (jI 0), .null]) rfl 0 0 ⟨by omega, by omega⟩ dJ45_iterator_0 rfl (fun q_1 => ?_)
  refine sw_dup (n := 4) F rfl dJ45_iterator_3 rfl ?_
  refine sw_aload_n (n := 5) F 0 (some v) rfl rfl rfl dJ45_iterator_4 rfl ?_
  refine sw_get (n := 8) F 3 rfl (k := 0) ⟨(RJ45, TJ45, 1), rfl, by decide, q814, in_J45, Or.inl rfl⟩ rfl dJ45_iterator_5 rfl ?_
  refine sw_aload_n (n := 9) F 0 (some v) rfl rfl rfl dJ45_iterator_8 rfl ?_
  refine sw_get (n := 12) F 3 rfl (k := 0) ⟨(RJ45, TJ45, 1), rfl, by decide, q814, in_J45, Or.inl rfl⟩ rfl dJ45_iterator_9 rfl ?_
  refine sw_callV (n := 15) F (ct_J10_getFirstEntry (g := xg x) (l := xl x) Ks ka va L R P cl q (some v) rt (↑n) mc rk lo hi hT) (rcv_ob F 1 rfl rfl) q919 q888 q889 q114 q890 nd_J10_getFirstEntry rfl (by decide) [1, 2, 0, 3, 4] (perm_ok _ 5 (by decide +kernel) rfl) [ob (xg x) q_1 23 [.null, .null, .int (jI 0), .null], ob (xg x) v 22 [.ref q], pl (xg x) M] rfl 0 0 ⟨by omega, by omega⟩ [.ref q, .ref q_1, .ref q_1] rfl (Nat.le_of_ble_eq_true rfl) dJ45_iterator_12 rfl (fun _ _ h => h.elim) (fun v Ws h => ?_)
  obtain ⟨o1_2, rfl, hs_3, rfl⟩ := h
  show SW x [ob (xg x) q 14 [.null, va_rf (some v), .null, va_rf rt, .int (jI (↑n)), .int (jI mc), .null, .null, .null], nd (xg x) Ks ka va L R P cl, ob (xg x) q_1 23 [.null, .null, .int (jI 0), .null], ob (xg x) v 22 [.ref q], pl (xg x) M] _ _ _ _ [va_rf o1_2, .ref q, .ref q_1, .ref q_1]
  refine sw_callI (n := 18) F (ct_J49_init (g := xg x) (l := xl x) q_1 q (some v) rt (↑n) mc o1_2 ) q920 q921 q168 q922 rfl nd_J49_init rfl (by decide) [2, 0, 1, 3, 4] (perm_ok _ 5 (by decide +kernel) rfl) [nd (xg x) Ks ka va L R P cl, ob (xg x) v 22 [.ref q], pl (xg x) M] rfl 0 0 ⟨by omega, by omega⟩ [.ref q_1] rfl (Nat.le_of_ble_eq_true rfl) dJ45_iterator_15 rfl (fun _ _ h => h.elim) (fun v Ws h => ?_)
  obtain ⟨rfl, rfl⟩ := h
  show SW x [ob (xg x) q_1 23 [va_rf o1_2, .null, .int (jI mc), .ref q], ob (xg x) q 14 [.null, va_rf (some v), .null, va_rf rt, .int (jI (↑n)), .int (jI mc), .null, .null, .null], nd (xg x) Ks ka va L R P cl, ob (xg x) v 22 [.ref q], pl (xg x) M] _ _ _ _ [.ref q_1]
  show SW x [ob (xg x) q_1 23 [va_rf o1_2, .null, .int (jI mc), .ref q], ob (xg x) q 14 [.null, va_rf (some v), .null, va_rf rt, .int (jI (↑n)), .int (jI mc), .null, .null, .null], nd (xg x) Ks ka va L R P cl, vO (xg x) (some v) q, pl (xg x) M] _ _ _ _ _
  refine sw_perm [1, 2, 3, 0, 4] (perm_ok _ 5 (by decide +kernel) rfl) [ob (xg x) q 14 [.null, va_rf (some v), .null, va_rf rt, .int (jI (↑n)), .int (jI mc), .null, .null, .null], nd (xg x) Ks ka va L R P cl, vO (xg x) (some v) q, ob (xg x) q_1 23 [va_rf o1_2, .null, .int (jI mc), .ref q], pl (xg x) M] rfl ?_; refine sw_itClose (vs := (some v)) (o := o1_2) (lr := none) (n := n) (f := f) (M := M) (z := -2147483649) hT hND hcb hka hmf hs_3 ?_
  exact sw_aret F (some q_1) _ rfl rfl (by first | exact Or.inl ⟨_, rfl⟩ | exact Or.inr ⟨_, rfl⟩) dJ45_iterator_18 (by rw [hPo]; exact ⟨q_1, rfl, rfl⟩)
theorem nd_J47_hasNext : yJ47_hasNext.cls ≠ "java/lang/invoke/MethodHandle" ∧ yJ47_hasNext.cls ≠ "java/lang/invoke/VarHandle" ∧ (parseMethodDescriptor yJ47_hasNext.desc).map (fun d => d.parameters.length) = some 0 := by decide +kernel
set_option maxRecDepth 100000 in
set_option maxHeartbeats 16000000 in
theorem ct_J47_hasNext {g : GG} {l : Launch} (M : Nat → Option PV) (q : Nat) (vs : Option Nat) (mc : Int) (n : Nat) (f : Int → Option Nat) (it : Nat) (z : Int)  : Ct g l yJ47_hasNext (ws_ yJ47_hasNext cJ47_hasNext 1 (Option.some Jvm.ClassFile.FieldType.boolean)) 1 12 0 0 [.ref it] [tmIt g M q vs mc n f it z, pl g M] (fun v9 Ws9 => ∃ b : Int, ∃ y : Int, v9 = some (.int (jI b)) ∧ ((b = 1 ∧ z < y ∧ f y ≠ none ∧ ∀ k, z < k → k < y → f k = none) ∨ (b = 0 ∧ ∀ k, z < k → f k = none)) ∧ Ws9 = [tmIt g M q vs mc n f it z, pl g M]) (nox) := by
  refine Ct.of (cc := cJ47_hasNext) (nL := 1) (ret := (Option.some Jvm.ClassFile.FieldType.boolean)) (by decide) rfl (Nat.le_of_ble_eq_true rfl) ?_
  intro x hg hl hPo hPx hmc hms F
  subst hg; subst hl
  refine SW.cast (L' := [(0, .ref it)]) ?_ rfl rfl rfl
  refine sw_itOpen (fun rt Ks ka va L R P cl rk lo hi o lr hT hND hcb hka hmf hnx => ?_)
  refine sw_aload_n (n := 1) F 0 (some it) rfl rfl rfl dJ47_hasNext_0 rfl ?_
  refine sw_get (n := 4) F 3 rfl (k := 0) ⟨(RJ49, TJ49, 4), rfl, by decide, q898, in_J49, Or.inl rfl⟩ rfl dJ47_hasNext_1 rfl ?_
  refine sw_ifnull (n := 7) F (o := o) rfl (tgt := 11) dJ47_hasNext_4 (by decide) rfl (fun c_4 => ?_) (fun q_1 c_4 => ?_)
  ·
    refine sw_iconst (n := 12) F (0) (by decide) dJ47_hasNext_11 rfl ?_
    refine sw_itClose (vs := vs) (o := o) (lr := lr) (n := n) (f := f) (M := M) (z := z) hT hND hcb hka hmf hnx ?_
    exact sw_iret F _ rfl (by first | rfl | exact jI_nz (by omega) | exact jI_nc (by omega)) dJ47_hasNext_12 (by rw [hPo]; exact ⟨0, rkO rk o, rfl, (by first | (have h8 := hmf.hi (ka := ka) hnx; rcases h8 with ⟨h9, h7⟩ | ⟨⟨_, h9⟩, h7⟩; (first | exact Or.inr ⟨rfl, h7⟩ | (rw [c_4] at h9; cases h9)); first | exact Or.inl ⟨rfl, h7⟩ | (rw [c_4] at h9; cases h9))), rfl⟩)
  ·
    refine sw_iconst (n := 8) F (1) (by decide) dJ47_hasNext_7 rfl ?_
    refine sw_goto F (n := 12) dJ47_hasNext_8 (by decide) ?_
    refine sw_itClose (vs := vs) (o := o) (lr := lr) (n := n) (f := f) (M := M) (z := z) hT hND hcb hka hmf hnx ?_
    exact sw_iret F _ rfl (by first | rfl | exact jI_nz (by omega) | exact jI_nc (by omega)) dJ47_hasNext_12 (by rw [hPo]; exact ⟨1, rkO rk o, rfl, (by first | (have h8 := hmf.hi (ka := ka) hnx; rcases h8 with ⟨h9, h7⟩ | ⟨⟨_, h9⟩, h7⟩; (first | exact Or.inr ⟨rfl, h7⟩ | (rw [c_4] at h9; cases h9)); first | exact Or.inl ⟨rfl, h7⟩ | (rw [c_4] at h9; cases h9))), rfl⟩)
theorem nd_J47_nextEntry : yJ47_nextEntry.cls ≠ "java/lang/invoke/MethodHandle" ∧ yJ47_nextEntry.cls ≠ "java/lang/invoke/VarHandle" ∧ (parseMethodDescriptor yJ47_nextEntry.desc).map (fun d => d.parameters.length) = some 0 := by decide +kernel
set_option maxRecDepth 100000 in
set_option maxHeartbeats 16000000 in
theorem ct_J47_nextEntry {g : GG} {l : Launch} (Ks : List Nat) (ka : Nat → Nat) (va : Nat → Nat) (L : OP) (R : OP) (P : OP) (cl : Nat → Int) (q : Nat) (vs : Option Nat) (rt : Option Nat) (sz : Int) (mc : Int) (rk : Nat → Int) (lo : Nat → Int) (hi : Nat → Int) (it : Nat) (t : Nat) (lr : Option Nat) (hT : TrI Ks L R P rk lo hi rt) (ht : t ∈ Ks) : Ct g l yJ47_nextEntry (ws_ yJ47_nextEntry cJ47_nextEntry 2 (Option.some (Jvm.ClassFile.FieldType.object "java/util/TreeMap$Entry"))) 2 34 0 0 [.ref it] [ob g it 23 [.ref t, va_rf lr, .int (jI mc), .ref q], ob g q 14 [.null, va_rf vs, .null, va_rf rt, .int (jI sz), .int (jI mc), .null, .null, .null], nd g Ks ka va L R P cl] (fun v9 Ws9 => ∃ o1 : Option Nat, v9 = some (.ref t) ∧ (isHi Ks rk (rk t) o1) ∧ Ws9 = [ob g it 23 [va_rf o1, .ref t, .int (jI mc), .ref q], ob g q 14 [.null, va_rf vs, .null, va_rf rt, .int (jI sz), .int (jI mc), .null, .null, .null], nd g Ks ka va L R P cl]) (nox) := by
  refine Ct.of (cc := cJ47_nextEntry) (nL := 2) (ret := (Option.some (Jvm.ClassFile.FieldType.object "java/util/TreeMap$Entry"))) (by decide) rfl (Nat.le_of_ble_eq_true rfl) ?_
  intro x hg hl hPo hPx hmc hms F
  subst hg; subst hl
  refine SW.cast (L' := [(0, .ref it)]) ?_ rfl rfl rfl
  refine sw_aload_n (n := 1) F 0 (some it) rfl rfl rfl dJ47_nextEntry_0 rfl ?_
  refine sw_get (n := 4) F 0 rfl (k := 0) ⟨(RJ49, TJ49, 4), rfl, by decide, q898, in_J49, Or.inl rfl⟩ rfl dJ47_nextEntry_1 rfl ?_
  refine sw_astore_n (n := 5) F (some t) (L2 := [(1, .ref t), (0, .ref it)]) rfl rfl (by decide) rfl dJ47_nextEntry_4 rfl ?_
  refine sw_aload_n (n := 6) F 0 (some t) rfl rfl rfl dJ47_nextEntry_5 rfl ?_
  refine sw_ifnonnull (n := 9) F (o := (some t)) rfl (tgt := 17) dJ47_nextEntry_6 (by decide) rfl (fun _ _ => ?_) (fun c_6 => ?_)
  ·
    refine sw_aload_n (n := 18) F 1 (some it) rfl rfl rfl dJ47_nextEntry_17 rfl ?_
    refine sw_get (n := 21) F 0 rfl (k := 3) ⟨(RJ49, TJ49, 4), rfl, by decide, q901, in_J49, Or.inl rfl⟩ rfl dJ47_nextEntry_18 rfl ?_
    refine sw_getN (n := 24) F 1 rfl (k := 5) ⟨(RJ10, TJ10, 9), _, rfl, by decide, q291, in_J10, Or.inl rfl⟩ rfl dJ47_nextEntry_21 rfl ?_
    refine sw_aload_n (n := 25) F 1 (some it) rfl rfl rfl dJ47_nextEntry_24 rfl ?_
    refine sw_get (n := 28) F 0 rfl (k := 2) ⟨(RJ49, TJ49, 4), rfl, by decide, q900, in_J49, Or.inl rfl⟩ rfl dJ47_nextEntry_25 rfl ?_
    refine sw_icmp_eqS (n := 31) F (tgt := 39) dJ47_nextEntry_28 (by decide) rfl ?_
    refine sw_aload_n (n := 40) F 1 (some it) rfl rfl rfl dJ47_nextEntry_39 rfl ?_
    refine sw_aload_n (n := 41) F 0 (some t) rfl rfl rfl dJ47_nextEntry_40 rfl ?_
    refine sw_callS (n := 44) F (ct_J10_successor (g := xg x) (l := xl x) Ks ka va L R P cl rk lo hi t rt hT ht) q1018 q1019 q114 q1020 nd_J10_successor rfl (by decide) [2, 0, 1] rfl [ob (xg x) it 23 [.ref t, va_rf lr, .int (jI mc), .ref q], ob (xg x) q 14 [.null, va_rf vs, .null, va_rf rt, .int (jI sz), .int (jI mc), .null, .null, .null]] rfl 0 0 ⟨by omega, by omega⟩ [.ref it] rfl (Nat.le_of_ble_eq_true rfl) dJ47_nextEntry_41 rfl (fun _ _ h => h.elim) (fun v Ws h => ?_)
    obtain ⟨o1_1, rfl, hs_2, hl_3, rfl⟩ := h
    show SW x [nd (xg x) Ks ka va L R P cl, ob (xg x) it 23 [.ref t, va_rf lr, .int (jI mc), .ref q], ob (xg x) q 14 [.null, va_rf vs, .null, va_rf rt, .int (jI sz), .int (jI mc), .null, .null, .null]] _ _ _ _ [va_rf o1_1, .ref it]
    refine sw_put (n := 47) F 1 rfl (k := 0) ⟨(RJ49, TJ49, 4), rfl, by decide, q898, in_J49, Or.inl rfl⟩ (tyJ49 0) ⟨(RJ49, TJ49, 4), rfl, rfl, tyJ49_ok 0 (by decide), nmJ49, tyJ49, tyJ49_ok⟩ (va_rf_nar _ (by decide)) (va_rf_fit _ (by decide)) (Nat.le_of_ble_eq_true rfl) rfl [nd (xg x) Ks ka va L R P cl, ob (xg x) it 23 [va_rf o1_1, va_rf lr, .int (jI mc), .ref q], ob (xg x) q 14 [.null, va_rf vs, .null, va_rf rt, .int (jI sz), .int (jI mc), .null, .null, .null]] rfl dJ47_nextEntry_44 rfl ?_
    refine sw_aload_n (n := 48) F 1 (some it) rfl rfl rfl dJ47_nextEntry_47 rfl ?_
    refine sw_aload_n (n := 49) F 0 (some t) rfl rfl rfl dJ47_nextEntry_48 rfl ?_
    refine sw_put (n := 52) F 1 rfl (k := 1) ⟨(RJ49, TJ49, 4), rfl, by decide, q899, in_J49, Or.inl rfl⟩ (tyJ49 1) ⟨(RJ49, TJ49, 4), rfl, rfl, tyJ49_ok 1 (by decide), nmJ49, tyJ49, tyJ49_ok⟩ rfl rfl (Nat.le_of_ble_eq_true rfl) rfl [nd (xg x) Ks ka va L R P cl, ob (xg x) it 23 [va_rf o1_1, .ref t, .int (jI mc), .ref q], ob (xg x) q 14 [.null, va_rf vs, .null, va_rf rt, .int (jI sz), .int (jI mc), .null, .null, .null]] rfl dJ47_nextEntry_49 rfl ?_
    refine sw_aload_n (n := 53) F 0 (some t) rfl rfl rfl dJ47_nextEntry_52 rfl ?_
    refine sw_perm [1, 2, 0] rfl [ob (xg x) it 23 [va_rf o1_1, .ref t, .int (jI mc), .ref q], ob (xg x) q 14 [.null, va_rf vs, .null, va_rf rt, .int (jI sz), .int (jI mc), .null, .null, .null], nd (xg x) Ks ka va L R P cl] rfl ?_
    exact sw_aret F (some t) _ rfl rfl (by first | exact Or.inl ⟨_, rfl⟩ | exact Or.inr ⟨_, rfl⟩) dJ47_nextEntry_53 (by rw [hPo]; exact ⟨o1_1, rfl, hs_2, rfl⟩)
  · cases c_6
theorem ndU_J47_nextEntry : "java/util/TreeMap$PrivateEntryIterator" ≠ "java/lang/invoke/MethodHandle" ∧ "java/util/TreeMap$PrivateEntryIterator" ≠ "java/lang/invoke/VarHandle" ∧ (parseMethodDescriptor "()Ljava/util/TreeMap$Entry;").map (fun d => d.parameters.length) = some 0 := by decide +kernel
theorem nd_J49_next : yJ49_next.cls ≠ "java/lang/invoke/MethodHandle" ∧ yJ49_next.cls ≠ "java/lang/invoke/VarHandle" ∧ (parseMethodDescriptor yJ49_next.desc).map (fun d => d.parameters.length) = some 0 := by decide +kernel
set_option maxRecDepth 100000 in
set_option maxHeartbeats 16000000 in
theorem ct_J49_next {g : GG} {l : Launch} (M : Nat → Option PV) (q : Nat) (vs : Option Nat) (mc : Int) (n : Nat) (f : Int → Option Nat) (it : Nat) (z : Int) (y : Int) (hnz : z < y ∧ f y ≠ none ∧ ∀ k, z < k → k < y → f k = none) : Ct g l yJ49_next (ws_ yJ49_next cJ49_next 1 (Option.some (Jvm.ClassFile.FieldType.object "java/lang/Object"))) 3 55 0 0 [.ref it] [tmIt g M q vs mc n f it z, pl g M] (fun v9 Ws9 => ∃ r1 : Nat, v9 = some (.ref r1) ∧ (f y = some r1) ∧ Ws9 = [tmIt g M q vs mc n f it y, pl g M]) (nox) := by
  refine Ct.of (cc := cJ49_next) (nL := 1) (ret := (Option.some (Jvm.ClassFile.FieldType.object "java/lang/Object"))) (by decide) rfl (Nat.le_of_ble_eq_true rfl) ?_
  intro x hg hl hPo hPx hmc hms F
  subst hg; subst hl
  refine SW.cast (L' := [(0, .ref it)]) ?_ rfl rfl rfl
  refine sw_itOpen (fun rt Ks ka va L R P cl rk lo hi o lr hT hND hcb hka hmf hnx => ?_)
  obtain ⟨t, ht, htK, hty⟩ := (show ∃ t, o = some t ∧ t ∈ Ks ∧ rk t = y by obtain ⟨u, hu, hu2⟩ := hmf.ex hnz.2.1; cases e9 : o with | none => (have h1 := hnx.2 e9 u hu; omega) | some t => (obtain ⟨h1, h2, h3⟩ := hnx.1 t e9; refine ⟨t, rfl, h1, ?_⟩; have h4 := h3 u hu (by omega); by_cases h5 : rk t < y; exact absurd (hnz.2.2 _ h2 h5) (by rw [hmf.sm h1]; simp); omega))
  subst ht
  show SW x [ob (xg x) q 14 [.null, va_rf vs, .null, va_rf rt, .int (jI (↑n)), .int (jI mc), .null, .null, .null], nd (xg x) Ks ka va L R P cl, vO (xg x) vs q, ob (xg x) it 23 [.ref t, va_rf lr, .int (jI mc), .ref q], pl (xg x) M] _ _ _ _ _
  refine sw_aload_n (n := 1) F 0 (some it) rfl rfl rfl dJ49_next_0 rfl ?_
  refine sw_callU (n := 4) F (ct_J47_nextEntry (g := xg x) (l := xl x) Ks ka va L R P cl q vs rt (↑n) mc rk lo hi it t lr hT htK) (kn_rcv F 3 rfl kn_ob rfl) (fun R h1 h2 => va_cwU 0 F.wd (lw_app (lw_5 q1026 q1027 q1028 q1014 q166) (lw_meth q1015)) rfl rfl rfl rfl ndU_J47_nextEntry ⟨h1, h2⟩) rfl (by decide) [3, 0, 1, 2, 4] (perm_ok _ 5 (by decide +kernel) rfl) [vO (xg x) vs q, pl (xg x) M] rfl 0 0 ⟨by omega, by omega⟩ [] rfl (Nat.le_of_ble_eq_true rfl) dJ49_next_1 rfl (fun _ _ h => h.elim) (fun v Ws h => ?_)
  obtain ⟨o1_1, rfl, hs_2, rfl⟩ := h
  show SW x [ob (xg x) it 23 [va_rf o1_1, .ref t, .int (jI mc), .ref q], ob (xg x) q 14 [.null, va_rf vs, .null, va_rf rt, .int (jI (↑n)), .int (jI mc), .null, .null, .null], nd (xg x) Ks ka va L R P cl, vO (xg x) vs q, pl (xg x) M] _ _ _ _ [.ref t]
  refine sw_getK (n := 7) F (nd_hO 2 rfl htK) (k := 1) ⟨(RJ41, TJ41, 6), rfl, by decide, q3147, in_J41, Or.inl rfl⟩ (v := .ref (va t)) rfl dJ49_next_4 rfl ?_
  refine sw_perm [1, 2, 3, 0, 4] (perm_ok _ 5 (by decide +kernel) rfl) [ob (xg x) q 14 [.null, va_rf vs, .null, va_rf rt, .int (jI (↑n)), .int (jI mc), .null, .null, .null], nd (xg x) Ks ka va L R P cl, vO (xg x) vs q, ob (xg x) it 23 [va_rf o1_1, .ref t, .int (jI mc), .ref q], pl (xg x) M] rfl ?_; refine sw_itClose (vs := vs) (o := o1_1) (lr := (some t)) (n := n) (f := f) (M := M) (z := y) hT hND hcb hka hmf (hty ▸ hs_2) ?_
  exact sw_aret F (some (va t)) _ rfl rfl (by first | exact Or.inl ⟨_, rfl⟩ | exact Or.inr ⟨_, rfl⟩) dJ49_next_7 (by rw [hPo]; exact ⟨va t, rfl, (by exact hty ▸ hmf.sm htK), rfl⟩)
