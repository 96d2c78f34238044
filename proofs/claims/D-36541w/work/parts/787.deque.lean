/-! java.util.ArrayDeque: n elements in a ring, none of them null -/
def rg (h k N : Nat) : Nat := if h + k < N then h + k else h + k - N
theorem rg_c (h k N : Nat) : (h + k < N ∧ rg h k N = h + k) ∨ (N ≤ h + k ∧ rg h k N = h + k - N) := by unfold rg; split <;> omega
def dq (g : GG) (q n : Nat) (e : Nat → Nat) : HP := fun h => ∃ (a N hd tl : Nat) (f : Nat → Option Nat), sl [ob g q 15 [.ref a, .int (jI (hd : Int)), .int (jI (tl : Int))], aQ g 5 a N f] h ∧ (n + 1 ≤ N ∧ 17 ≤ N ∧ N ≤ 130 ∧ hd < N ∧ tl = rg hd n N) ∧ ∀ k, k < n → f (rg hd k N) = some (e k)
theorem kn_dq {g : GG} {q n : Nat} {e : Nat → Nat} : kn g (dq g q n e) q 15 := Or.inl fun h hp => by
  obtain ⟨a, N, hd, tl, f, ⟨h1, h2, hD, rfl, ⟨c, rfl, r, -, k1, k2, -⟩, -⟩, -⟩ := hp
  exact ⟨c, by simp [ph_U, ph_1], k1, by rw [k2]; rfl⟩
theorem dq_cong {g : GG} {q n : Nat} {e e' : Nat → Nat} (he : ∀ k, k < n → e' k = e k) : ∀ h, dq g q n e h → dq g q n e' h := fun h ⟨a, N, hd, tl, f, h1, h2, h3⟩ => ⟨a, N, hd, tl, f, h1, h2, fun k hk => by rw [he k hk]; exact h3 k hk⟩
section DEQUE
variable {x : EX} {bc bs pc : Nat} {L : List (Nat × Value)} {st : List Value} {q n : Nat} {e : Nat → Nat}
theorem sw_dqOpen {Rs : List HP} (kk : ∀ (a N hd tl : Nat) (f : Nat → Option Nat), (n + 1 ≤ N ∧ 17 ≤ N ∧ N ≤ 130 ∧ hd < N) → tl = rg hd n N → (∀ k, k < n → f (rg hd k N) = some (e k)) → SW x (ob (xg x) q 15 [.ref a, .int (jI (hd : Int)), .int (jI (tl : Int))] :: aQ (xg x) 5 a N f :: Rs) bc bs pc L st) : SW x (dq (xg x) q n e :: Rs) bc bs pc L st := by
  intro H locs h uc us ls I hL
  obtain ⟨hs, hS, hA, hV, i1, i2⟩ := I
  obtain ⟨a, b, hd, rfl, ⟨a2, N, h2, tl, f, k1, ⟨k2, k3, k4, k5, k6⟩, k7⟩, hR⟩ := hs
  exact kk a2 N h2 tl f ⟨k2, k3, k4, k5⟩ k6 k7 H locs _ uc us ls ⟨(sl_app (Ps := [_, _]) _).mpr ⟨a, b, hd, rfl, k1, hR⟩, hS, hA, hV, i1, i2⟩ hL
theorem sw_dqClose {Rs : List HP} {a N hd tl : Nat} {f : Nat → Option Nat} (e : Nat → Nat) (h1 : n + 1 ≤ N ∧ 17 ≤ N ∧ N ≤ 130 ∧ hd < N ∧ tl = rg hd n N) (h2 : ∀ k, k < n → f (rg hd k N) = some (e k)) (kk : SW x (dq (xg x) q n e :: Rs) bc bs pc L st) : SW x (ob (xg x) q 15 [.ref a, .int (jI (hd : Int)), .int (jI (tl : Int))] :: aQ (xg x) 5 a N f :: Rs) bc bs pc L st :=
  sw_fold (Qs := [_, _]) (fun h hq => ⟨a, N, hd, tl, f, hq, h1, h2⟩) kk
end DEQUE
theorem dq_last {h n N : Nat} (hn : n + 2 ≤ N) (hh : h < N) : rg h n N = (if rg h (n + 1) N = 0 then N - 1 else rg h (n + 1) N - 1) := by
  have h1 := rg_c h n N; have h2 := rg_c h (n + 1) N; split <;> omega
theorem dq_put {h n N : Nat} {f : Nat → Option Nat} {e : Nat → Nat} {v : Nat} (hn : n < N) (hh : h < N) (hf : ∀ k, k < n → f (rg h k N) = some (e k)) : ∀ k, k < n + 1 → va_up f (rg h n N) (some v) (rg h k N) = some (va_up e n v k) := by
  intro k hk
  have h1 := rg_c h n N; have h2 := rg_c h k N
  unfold va_up
  by_cases e1 : k = n
  · subst e1; rw [if_pos rfl, if_pos rfl]
  · rw [if_neg e1, if_neg (by omega)]; exact hf k (by omega)
theorem dq_del {h n N : Nat} {f : Nat → Option Nat} {e : Nat → Nat} (hn : n < N) (hh : h < N) (hf : ∀ k, k < n + 1 → f (rg h k N) = some (e k)) : ∀ k, k < n → va_up f (rg h n N) none (rg h k N) = some (e k) := by
  intro k hk
  have h1 := rg_c h n N; have h2 := rg_c h k N
  unfold va_up
  rw [if_neg (by omega)]; exact hf k (by omega)
/-- the ring behind its growth -/
theorem dq_grow {h N j : Nat} {f f1 f2 : Nat → Option Nat} {e : Nat → Nat} (hh : h < N) (hj : 0 < j) (h1 : ∀ k, k < N → f1 k = f k) (hf : ∀ k, k < N → f (rg h k N) = some (e k)) (h2 : ∀ p, f2 p = if h ≤ p ∧ p < h + j then none else va_cpy f1 f1 h (h + j) (N - h) p) : ∀ k, k < N → f2 (rg (h + j) k (N + j)) = some (e k) := by
  intro k hk
  have c1 := rg_c h k N; have c2 := rg_c (h + j) k (N + j)
  rw [h2, if_neg (by omega)]
  unfold va_cpy
  rcases c1 with ⟨c, e1⟩ | ⟨c, e1⟩
  · rw [if_pos (by omega), h1 _ (by omega), ← hf k hk, e1]; congr 1; omega
  · rw [if_neg (by omega), h1 _ (by omega), ← hf k hk, e1]; congr 1; omega
theorem dq_all {g : GG} {P : HP} {E : String} {h N : Nat} {f : Nat → Option Nat} {e : Nat → Nat} (hh : h < N) (hf : ∀ k, k < N → f (rg h k N) = some (e k)) (hk : ∀ k, k < N → kno g P (e k) E) : ∀ p, p < N → ∀ v, f p = some v → kno g P v E := by
  intro p hp v hv
  have hx : ∃ k, k < N ∧ rg h k N = p := by
    by_cases c : h ≤ p
    · exact ⟨p - h, by omega, by have := rg_c h (p - h) N; omega⟩
    · exact ⟨p + N - h, by omega, by have := rg_c h (p + N - h) N; omega⟩
  obtain ⟨k, h1, h2⟩ := hx
  have h3 := hf k h1
  rw [h2, hv] at h3
  cases h3
  exact hk k h1
theorem dq_inc {h n N tl : Nat} (hn : n + 1 ≤ N) (hh : h < N) (ht : tl = rg h n N) : (if tl + 1 < N then tl + 1 else 0) = rg h (n + 1) N := by
  have h1 := rg_c h n N; have h2 := rg_c h (n + 1) N; split <;> omega
theorem dq_step {h i : Nat} {f2 g : Nat → Option Nat} (hi : h ≤ i) (h2 : ∀ p, f2 p = if h ≤ p ∧ p < i then none else g p) : ∀ p, va_up f2 i none p = if h ≤ p ∧ p < i + 1 then none else g p := by
  intro p; unfold va_up
  by_cases e : p = i
  · rw [if_pos e, if_pos (by omega)]
  · rw [if_neg e, h2 p]
    by_cases c : h ≤ p ∧ p < i
    · rw [if_pos c, if_pos (by omega)]
    · rw [if_neg c, if_neg (by omega)]
set_option maxRecDepth 100000
def dkwJ11_init_0 : List UInt8 := [42, 183, 0, 42, 42, 16, 17, 189, 0, 47, 181, 0, 3, 177]
abbrev dktJ11_init_0 : List UInt8 := dkwJ11_init_0 ++ []
theorem dksJ11_init_0 : cJ11_init.data.toList.drop 0 = dktJ11_init_0 := by decide +kernel
theorem dJ11_init_0 : decode cJ11_init 0 = .ok (.aload_n 0, 1) := dk_42 (dk_at dksJ11_init_0 0 rfl rfl)
theorem dJ11_init_1 : decode cJ11_init 1 = .ok (.invokespecial 42, 3) := dk_183 0 42 (dk_at dksJ11_init_0 1 rfl rfl)
theorem dJ11_init_4 : decode cJ11_init 4 = .ok (.aload_n 0, 1) := dk_42 (dk_at dksJ11_init_0 4 rfl rfl)
theorem dJ11_init_5 : decode cJ11_init 5 = .ok (.bipush 17, 2) := dk_16 17 (dk_at dksJ11_init_0 5 rfl rfl)
theorem dJ11_init_7 : decode cJ11_init 7 = .ok (.anewarray 47, 3) := dk_189 0 47 (dk_at dksJ11_init_0 7 rfl rfl)
theorem dJ11_init_10 : decode cJ11_init 10 = .ok (.putfield 3, 3) := dk_181 0 3 (dk_at dksJ11_init_0 10 rfl rfl)
theorem dJ11_init_13 : decode cJ11_init 13 = .ok (.return_, 1) := dk_177 (dk_at dksJ11_init_0 13 rfl rfl)
def dkwJ11_inc_0 : List UInt8 := [132, 0, 1, 26, 27, 161, 0, 5, 3, 59, 26, 172]
abbrev dktJ11_inc_0 : List UInt8 := dkwJ11_inc_0 ++ []
theorem dksJ11_inc_0 : cJ11_inc.data.toList.drop 0 = dktJ11_inc_0 := by decide +kernel
theorem dJ11_inc_0 : decode cJ11_inc 0 = .ok (.iinc 0 1, 3) := dk_132 0 1 (dk_at dksJ11_inc_0 0 rfl rfl)
theorem dJ11_inc_3 : decode cJ11_inc 3 = .ok (.iload_n 0, 1) := dk_26 (dk_at dksJ11_inc_0 3 rfl rfl)
theorem dJ11_inc_4 : decode cJ11_inc 4 = .ok (.iload_n 1, 1) := dk_27 (dk_at dksJ11_inc_0 4 rfl rfl)
theorem dJ11_inc_5 : decode cJ11_inc 5 = .ok (.if_icmp .lt 5, 3) := dk_161 0 5 (dk_at dksJ11_inc_0 5 rfl rfl)
theorem dJ11_inc_8 : decode cJ11_inc 8 = .ok (.iconst 0, 1) := dk_3 (dk_at dksJ11_inc_0 8 rfl rfl)
theorem dJ11_inc_9 : decode cJ11_inc 9 = .ok (.istore_n 0, 1) := dk_59 (dk_at dksJ11_inc_0 9 rfl rfl)
theorem dJ11_inc_10 : decode cJ11_inc 10 = .ok (.iload_n 0, 1) := dk_26 (dk_at dksJ11_inc_0 10 rfl rfl)
theorem dJ11_inc_11 : decode cJ11_inc 11 = .ok (.ireturn, 1) := dk_172 (dk_at dksJ11_inc_0 11 rfl rfl)
def dkwJ11_addLast_2 : List UInt8 := [182, 0, 71, 177]
abbrev dktJ11_addLast_2 : List UInt8 := dkwJ11_addLast_2 ++ []
def dkwJ11_addLast_1 : List UInt8 := [42, 180, 0, 24, 42, 42, 180, 0, 20, 44, 190, 184, 0, 74, 90, 181, 0, 20, 160, 0, 8, 42, 4]
abbrev dktJ11_addLast_1 : List UInt8 := dkwJ11_addLast_1 ++ dktJ11_addLast_2
def dkwJ11_addLast_0 : List UInt8 := [43, 199, 0, 11, 187, 0, 65, 89, 183, 0, 67, 191, 42, 180, 0, 3, 77, 44, 42, 180, 0, 20, 43, 83]
abbrev dktJ11_addLast_0 : List UInt8 := dkwJ11_addLast_0 ++ dktJ11_addLast_1
theorem dksJ11_addLast_0 : cJ11_addLast.data.toList.drop 0 = dktJ11_addLast_0 := by decide +kernel
theorem dksJ11_addLast_1 : cJ11_addLast.data.toList.drop 24 = dktJ11_addLast_1 := dk_seg dksJ11_addLast_0 24 rfl rfl
theorem dksJ11_addLast_2 : cJ11_addLast.data.toList.drop 47 = dktJ11_addLast_2 := dk_seg dksJ11_addLast_1 23 rfl rfl
theorem dJ11_addLast_0 : decode cJ11_addLast 0 = .ok (.aload_n 1, 1) := dk_43 (dk_at dksJ11_addLast_0 0 rfl rfl)
theorem dJ11_addLast_1 : decode cJ11_addLast 1 = .ok (.ifnonnull 11, 3) := dk_199 0 11 (dk_at dksJ11_addLast_0 1 rfl rfl)
theorem dJ11_addLast_4 : decode cJ11_addLast 4 = .ok (.new 65, 3) := dk_187 0 65 (dk_at dksJ11_addLast_0 4 rfl rfl)
theorem dJ11_addLast_7 : decode cJ11_addLast 7 = .ok (.dup, 1) := dk_89 (dk_at dksJ11_addLast_0 7 rfl rfl)
theorem dJ11_addLast_8 : decode cJ11_addLast 8 = .ok (.invokespecial 67, 3) := dk_183 0 67 (dk_at dksJ11_addLast_0 8 rfl rfl)
theorem dJ11_addLast_11 : decode cJ11_addLast 11 = .ok (.athrow, 1) := dk_191 (dk_at dksJ11_addLast_0 11 rfl rfl)
theorem dJ11_addLast_12 : decode cJ11_addLast 12 = .ok (.aload_n 0, 1) := dk_42 (dk_at dksJ11_addLast_0 12 rfl rfl)
theorem dJ11_addLast_13 : decode cJ11_addLast 13 = .ok (.getfield 3, 3) := dk_180 0 3 (dk_at dksJ11_addLast_0 13 rfl rfl)
theorem dJ11_addLast_16 : decode cJ11_addLast 16 = .ok (.astore_n 2, 1) := dk_77 (dk_at dksJ11_addLast_0 16 rfl rfl)
theorem dJ11_addLast_17 : decode cJ11_addLast 17 = .ok (.aload_n 2, 1) := dk_44 (dk_at dksJ11_addLast_0 17 rfl rfl)
theorem dJ11_addLast_18 : decode cJ11_addLast 18 = .ok (.aload_n 0, 1) := dk_42 (dk_at dksJ11_addLast_0 18 rfl rfl)
theorem dJ11_addLast_19 : decode cJ11_addLast 19 = .ok (.getfield 20, 3) := dk_180 0 20 (dk_at dksJ11_addLast_0 19 rfl rfl)
theorem dJ11_addLast_22 : decode cJ11_addLast 22 = .ok (.aload_n 1, 1) := dk_43 (dk_at dksJ11_addLast_0 22 rfl rfl)
theorem dJ11_addLast_23 : decode cJ11_addLast 23 = .ok (.aastore, 1) := dk_83 (dk_at dksJ11_addLast_0 23 rfl rfl)
theorem dJ11_addLast_24 : decode cJ11_addLast 24 = .ok (.aload_n 0, 1) := dk_42 (dk_at dksJ11_addLast_1 0 rfl rfl)
theorem dJ11_addLast_25 : decode cJ11_addLast 25 = .ok (.getfield 24, 3) := dk_180 0 24 (dk_at dksJ11_addLast_1 1 rfl rfl)
theorem dJ11_addLast_28 : decode cJ11_addLast 28 = .ok (.aload_n 0, 1) := dk_42 (dk_at dksJ11_addLast_1 4 rfl rfl)
theorem dJ11_addLast_29 : decode cJ11_addLast 29 = .ok (.aload_n 0, 1) := dk_42 (dk_at dksJ11_addLast_1 5 rfl rfl)
theorem dJ11_addLast_30 : decode cJ11_addLast 30 = .ok (.getfield 20, 3) := dk_180 0 20 (dk_at dksJ11_addLast_1 6 rfl rfl)
theorem dJ11_addLast_33 : decode cJ11_addLast 33 = .ok (.aload_n 2, 1) := dk_44 (dk_at dksJ11_addLast_1 9 rfl rfl)
theorem dJ11_addLast_34 : decode cJ11_addLast 34 = .ok (.arraylength, 1) := dk_190 (dk_at dksJ11_addLast_1 10 rfl rfl)
theorem dJ11_addLast_35 : decode cJ11_addLast 35 = .ok (.invokestatic 74, 3) := dk_184 0 74 (dk_at dksJ11_addLast_1 11 rfl rfl)
theorem dJ11_addLast_38 : decode cJ11_addLast 38 = .ok (.dup_x1, 1) := dk_90 (dk_at dksJ11_addLast_1 14 rfl rfl)
theorem dJ11_addLast_39 : decode cJ11_addLast 39 = .ok (.putfield 20, 3) := dk_181 0 20 (dk_at dksJ11_addLast_1 15 rfl rfl)
theorem dJ11_addLast_42 : decode cJ11_addLast 42 = .ok (.if_icmp .ne 8, 3) := dk_160 0 8 (dk_at dksJ11_addLast_1 18 rfl rfl)
theorem dJ11_addLast_45 : decode cJ11_addLast 45 = .ok (.aload_n 0, 1) := dk_42 (dk_at dksJ11_addLast_1 21 rfl rfl)
theorem dJ11_addLast_46 : decode cJ11_addLast 46 = .ok (.iconst 1, 1) := dk_4 (dk_at dksJ11_addLast_1 22 rfl rfl)
theorem dJ11_addLast_47 : decode cJ11_addLast 47 = .ok (.invokevirtual 71, 3) := dk_182 0 71 (dk_at dksJ11_addLast_2 0 rfl rfl)
theorem dJ11_addLast_50 : decode cJ11_addLast 50 = .ok (.return_, 1) := dk_177 (dk_at dksJ11_addLast_2 3 rfl rfl)
def dkwJ11_grow_7 : List UInt8 := [177]
abbrev dktJ11_grow_7 : List UInt8 := dkwJ11_grow_7 ++ []
def dkwJ11_grow_6 : List UInt8 := [181, 0, 24, 54, 8, 21, 7, 21, 8, 162, 0, 15, 25, 5, 21, 7, 1, 83, 132, 7, 1, 167, 255, 240]
abbrev dktJ11_grow_6 : List UInt8 := dkwJ11_grow_6 ++ dktJ11_grow_7
def dkwJ11_grow_5 : List UInt8 := [42, 180, 0, 24, 100, 184, 0, 27, 42, 180, 0, 24, 54, 7, 42, 89, 180, 0, 24, 21, 6, 96, 90]
abbrev dktJ11_grow_5 : List UInt8 := dkwJ11_grow_5 ++ dktJ11_grow_6
def dkwJ11_grow_4 : List UInt8 := [198, 0, 71, 29, 28, 100, 54, 6, 25, 5, 42, 180, 0, 24, 25, 5, 42, 180, 0, 24, 21, 6, 96, 28]
abbrev dktJ11_grow_4 : List UInt8 := dkwJ11_grow_4 ++ dktJ11_grow_5
def dkwJ11_grow_3 : List UInt8 := [180, 0, 24, 161, 0, 24, 42, 180, 0, 20, 42, 180, 0, 24, 160, 0, 81, 25, 5, 42, 180, 0, 24, 50]
abbrev dktJ11_grow_3 : List UInt8 := dkwJ11_grow_3 ++ dktJ11_grow_4
def dkwJ11_grow_2 : List UInt8 := [182, 0, 10, 62, 42, 42, 180, 0, 3, 29, 184, 0, 14, 90, 181, 0, 3, 58, 5, 42, 180, 0, 20, 42]
abbrev dktJ11_grow_2 : List UInt8 := dkwJ11_grow_2 ++ dktJ11_grow_3
def dkwJ11_grow_1 : List UInt8 := [21, 4, 27, 161, 0, 15, 28, 21, 4, 96, 89, 62, 18, 9, 100, 158, 0, 11, 42, 27, 21, 4]
abbrev dktJ11_grow_1 : List UInt8 := dkwJ11_grow_1 ++ dktJ11_grow_2
def dkwJ11_grow_0 : List UInt8 := [42, 180, 0, 3, 190, 61, 28, 16, 64, 162, 0, 9, 28, 5, 96, 167, 0, 6, 28, 4, 122, 54, 4]
abbrev dktJ11_grow_0 : List UInt8 := dkwJ11_grow_0 ++ dktJ11_grow_1
theorem dksJ11_grow_0 : cJ11_grow.data.toList.drop 0 = dktJ11_grow_0 := by decide +kernel
theorem dksJ11_grow_1 : cJ11_grow.data.toList.drop 23 = dktJ11_grow_1 := dk_seg dksJ11_grow_0 23 rfl rfl
theorem dksJ11_grow_2 : cJ11_grow.data.toList.drop 45 = dktJ11_grow_2 := dk_seg dksJ11_grow_1 22 rfl rfl
theorem dksJ11_grow_3 : cJ11_grow.data.toList.drop 69 = dktJ11_grow_3 := dk_seg dksJ11_grow_2 24 rfl rfl
theorem dksJ11_grow_4 : cJ11_grow.data.toList.drop 93 = dktJ11_grow_4 := dk_seg dksJ11_grow_3 24 rfl rfl
theorem dksJ11_grow_5 : cJ11_grow.data.toList.drop 117 = dktJ11_grow_5 := dk_seg dksJ11_grow_4 24 rfl rfl
theorem dksJ11_grow_6 : cJ11_grow.data.toList.drop 140 = dktJ11_grow_6 := dk_seg dksJ11_grow_5 23 rfl rfl
theorem dksJ11_grow_7 : cJ11_grow.data.toList.drop 164 = dktJ11_grow_7 := dk_seg dksJ11_grow_6 24 rfl rfl
theorem dJ11_grow_0 : decode cJ11_grow 0 = .ok (.aload_n 0, 1) := dk_42 (dk_at dksJ11_grow_0 0 rfl rfl)
theorem dJ11_grow_1 : decode cJ11_grow 1 = .ok (.getfield 3, 3) := dk_180 0 3 (dk_at dksJ11_grow_0 1 rfl rfl)
theorem dJ11_grow_4 : decode cJ11_grow 4 = .ok (.arraylength, 1) := dk_190 (dk_at dksJ11_grow_0 4 rfl rfl)
theorem dJ11_grow_5 : decode cJ11_grow 5 = .ok (.istore_n 2, 1) := dk_61 (dk_at dksJ11_grow_0 5 rfl rfl)
theorem dJ11_grow_6 : decode cJ11_grow 6 = .ok (.iload_n 2, 1) := dk_28 (dk_at dksJ11_grow_0 6 rfl rfl)
theorem dJ11_grow_7 : decode cJ11_grow 7 = .ok (.bipush 64, 2) := dk_16 64 (dk_at dksJ11_grow_0 7 rfl rfl)
theorem dJ11_grow_9 : decode cJ11_grow 9 = .ok (.if_icmp .ge 9, 3) := dk_162 0 9 (dk_at dksJ11_grow_0 9 rfl rfl)
theorem dJ11_grow_12 : decode cJ11_grow 12 = .ok (.iload_n 2, 1) := dk_28 (dk_at dksJ11_grow_0 12 rfl rfl)
theorem dJ11_grow_13 : decode cJ11_grow 13 = .ok (.iconst 2, 1) := dk_5 (dk_at dksJ11_grow_0 13 rfl rfl)
theorem dJ11_grow_14 : decode cJ11_grow 14 = .ok (.iadd, 1) := dk_96 (dk_at dksJ11_grow_0 14 rfl rfl)
theorem dJ11_grow_15 : decode cJ11_grow 15 = .ok (.goto 6, 3) := dk_167 0 6 (dk_at dksJ11_grow_0 15 rfl rfl)
theorem dJ11_grow_18 : decode cJ11_grow 18 = .ok (.iload_n 2, 1) := dk_28 (dk_at dksJ11_grow_0 18 rfl rfl)
theorem dJ11_grow_19 : decode cJ11_grow 19 = .ok (.iconst 1, 1) := dk_4 (dk_at dksJ11_grow_0 19 rfl rfl)
theorem dJ11_grow_20 : decode cJ11_grow 20 = .ok (.ishr, 1) := dk_122 (dk_at dksJ11_grow_0 20 rfl rfl)
theorem dJ11_grow_21 : decode cJ11_grow 21 = .ok (.istore 4, 2) := dk_54 4 (dk_at dksJ11_grow_0 21 rfl rfl)
theorem dJ11_grow_23 : decode cJ11_grow 23 = .ok (.iload 4, 2) := dk_21 4 (dk_at dksJ11_grow_1 0 rfl rfl)
theorem dJ11_grow_25 : decode cJ11_grow 25 = .ok (.iload_n 1, 1) := dk_27 (dk_at dksJ11_grow_1 2 rfl rfl)
theorem dJ11_grow_26 : decode cJ11_grow 26 = .ok (.if_icmp .lt 15, 3) := dk_161 0 15 (dk_at dksJ11_grow_1 3 rfl rfl)
theorem dJ11_grow_29 : decode cJ11_grow 29 = .ok (.iload_n 2, 1) := dk_28 (dk_at dksJ11_grow_1 6 rfl rfl)
theorem dJ11_grow_30 : decode cJ11_grow 30 = .ok (.iload 4, 2) := dk_21 4 (dk_at dksJ11_grow_1 7 rfl rfl)
theorem dJ11_grow_32 : decode cJ11_grow 32 = .ok (.iadd, 1) := dk_96 (dk_at dksJ11_grow_1 9 rfl rfl)
theorem dJ11_grow_33 : decode cJ11_grow 33 = .ok (.dup, 1) := dk_89 (dk_at dksJ11_grow_1 10 rfl rfl)
theorem dJ11_grow_34 : decode cJ11_grow 34 = .ok (.istore_n 3, 1) := dk_62 (dk_at dksJ11_grow_1 11 rfl rfl)
theorem dJ11_grow_35 : decode cJ11_grow 35 = .ok (.ldc 9, 2) := dk_18 9 (dk_at dksJ11_grow_1 12 rfl rfl)
theorem dJ11_grow_37 : decode cJ11_grow 37 = .ok (.isub, 1) := dk_100 (dk_at dksJ11_grow_1 14 rfl rfl)
theorem dJ11_grow_38 : decode cJ11_grow 38 = .ok (.ifCond .le 11, 3) := dk_158 0 11 (dk_at dksJ11_grow_1 15 rfl rfl)
theorem dJ11_grow_41 : decode cJ11_grow 41 = .ok (.aload_n 0, 1) := dk_42 (dk_at dksJ11_grow_1 18 rfl rfl)
theorem dJ11_grow_42 : decode cJ11_grow 42 = .ok (.iload_n 1, 1) := dk_27 (dk_at dksJ11_grow_1 19 rfl rfl)
theorem dJ11_grow_43 : decode cJ11_grow 43 = .ok (.iload 4, 2) := dk_21 4 (dk_at dksJ11_grow_1 20 rfl rfl)
theorem dJ11_grow_45 : decode cJ11_grow 45 = .ok (.invokevirtual 10, 3) := dk_182 0 10 (dk_at dksJ11_grow_2 0 rfl rfl)
theorem dJ11_grow_48 : decode cJ11_grow 48 = .ok (.istore_n 3, 1) := dk_62 (dk_at dksJ11_grow_2 3 rfl rfl)
theorem dJ11_grow_49 : decode cJ11_grow 49 = .ok (.aload_n 0, 1) := dk_42 (dk_at dksJ11_grow_2 4 rfl rfl)
theorem dJ11_grow_50 : decode cJ11_grow 50 = .ok (.aload_n 0, 1) := dk_42 (dk_at dksJ11_grow_2 5 rfl rfl)
theorem dJ11_grow_51 : decode cJ11_grow 51 = .ok (.getfield 3, 3) := dk_180 0 3 (dk_at dksJ11_grow_2 6 rfl rfl)
theorem dJ11_grow_54 : decode cJ11_grow 54 = .ok (.iload_n 3, 1) := dk_29 (dk_at dksJ11_grow_2 9 rfl rfl)
theorem dJ11_grow_55 : decode cJ11_grow 55 = .ok (.invokestatic 14, 3) := dk_184 0 14 (dk_at dksJ11_grow_2 10 rfl rfl)
theorem dJ11_grow_58 : decode cJ11_grow 58 = .ok (.dup_x1, 1) := dk_90 (dk_at dksJ11_grow_2 13 rfl rfl)
theorem dJ11_grow_59 : decode cJ11_grow 59 = .ok (.putfield 3, 3) := dk_181 0 3 (dk_at dksJ11_grow_2 14 rfl rfl)
theorem dJ11_grow_62 : decode cJ11_grow 62 = .ok (.astore 5, 2) := dk_58 5 (dk_at dksJ11_grow_2 17 rfl rfl)
theorem dJ11_grow_64 : decode cJ11_grow 64 = .ok (.aload_n 0, 1) := dk_42 (dk_at dksJ11_grow_2 19 rfl rfl)
theorem dJ11_grow_65 : decode cJ11_grow 65 = .ok (.getfield 20, 3) := dk_180 0 20 (dk_at dksJ11_grow_2 20 rfl rfl)
theorem dJ11_grow_68 : decode cJ11_grow 68 = .ok (.aload_n 0, 1) := dk_42 (dk_at dksJ11_grow_2 23 rfl rfl)
theorem dJ11_grow_69 : decode cJ11_grow 69 = .ok (.getfield 24, 3) := dk_180 0 24 (dk_at dksJ11_grow_3 0 rfl rfl)
theorem dJ11_grow_72 : decode cJ11_grow 72 = .ok (.if_icmp .lt 24, 3) := dk_161 0 24 (dk_at dksJ11_grow_3 3 rfl rfl)
theorem dJ11_grow_75 : decode cJ11_grow 75 = .ok (.aload_n 0, 1) := dk_42 (dk_at dksJ11_grow_3 6 rfl rfl)
theorem dJ11_grow_76 : decode cJ11_grow 76 = .ok (.getfield 20, 3) := dk_180 0 20 (dk_at dksJ11_grow_3 7 rfl rfl)
theorem dJ11_grow_79 : decode cJ11_grow 79 = .ok (.aload_n 0, 1) := dk_42 (dk_at dksJ11_grow_3 10 rfl rfl)
theorem dJ11_grow_80 : decode cJ11_grow 80 = .ok (.getfield 24, 3) := dk_180 0 24 (dk_at dksJ11_grow_3 11 rfl rfl)
theorem dJ11_grow_83 : decode cJ11_grow 83 = .ok (.if_icmp .ne 81, 3) := dk_160 0 81 (dk_at dksJ11_grow_3 14 rfl rfl)
theorem dJ11_grow_86 : decode cJ11_grow 86 = .ok (.aload 5, 2) := dk_25 5 (dk_at dksJ11_grow_3 17 rfl rfl)
theorem dJ11_grow_88 : decode cJ11_grow 88 = .ok (.aload_n 0, 1) := dk_42 (dk_at dksJ11_grow_3 19 rfl rfl)
theorem dJ11_grow_89 : decode cJ11_grow 89 = .ok (.getfield 24, 3) := dk_180 0 24 (dk_at dksJ11_grow_3 20 rfl rfl)
theorem dJ11_grow_92 : decode cJ11_grow 92 = .ok (.aaload, 1) := dk_50 (dk_at dksJ11_grow_3 23 rfl rfl)
theorem dJ11_grow_93 : decode cJ11_grow 93 = .ok (.ifnull 71, 3) := dk_198 0 71 (dk_at dksJ11_grow_4 0 rfl rfl)
theorem dJ11_grow_96 : decode cJ11_grow 96 = .ok (.iload_n 3, 1) := dk_29 (dk_at dksJ11_grow_4 3 rfl rfl)
theorem dJ11_grow_97 : decode cJ11_grow 97 = .ok (.iload_n 2, 1) := dk_28 (dk_at dksJ11_grow_4 4 rfl rfl)
theorem dJ11_grow_98 : decode cJ11_grow 98 = .ok (.isub, 1) := dk_100 (dk_at dksJ11_grow_4 5 rfl rfl)
theorem dJ11_grow_99 : decode cJ11_grow 99 = .ok (.istore 6, 2) := dk_54 6 (dk_at dksJ11_grow_4 6 rfl rfl)
theorem dJ11_grow_101 : decode cJ11_grow 101 = .ok (.aload 5, 2) := dk_25 5 (dk_at dksJ11_grow_4 8 rfl rfl)
theorem dJ11_grow_103 : decode cJ11_grow 103 = .ok (.aload_n 0, 1) := dk_42 (dk_at dksJ11_grow_4 10 rfl rfl)
theorem dJ11_grow_104 : decode cJ11_grow 104 = .ok (.getfield 24, 3) := dk_180 0 24 (dk_at dksJ11_grow_4 11 rfl rfl)
theorem dJ11_grow_107 : decode cJ11_grow 107 = .ok (.aload 5, 2) := dk_25 5 (dk_at dksJ11_grow_4 14 rfl rfl)
theorem dJ11_grow_109 : decode cJ11_grow 109 = .ok (.aload_n 0, 1) := dk_42 (dk_at dksJ11_grow_4 16 rfl rfl)
theorem dJ11_grow_110 : decode cJ11_grow 110 = .ok (.getfield 24, 3) := dk_180 0 24 (dk_at dksJ11_grow_4 17 rfl rfl)
theorem dJ11_grow_113 : decode cJ11_grow 113 = .ok (.iload 6, 2) := dk_21 6 (dk_at dksJ11_grow_4 20 rfl rfl)
theorem dJ11_grow_115 : decode cJ11_grow 115 = .ok (.iadd, 1) := dk_96 (dk_at dksJ11_grow_4 22 rfl rfl)
theorem dJ11_grow_116 : decode cJ11_grow 116 = .ok (.iload_n 2, 1) := dk_28 (dk_at dksJ11_grow_4 23 rfl rfl)
theorem dJ11_grow_117 : decode cJ11_grow 117 = .ok (.aload_n 0, 1) := dk_42 (dk_at dksJ11_grow_5 0 rfl rfl)
theorem dJ11_grow_118 : decode cJ11_grow 118 = .ok (.getfield 24, 3) := dk_180 0 24 (dk_at dksJ11_grow_5 1 rfl rfl)
theorem dJ11_grow_121 : decode cJ11_grow 121 = .ok (.isub, 1) := dk_100 (dk_at dksJ11_grow_5 4 rfl rfl)
theorem dJ11_grow_122 : decode cJ11_grow 122 = .ok (.invokestatic 27, 3) := dk_184 0 27 (dk_at dksJ11_grow_5 5 rfl rfl)
theorem dJ11_grow_125 : decode cJ11_grow 125 = .ok (.aload_n 0, 1) := dk_42 (dk_at dksJ11_grow_5 8 rfl rfl)
theorem dJ11_grow_126 : decode cJ11_grow 126 = .ok (.getfield 24, 3) := dk_180 0 24 (dk_at dksJ11_grow_5 9 rfl rfl)
theorem dJ11_grow_129 : decode cJ11_grow 129 = .ok (.istore 7, 2) := dk_54 7 (dk_at dksJ11_grow_5 12 rfl rfl)
theorem dJ11_grow_131 : decode cJ11_grow 131 = .ok (.aload_n 0, 1) := dk_42 (dk_at dksJ11_grow_5 14 rfl rfl)
theorem dJ11_grow_132 : decode cJ11_grow 132 = .ok (.dup, 1) := dk_89 (dk_at dksJ11_grow_5 15 rfl rfl)
theorem dJ11_grow_133 : decode cJ11_grow 133 = .ok (.getfield 24, 3) := dk_180 0 24 (dk_at dksJ11_grow_5 16 rfl rfl)
theorem dJ11_grow_136 : decode cJ11_grow 136 = .ok (.iload 6, 2) := dk_21 6 (dk_at dksJ11_grow_5 19 rfl rfl)
theorem dJ11_grow_138 : decode cJ11_grow 138 = .ok (.iadd, 1) := dk_96 (dk_at dksJ11_grow_5 21 rfl rfl)
theorem dJ11_grow_139 : decode cJ11_grow 139 = .ok (.dup_x1, 1) := dk_90 (dk_at dksJ11_grow_5 22 rfl rfl)
theorem dJ11_grow_140 : decode cJ11_grow 140 = .ok (.putfield 24, 3) := dk_181 0 24 (dk_at dksJ11_grow_6 0 rfl rfl)
theorem dJ11_grow_143 : decode cJ11_grow 143 = .ok (.istore 8, 2) := dk_54 8 (dk_at dksJ11_grow_6 3 rfl rfl)
theorem dJ11_grow_145 : decode cJ11_grow 145 = .ok (.iload 7, 2) := dk_21 7 (dk_at dksJ11_grow_6 5 rfl rfl)
theorem dJ11_grow_147 : decode cJ11_grow 147 = .ok (.iload 8, 2) := dk_21 8 (dk_at dksJ11_grow_6 7 rfl rfl)
theorem dJ11_grow_149 : decode cJ11_grow 149 = .ok (.if_icmp .ge 15, 3) := dk_162 0 15 (dk_at dksJ11_grow_6 9 rfl rfl)
theorem dJ11_grow_152 : decode cJ11_grow 152 = .ok (.aload 5, 2) := dk_25 5 (dk_at dksJ11_grow_6 12 rfl rfl)
theorem dJ11_grow_154 : decode cJ11_grow 154 = .ok (.iload 7, 2) := dk_21 7 (dk_at dksJ11_grow_6 14 rfl rfl)
theorem dJ11_grow_156 : decode cJ11_grow 156 = .ok (.aconst_null, 1) := dk_1 (dk_at dksJ11_grow_6 16 rfl rfl)
theorem dJ11_grow_157 : decode cJ11_grow 157 = .ok (.aastore, 1) := dk_83 (dk_at dksJ11_grow_6 17 rfl rfl)
theorem dJ11_grow_158 : decode cJ11_grow 158 = .ok (.iinc 7 1, 3) := dk_132 7 1 (dk_at dksJ11_grow_6 18 rfl rfl)
theorem dJ11_grow_161 : decode cJ11_grow 161 = .ok (.goto (-16), 3) := dk_167 255 240 (dk_at dksJ11_grow_6 21 rfl rfl)
theorem dJ11_grow_164 : decode cJ11_grow 164 = .ok (.return_, 1) := dk_177 (dk_at dksJ11_grow_7 0 rfl rfl)
def dkwJ11_isEmpty_0 : List UInt8 := [42, 180, 0, 24, 42, 180, 0, 20, 160, 0, 7, 4, 167, 0, 4, 3, 172]
abbrev dktJ11_isEmpty_0 : List UInt8 := dkwJ11_isEmpty_0 ++ []
theorem dksJ11_isEmpty_0 : cJ11_isEmpty.data.toList.drop 0 = dktJ11_isEmpty_0 := by decide +kernel
theorem dJ11_isEmpty_0 : decode cJ11_isEmpty 0 = .ok (.aload_n 0, 1) := dk_42 (dk_at dksJ11_isEmpty_0 0 rfl rfl)
theorem dJ11_isEmpty_1 : decode cJ11_isEmpty 1 = .ok (.getfield 24, 3) := dk_180 0 24 (dk_at dksJ11_isEmpty_0 1 rfl rfl)
theorem dJ11_isEmpty_4 : decode cJ11_isEmpty 4 = .ok (.aload_n 0, 1) := dk_42 (dk_at dksJ11_isEmpty_0 4 rfl rfl)
theorem dJ11_isEmpty_5 : decode cJ11_isEmpty 5 = .ok (.getfield 20, 3) := dk_180 0 20 (dk_at dksJ11_isEmpty_0 5 rfl rfl)
theorem dJ11_isEmpty_8 : decode cJ11_isEmpty 8 = .ok (.if_icmp .ne 7, 3) := dk_160 0 7 (dk_at dksJ11_isEmpty_0 8 rfl rfl)
theorem dJ11_isEmpty_11 : decode cJ11_isEmpty 11 = .ok (.iconst 1, 1) := dk_4 (dk_at dksJ11_isEmpty_0 11 rfl rfl)
theorem dJ11_isEmpty_12 : decode cJ11_isEmpty 12 = .ok (.goto 4, 3) := dk_167 0 4 (dk_at dksJ11_isEmpty_0 12 rfl rfl)
theorem dJ11_isEmpty_15 : decode cJ11_isEmpty 15 = .ok (.iconst 0, 1) := dk_3 (dk_at dksJ11_isEmpty_0 15 rfl rfl)
theorem dJ11_isEmpty_16 : decode cJ11_isEmpty 16 = .ok (.ireturn, 1) := dk_172 (dk_at dksJ11_isEmpty_0 16 rfl rfl)
def dkwJ11_peekLast_0 : List UInt8 := [42, 180, 0, 3, 89, 76, 42, 180, 0, 20, 43, 190, 184, 0, 68, 184, 0, 103, 176]
abbrev dktJ11_peekLast_0 : List UInt8 := dkwJ11_peekLast_0 ++ []
theorem dksJ11_peekLast_0 : cJ11_peekLast.data.toList.drop 0 = dktJ11_peekLast_0 := by decide +kernel
theorem dJ11_peekLast_0 : decode cJ11_peekLast 0 = .ok (.aload_n 0, 1) := dk_42 (dk_at dksJ11_peekLast_0 0 rfl rfl)
theorem dJ11_peekLast_1 : decode cJ11_peekLast 1 = .ok (.getfield 3, 3) := dk_180 0 3 (dk_at dksJ11_peekLast_0 1 rfl rfl)
theorem dJ11_peekLast_4 : decode cJ11_peekLast 4 = .ok (.dup, 1) := dk_89 (dk_at dksJ11_peekLast_0 4 rfl rfl)
theorem dJ11_peekLast_5 : decode cJ11_peekLast 5 = .ok (.astore_n 1, 1) := dk_76 (dk_at dksJ11_peekLast_0 5 rfl rfl)
theorem dJ11_peekLast_6 : decode cJ11_peekLast 6 = .ok (.aload_n 0, 1) := dk_42 (dk_at dksJ11_peekLast_0 6 rfl rfl)
theorem dJ11_peekLast_7 : decode cJ11_peekLast 7 = .ok (.getfield 20, 3) := dk_180 0 20 (dk_at dksJ11_peekLast_0 7 rfl rfl)
theorem dJ11_peekLast_10 : decode cJ11_peekLast 10 = .ok (.aload_n 1, 1) := dk_43 (dk_at dksJ11_peekLast_0 10 rfl rfl)
theorem dJ11_peekLast_11 : decode cJ11_peekLast 11 = .ok (.arraylength, 1) := dk_190 (dk_at dksJ11_peekLast_0 11 rfl rfl)
theorem dJ11_peekLast_12 : decode cJ11_peekLast 12 = .ok (.invokestatic 68, 3) := dk_184 0 68 (dk_at dksJ11_peekLast_0 12 rfl rfl)
theorem dJ11_peekLast_15 : decode cJ11_peekLast 15 = .ok (.invokestatic 103, 3) := dk_184 0 103 (dk_at dksJ11_peekLast_0 15 rfl rfl)
theorem dJ11_peekLast_18 : decode cJ11_peekLast 18 = .ok (.areturn, 1) := dk_176 (dk_at dksJ11_peekLast_0 18 rfl rfl)
def dkwJ11_dec_0 : List UInt8 := [132, 0, 255, 26, 156, 0, 7, 27, 4, 100, 59, 26, 172]
abbrev dktJ11_dec_0 : List UInt8 := dkwJ11_dec_0 ++ []
theorem dksJ11_dec_0 : cJ11_dec.data.toList.drop 0 = dktJ11_dec_0 := by decide +kernel
theorem dJ11_dec_0 : decode cJ11_dec 0 = .ok (.iinc 0 (-1), 3) := dk_132 0 255 (dk_at dksJ11_dec_0 0 rfl rfl)
theorem dJ11_dec_3 : decode cJ11_dec 3 = .ok (.iload_n 0, 1) := dk_26 (dk_at dksJ11_dec_0 3 rfl rfl)
theorem dJ11_dec_4 : decode cJ11_dec 4 = .ok (.ifCond .ge 7, 3) := dk_156 0 7 (dk_at dksJ11_dec_0 4 rfl rfl)
theorem dJ11_dec_7 : decode cJ11_dec 7 = .ok (.iload_n 1, 1) := dk_27 (dk_at dksJ11_dec_0 7 rfl rfl)
theorem dJ11_dec_8 : decode cJ11_dec 8 = .ok (.iconst 1, 1) := dk_4 (dk_at dksJ11_dec_0 8 rfl rfl)
theorem dJ11_dec_9 : decode cJ11_dec 9 = .ok (.isub, 1) := dk_100 (dk_at dksJ11_dec_0 9 rfl rfl)
theorem dJ11_dec_10 : decode cJ11_dec 10 = .ok (.istore_n 0, 1) := dk_59 (dk_at dksJ11_dec_0 10 rfl rfl)
theorem dJ11_dec_11 : decode cJ11_dec 11 = .ok (.iload_n 0, 1) := dk_26 (dk_at dksJ11_dec_0 11 rfl rfl)
theorem dJ11_dec_12 : decode cJ11_dec 12 = .ok (.ireturn, 1) := dk_172 (dk_at dksJ11_dec_0 12 rfl rfl)
def dkwJ11_elementAt_0 : List UInt8 := [42, 27, 50, 176]
abbrev dktJ11_elementAt_0 : List UInt8 := dkwJ11_elementAt_0 ++ []
theorem dksJ11_elementAt_0 : cJ11_elementAt.data.toList.drop 0 = dktJ11_elementAt_0 := by decide +kernel
theorem dJ11_elementAt_0 : decode cJ11_elementAt 0 = .ok (.aload_n 0, 1) := dk_42 (dk_at dksJ11_elementAt_0 0 rfl rfl)
theorem dJ11_elementAt_1 : decode cJ11_elementAt 1 = .ok (.iload_n 1, 1) := dk_27 (dk_at dksJ11_elementAt_0 1 rfl rfl)
theorem dJ11_elementAt_2 : decode cJ11_elementAt 2 = .ok (.aaload, 1) := dk_50 (dk_at dksJ11_elementAt_0 2 rfl rfl)
theorem dJ11_elementAt_3 : decode cJ11_elementAt 3 = .ok (.areturn, 1) := dk_176 (dk_at dksJ11_elementAt_0 3 rfl rfl)
def dkwJ11_pollLast_1 : List UInt8 := [198, 0, 12, 43, 42, 28, 90, 181, 0, 20, 1, 83, 45, 176]
abbrev dktJ11_pollLast_1 : List UInt8 := dkwJ11_pollLast_1 ++ []
def dkwJ11_pollLast_0 : List UInt8 := [42, 180, 0, 3, 89, 76, 42, 180, 0, 20, 43, 190, 184, 0, 68, 89, 61, 184, 0, 103, 78, 45]
abbrev dktJ11_pollLast_0 : List UInt8 := dkwJ11_pollLast_0 ++ dktJ11_pollLast_1
theorem dksJ11_pollLast_0 : cJ11_pollLast.data.toList.drop 0 = dktJ11_pollLast_0 := by decide +kernel
theorem dksJ11_pollLast_1 : cJ11_pollLast.data.toList.drop 22 = dktJ11_pollLast_1 := dk_seg dksJ11_pollLast_0 22 rfl rfl
theorem dJ11_pollLast_0 : decode cJ11_pollLast 0 = .ok (.aload_n 0, 1) := dk_42 (dk_at dksJ11_pollLast_0 0 rfl rfl)
theorem dJ11_pollLast_1 : decode cJ11_pollLast 1 = .ok (.getfield 3, 3) := dk_180 0 3 (dk_at dksJ11_pollLast_0 1 rfl rfl)
theorem dJ11_pollLast_4 : decode cJ11_pollLast 4 = .ok (.dup, 1) := dk_89 (dk_at dksJ11_pollLast_0 4 rfl rfl)
theorem dJ11_pollLast_5 : decode cJ11_pollLast 5 = .ok (.astore_n 1, 1) := dk_76 (dk_at dksJ11_pollLast_0 5 rfl rfl)
theorem dJ11_pollLast_6 : decode cJ11_pollLast 6 = .ok (.aload_n 0, 1) := dk_42 (dk_at dksJ11_pollLast_0 6 rfl rfl)
theorem dJ11_pollLast_7 : decode cJ11_pollLast 7 = .ok (.getfield 20, 3) := dk_180 0 20 (dk_at dksJ11_pollLast_0 7 rfl rfl)
theorem dJ11_pollLast_10 : decode cJ11_pollLast 10 = .ok (.aload_n 1, 1) := dk_43 (dk_at dksJ11_pollLast_0 10 rfl rfl)
theorem dJ11_pollLast_11 : decode cJ11_pollLast 11 = .ok (.arraylength, 1) := dk_190 (dk_at dksJ11_pollLast_0 11 rfl rfl)
theorem dJ11_pollLast_12 : decode cJ11_pollLast 12 = .ok (.invokestatic 68, 3) := dk_184 0 68 (dk_at dksJ11_pollLast_0 12 rfl rfl)
theorem dJ11_pollLast_15 : decode cJ11_pollLast 15 = .ok (.dup, 1) := dk_89 (dk_at dksJ11_pollLast_0 15 rfl rfl)
theorem dJ11_pollLast_16 : decode cJ11_pollLast 16 = .ok (.istore_n 2, 1) := dk_61 (dk_at dksJ11_pollLast_0 16 rfl rfl)
theorem dJ11_pollLast_17 : decode cJ11_pollLast 17 = .ok (.invokestatic 103, 3) := dk_184 0 103 (dk_at dksJ11_pollLast_0 17 rfl rfl)
theorem dJ11_pollLast_20 : decode cJ11_pollLast 20 = .ok (.astore_n 3, 1) := dk_78 (dk_at dksJ11_pollLast_0 20 rfl rfl)
theorem dJ11_pollLast_21 : decode cJ11_pollLast 21 = .ok (.aload_n 3, 1) := dk_45 (dk_at dksJ11_pollLast_0 21 rfl rfl)
theorem dJ11_pollLast_22 : decode cJ11_pollLast 22 = .ok (.ifnull 12, 3) := dk_198 0 12 (dk_at dksJ11_pollLast_1 0 rfl rfl)
theorem dJ11_pollLast_25 : decode cJ11_pollLast 25 = .ok (.aload_n 1, 1) := dk_43 (dk_at dksJ11_pollLast_1 3 rfl rfl)
theorem dJ11_pollLast_26 : decode cJ11_pollLast 26 = .ok (.aload_n 0, 1) := dk_42 (dk_at dksJ11_pollLast_1 4 rfl rfl)
theorem dJ11_pollLast_27 : decode cJ11_pollLast 27 = .ok (.iload_n 2, 1) := dk_28 (dk_at dksJ11_pollLast_1 5 rfl rfl)
theorem dJ11_pollLast_28 : decode cJ11_pollLast 28 = .ok (.dup_x1, 1) := dk_90 (dk_at dksJ11_pollLast_1 6 rfl rfl)
theorem dJ11_pollLast_29 : decode cJ11_pollLast 29 = .ok (.putfield 20, 3) := dk_181 0 20 (dk_at dksJ11_pollLast_1 7 rfl rfl)
theorem dJ11_pollLast_32 : decode cJ11_pollLast 32 = .ok (.aconst_null, 1) := dk_1 (dk_at dksJ11_pollLast_1 10 rfl rfl)
theorem dJ11_pollLast_33 : decode cJ11_pollLast 33 = .ok (.aastore, 1) := dk_83 (dk_at dksJ11_pollLast_1 11 rfl rfl)
theorem dJ11_pollLast_34 : decode cJ11_pollLast 34 = .ok (.aload_n 3, 1) := dk_45 (dk_at dksJ11_pollLast_1 12 rfl rfl)
theorem dJ11_pollLast_35 : decode cJ11_pollLast 35 = .ok (.areturn, 1) := dk_176 (dk_at dksJ11_pollLast_1 13 rfl rfl)
theorem nd_J11_init : yJ11_init.cls ≠ "java/lang/invoke/MethodHandle" ∧ yJ11_init.cls ≠ "java/lang/invoke/VarHandle" ∧ (parseMethodDescriptor yJ11_init.desc).map (fun d => d.parameters.length) = some 0 := by decide +kernel
set_option maxRecDepth 100000 in
set_option maxHeartbeats 16000000 in
theorem ct_J11_init {g : GG} {l : Launch} (q : Nat) (e : Nat → Nat)  : Ct g l yJ11_init (ws_ yJ11_init cJ11_init 1 (Option.none : Option Jvm.ClassFile.FieldType)) 2 32 1 17 [.ref q] [ob g q 15 [.null, .int (jI 0), .int (jI 0)]] (fun v9 Ws9 => v9 = none ∧ Ws9 = [dq g q 0 e]) (nox) := by
  refine Ct.of (cc := cJ11_init) (nL := 1) (ret := (Option.none : Option Jvm.ClassFile.FieldType)) (by decide) rfl (Nat.le_of_ble_eq_true rfl) ?_
  intro x hg hl hPo hPx hmc hms F
  subst hg; subst hl
  refine SW.cast (L' := [(0, .ref q)]) ?_ rfl rfl rfl
  refine sw_aload_n (n := 1) F 0 (some q) rfl rfl rfl dJ11_init_0 rfl ?_
  refine sw_callI (n := 4) F (ct_J4_init (g := xg x) (l := xl x) q ) q319 q225 q108 q226 rfl nd_J4_init rfl (by decide) [0] rfl [ob (xg x) q 15 [.null, .int (jI 0), .int (jI 0)]] rfl 1 17 ⟨by omega, by omega⟩ [] rfl (Nat.le_of_ble_eq_true rfl) dJ11_init_1 rfl (fun _ _ h => h.elim) (fun v Ws h => ?_)
  obtain ⟨rfl, rfl⟩ := h
  show SW x [ob (xg x) q 15 [.null, .int (jI 0), .int (jI 0)]] _ _ _ _ []
  refine sw_aload_n (n := 5) F 0 (some q) rfl rfl rfl dJ11_init_4 rfl ?_
  refine sw_bipush (n := 7) F (17) (by decide) dJ11_init_5 rfl ?_
  refine sw_anewa (n := 10) F (t0 := 5) q321 (fun _ => rfl) q320 (17) (by first | omega | rfl) (by omega) 0 0 ⟨by omega, by omega⟩ dJ11_init_7 rfl (fun q_1 => ?_)
  refine sw_put (n := 13) F 1 rfl (k := 0) ⟨(RJ11, TJ11, 3), rfl, by decide, q322, in_J11, Or.inl rfl⟩ (tyJ11 0) ⟨(RJ11, TJ11, 3), rfl, rfl, tyJ11_ok 0 (by decide), nmJ11, tyJ11, tyJ11_ok⟩ rfl rfl (Nat.le_of_ble_eq_true rfl) rfl [aQ (xg x) 5 q_1 17 (fun _ => none), ob (xg x) q 15 [.ref q_1, .int (jI 0), .int (jI 0)]] rfl dJ11_init_10 rfl ?_
  have hr0 := rg_c 0 0 17
  refine sw_perm [1, 0] rfl [ob (xg x) q 15 [.ref q_1, .int (jI 0), .int (jI 0)], aQ (xg x) 5 q_1 17 (fun _ => none)] rfl ?_; refine sw_dqClose (hd := 0) (tl := 0) (n := 0) e (by omega) (by intro k hk; omega) ?_
  exact sw_vret F rfl dJ11_init_13 (by rw [hPo]; exact ⟨rfl, rfl⟩)
theorem nd_J11_inc : yJ11_inc.cls ≠ "java/lang/invoke/MethodHandle" ∧ yJ11_inc.cls ≠ "java/lang/invoke/VarHandle" ∧ (parseMethodDescriptor yJ11_inc.desc).map (fun d => d.parameters.length) = some 2 := by decide +kernel
set_option maxRecDepth 100000 in
set_option maxHeartbeats 16000000 in
theorem ct_J11_inc {g : GG} {l : Launch} (i : Nat) (m : Nat) (hi : i < m ∧ m ≤ 1000) : Ct g l yJ11_inc (ws_ yJ11_inc cJ11_inc 2 (Option.some Jvm.ClassFile.FieldType.int)) 1 12 0 0 [.int (jI (↑i)), .int (jI (↑m))] [] (fun v9 Ws9 => v9 = some (.int (jI (↑(if i + 1 < m then i + 1 else 0)))) ∧ Ws9 = []) (nox) := by
  refine Ct.of (cc := cJ11_inc) (nL := 2) (ret := (Option.some Jvm.ClassFile.FieldType.int)) (by decide) rfl (Nat.le_of_ble_eq_true rfl) ?_
  intro x hg hl hPo hPx hmc hms F
  subst hg; subst hl
  refine SW.cast (L' := [(0, .int (jI (↑i))), (1, .int (jI (↑m)))]) ?_ rfl rfl rfl
  refine sw_iinc (n := 3) F 0 (L2 := [(0, .int (jI (↑i + 1))), (1, .int (jI (↑m)))]) rfl rfl (by decide) dJ11_inc_0 rfl ?_
  refine sw_iload_n (n := 4) F 0 rfl rfl dJ11_inc_3 rfl ?_
  refine sw_iload_n (n := 5) F 1 rfl rfl dJ11_inc_4 rfl ?_
  refine sw_icmp_lt (n := 8) F (by omega) (by omega) (tgt := 10) dJ11_inc_5 (by decide) rfl (fun c_5 => ?_) (fun c_5 => ?_)
  ·
    refine sw_iload_n (n := 11) F 0 rfl rfl dJ11_inc_10 rfl ?_
    exact sw_iret F _ rfl (by first | rfl | exact jI_nz (by omega) | exact jI_nc (by omega)) dJ11_inc_11 (by rw [hPo]; exact ⟨(by split <;> (congr 3 <;> omega)), rfl⟩)
  ·
    refine sw_iconst (n := 9) F (0) (by decide) dJ11_inc_8 rfl ?_
    refine sw_istore_n (n := 10) F (L2 := [(0, .int (jI 0)), (1, .int (jI (↑m)))]) rfl (by decide) rfl dJ11_inc_9 rfl ?_
    refine sw_iload_n (n := 11) F 0 rfl rfl dJ11_inc_10 rfl ?_
    exact sw_iret F _ rfl (by first | rfl | exact jI_nz (by omega) | exact jI_nc (by omega)) dJ11_inc_11 (by rw [hPo]; exact ⟨(by split <;> (congr 3 <;> omega)), rfl⟩)
theorem nd_J11_dec : yJ11_dec.cls ≠ "java/lang/invoke/MethodHandle" ∧ yJ11_dec.cls ≠ "java/lang/invoke/VarHandle" ∧ (parseMethodDescriptor yJ11_dec.desc).map (fun d => d.parameters.length) = some 2 := by decide +kernel
set_option maxRecDepth 100000 in
set_option maxHeartbeats 16000000 in
theorem ct_J11_dec {g : GG} {l : Launch} (i : Nat) (m : Nat) (hi : i < m ∧ m ≤ 1000) : Ct g l yJ11_dec (ws_ yJ11_dec cJ11_dec 2 (Option.some Jvm.ClassFile.FieldType.int)) 1 12 0 0 [.int (jI (↑i)), .int (jI (↑m))] [] (fun v9 Ws9 => v9 = some (.int (jI (↑(if i = 0 then m - 1 else i - 1)))) ∧ Ws9 = []) (nox) := by
  refine Ct.of (cc := cJ11_dec) (nL := 2) (ret := (Option.some Jvm.ClassFile.FieldType.int)) (by decide) rfl (Nat.le_of_ble_eq_true rfl) ?_
  intro x hg hl hPo hPx hmc hms F
  subst hg; subst hl
  refine SW.cast (L' := [(0, .int (jI (↑i))), (1, .int (jI (↑m)))]) ?_ rfl rfl rfl
  refine sw_iinc (n := 3) F 0 (L2 := [(0, .int (jI (↑i + (-1)))), (1, .int (jI (↑m)))]) rfl rfl (by decide) dJ11_dec_0 rfl ?_
  refine sw_iload_n (n := 4) F 0 rfl rfl dJ11_dec_3 rfl ?_
  refine sw_if_ge (n := 7) F (by omega) (tgt := 11) dJ11_dec_4 (by decide) rfl (fun c_4 => ?_) (fun c_4 => ?_)
  ·
    refine sw_iload_n (n := 12) F 0 rfl rfl dJ11_dec_11 rfl ?_
    exact sw_iret F _ rfl (by first | rfl | exact jI_nz (by omega) | exact jI_nc (by omega)) dJ11_dec_12 (by rw [hPo]; exact ⟨(by split <;> (congr 3 <;> omega)), rfl⟩)
  ·
    refine sw_iload_n (n := 8) F 1 rfl rfl dJ11_dec_7 rfl ?_
    refine sw_iconst (n := 9) F (1) (by decide) dJ11_dec_8 rfl ?_
    refine sw_isub (n := 10) F dJ11_dec_9 rfl ?_
    refine sw_istore_n (n := 11) F (L2 := [(0, .int (jI ((↑m) - 1))), (1, .int (jI (↑m)))]) rfl (by decide) rfl dJ11_dec_10 rfl ?_
    refine sw_iload_n (n := 12) F 0 rfl rfl dJ11_dec_11 rfl ?_
    exact sw_iret F _ rfl (by first | rfl | exact jI_nz (by omega) | exact jI_nc (by omega)) dJ11_dec_12 (by rw [hPo]; exact ⟨(by split <;> (congr 3 <;> omega)), rfl⟩)
theorem nd_J11_elementAt : yJ11_elementAt.cls ≠ "java/lang/invoke/MethodHandle" ∧ yJ11_elementAt.cls ≠ "java/lang/invoke/VarHandle" ∧ (parseMethodDescriptor yJ11_elementAt.desc).map (fun d => d.parameters.length) = some 2 := by decide +kernel
set_option maxRecDepth 100000 in
set_option maxHeartbeats 16000000 in
theorem ct_J11_elementAt {g : GG} {l : Launch} (a : Nat) (N : Nat) (f : Nat → Option Nat) (k : Nat) (hk : k < N ∧ N ≤ 300) : Ct g l yJ11_elementAt (ws_ yJ11_elementAt cJ11_elementAt 2 (Option.some (Jvm.ClassFile.FieldType.object "java/lang/Object"))) 1 12 0 0 [.ref a, .int (jI (↑k))] [aQ g 5 a N f] (fun v9 Ws9 => v9 = some (va_rf (f k)) ∧ Ws9 = [aQ g 5 a N f]) (nox) := by
  refine Ct.of (cc := cJ11_elementAt) (nL := 2) (ret := (Option.some (Jvm.ClassFile.FieldType.object "java/lang/Object"))) (by decide) rfl (Nat.le_of_ble_eq_true rfl) ?_
  intro x hg hl hPo hPx hmc hms F
  subst hg; subst hl
  refine SW.cast (L' := [(0, .ref a), (1, .int (jI (↑k)))]) ?_ rfl rfl rfl
  refine sw_aload_n (n := 1) F 0 (some a) rfl rfl rfl dJ11_elementAt_0 rfl ?_
  refine sw_iload_n (n := 2) F 1 rfl rfl dJ11_elementAt_1 rfl ?_
  refine sw_aaloadQ (n := 3) F 0 rfl (fun _ => rfl) k rfl (by omega) dJ11_elementAt_2 rfl ?_
  exact sw_aret F (f k) _ rfl rfl (by first | exact Or.inl ⟨_, rfl⟩ | exact Or.inr ⟨_, rfl⟩) dJ11_elementAt_3 (by rw [hPo]; exact ⟨rfl, rfl⟩)
theorem nd_J11_isEmpty : yJ11_isEmpty.cls ≠ "java/lang/invoke/MethodHandle" ∧ yJ11_isEmpty.cls ≠ "java/lang/invoke/VarHandle" ∧ (parseMethodDescriptor yJ11_isEmpty.desc).map (fun d => d.parameters.length) = some 0 := by decide +kernel
set_option maxRecDepth 100000 in
set_option maxHeartbeats 16000000 in
theorem ct_J11_isEmpty {g : GG} {l : Launch} (q : Nat) (n : Nat) (e : Nat → Nat)  : Ct g l yJ11_isEmpty (ws_ yJ11_isEmpty cJ11_isEmpty 1 (Option.some Jvm.ClassFile.FieldType.boolean)) 1 12 0 0 [.ref q] [dq g q n e] (fun v9 Ws9 => v9 = some (.int (jI (if n = 0 then 1 else 0))) ∧ Ws9 = [dq g q n e]) (nox) := by
  refine Ct.of (cc := cJ11_isEmpty) (nL := 1) (ret := (Option.some Jvm.ClassFile.FieldType.boolean)) (by decide) rfl (Nat.le_of_ble_eq_true rfl) ?_
  intro x hg hl hPo hPx hmc hms F
  subst hg; subst hl
  refine SW.cast (L' := [(0, .ref q)]) ?_ rfl rfl rfl
  refine sw_dqOpen (fun a N hd tl f hN htl hf => ?_)
  have htc := rg_c hd n N
  refine sw_aload_n (n := 1) F 0 (some q) rfl rfl rfl dJ11_isEmpty_0 rfl ?_
  refine sw_get (n := 4) F 0 rfl (k := 1) ⟨(RJ11, TJ11, 3), rfl, by decide, q325, in_J11, Or.inl rfl⟩ rfl dJ11_isEmpty_1 rfl ?_
  refine sw_aload_n (n := 5) F 0 (some q) rfl rfl rfl dJ11_isEmpty_4 rfl ?_
  refine sw_get (n := 8) F 0 rfl (k := 2) ⟨(RJ11, TJ11, 3), rfl, by decide, q326, in_J11, Or.inl rfl⟩ rfl dJ11_isEmpty_5 rfl ?_
  refine sw_icmp_ne (n := 11) F (by omega) (by omega) (tgt := 15) dJ11_isEmpty_8 (by decide) rfl (fun c_8 => ?_) (fun c_8 => ?_)
  ·
    refine sw_iconst (n := 16) F (0) (by decide) dJ11_isEmpty_15 rfl ?_
    refine sw_dqClose (hd := hd) (tl := tl) (n := n) e (by omega) (by exact hf) ?_
    exact sw_iret F _ rfl (by first | rfl | exact jI_nz (by omega) | exact jI_nc (by omega)) dJ11_isEmpty_16 (by rw [hPo]; exact ⟨(by first | rw [if_pos (by omega)] | rw [if_neg (by omega)]), rfl⟩)
  ·
    refine sw_iconst (n := 12) F (1) (by decide) dJ11_isEmpty_11 rfl ?_
    refine sw_goto F (n := 16) dJ11_isEmpty_12 (by decide) ?_
    refine sw_dqClose (hd := hd) (tl := tl) (n := n) e (by omega) (by exact hf) ?_
    exact sw_iret F _ rfl (by first | rfl | exact jI_nz (by omega) | exact jI_nc (by omega)) dJ11_isEmpty_16 (by rw [hPo]; exact ⟨(by first | rw [if_pos (by omega)] | rw [if_neg (by omega)]), rfl⟩)
theorem nd_J11_peekLast : yJ11_peekLast.cls ≠ "java/lang/invoke/MethodHandle" ∧ yJ11_peekLast.cls ≠ "java/lang/invoke/VarHandle" ∧ (parseMethodDescriptor yJ11_peekLast.desc).map (fun d => d.parameters.length) = some 0 := by decide +kernel
set_option maxRecDepth 100000 in
set_option maxHeartbeats 16000000 in
theorem ct_J11_peekLast {g : GG} {l : Launch} (q : Nat) (n : Nat) (e : Nat → Nat)  : Ct g l yJ11_peekLast (ws_ yJ11_peekLast cJ11_peekLast 2 (Option.some (Jvm.ClassFile.FieldType.object "java/lang/Object"))) 2 33 0 0 [.ref q] [dq g q (n + 1) e] (fun v9 Ws9 => v9 = some (.ref (e n)) ∧ Ws9 = [dq g q (n + 1) e]) (nox) := by
  refine Ct.of (cc := cJ11_peekLast) (nL := 2) (ret := (Option.some (Jvm.ClassFile.FieldType.object "java/lang/Object"))) (by decide) rfl (Nat.le_of_ble_eq_true rfl) ?_
  intro x hg hl hPo hPx hmc hms F
  subst hg; subst hl
  refine SW.cast (L' := [(0, .ref q)]) ?_ rfl rfl rfl
  refine sw_dqOpen (fun a N hd tl f hN htl hf => ?_)
  have htc := rg_c hd (n + 1) N
  refine sw_aload_n (n := 1) F 0 (some q) rfl rfl rfl dJ11_peekLast_0 rfl ?_
  refine sw_get (n := 4) F 0 rfl (k := 0) ⟨(RJ11, TJ11, 3), rfl, by decide, q322, in_J11, Or.inl rfl⟩ rfl dJ11_peekLast_1 rfl ?_
  refine sw_dup (n := 5) F rfl dJ11_peekLast_4 rfl ?_
  refine sw_astore_n (n := 6) F (some a) (L2 := [(1, .ref a), (0, .ref q)]) rfl rfl (by decide) rfl dJ11_peekLast_5 rfl ?_
  refine sw_aload_n (n := 7) F 1 (some q) rfl rfl rfl dJ11_peekLast_6 rfl ?_
  refine sw_get (n := 10) F 0 rfl (k := 2) ⟨(RJ11, TJ11, 3), rfl, by decide, q326, in_J11, Or.inl rfl⟩ rfl dJ11_peekLast_7 rfl ?_
  refine sw_aload_n (n := 11) F 0 (some a) rfl rfl rfl dJ11_peekLast_10 rfl ?_
  refine sw_alen (n := 12) F 1 rfl (fun _ => rfl) dJ11_peekLast_11 rfl ?_
  refine sw_callS (n := 15) F (ct_J11_dec (g := xg x) (l := xl x) tl N (by first | omega | assumption)) q3774 q3775 q115 q3776 nd_J11_dec rfl (by decide) [0, 1] rfl [ob (xg x) q 15 [.ref a, .int (jI (↑hd)), .int (jI (↑tl))], aQ (xg x) 5 a N f] rfl 0 0 ⟨by omega, by omega⟩ [.ref a] rfl (Nat.le_of_ble_eq_true rfl) dJ11_peekLast_12 rfl (fun _ _ h => h.elim) (fun v Ws h => ?_)
  obtain ⟨rfl, rfl⟩ := h
  show SW x [ob (xg x) q 15 [.ref a, .int (jI (↑hd)), .int (jI (↑tl))], aQ (xg x) 5 a N f] _ _ _ _ [.int (jI (↑(if tl = 0 then N - 1 else tl - 1))), .ref a]
  refine sw_top (topI (show (↑(if tl = 0 then N - 1 else tl - 1) : Int) = ↑(rg hd n N) by rw [dq_last (by omega) (by omega), ← htl])) ?_
  have hrn := rg_c hd n N
  refine sw_callS (n := 18) F (ct_J11_elementAt (g := xg x) (l := xl x) a N f (rg hd n N) (by first | omega | assumption)) q3777 q3778 q115 q3779 nd_J11_elementAt rfl (by decide) [1, 0] rfl [ob (xg x) q 15 [.ref a, .int (jI (↑hd)), .int (jI (↑tl))]] rfl 0 0 ⟨by omega, by omega⟩ [] rfl (Nat.le_of_ble_eq_true rfl) dJ11_peekLast_15 rfl (fun _ _ h => h.elim) (fun v Ws h => ?_)
  obtain ⟨rfl, rfl⟩ := h
  show SW x [aQ (xg x) 5 a N f, ob (xg x) q 15 [.ref a, .int (jI (↑hd)), .int (jI (↑tl))]] _ _ _ _ [va_rf (f (rg hd n N))]
  rw [hf n (by omega)]
  show SW x _ _ _ _ _ [.ref (e n)]
  refine sw_perm [1, 0] rfl [ob (xg x) q 15 [.ref a, .int (jI (↑hd)), .int (jI (↑tl))], aQ (xg x) 5 a N f] rfl ?_; refine sw_dqClose (hd := hd) (tl := tl) (n := n + 1) e (by omega) (by exact hf) ?_
  exact sw_aret F (some (e n)) _ rfl rfl (by first | exact Or.inl ⟨_, rfl⟩ | exact Or.inr ⟨_, rfl⟩) dJ11_peekLast_18 (by rw [hPo]; exact ⟨rfl, rfl⟩)
theorem nd_J11_pollLast : yJ11_pollLast.cls ≠ "java/lang/invoke/MethodHandle" ∧ yJ11_pollLast.cls ≠ "java/lang/invoke/VarHandle" ∧ (parseMethodDescriptor yJ11_pollLast.desc).map (fun d => d.parameters.length) = some 0 := by decide +kernel
set_option maxRecDepth 100000 in
set_option maxHeartbeats 16000000 in
theorem ct_J11_pollLast {g : GG} {l : Launch} (q : Nat) (n : Nat) (e : Nat → Nat)  : Ct g l yJ11_pollLast (ws_ yJ11_pollLast cJ11_pollLast 4 (Option.some (Jvm.ClassFile.FieldType.object "java/lang/Object"))) 2 33 0 0 [.ref q] [dq g q (n + 1) e] (fun v9 Ws9 => v9 = some (.ref (e n)) ∧ Ws9 = [dq g q n e]) (nox) := by
  refine Ct.of (cc := cJ11_pollLast) (nL := 4) (ret := (Option.some (Jvm.ClassFile.FieldType.object "java/lang/Object"))) (by decide) rfl (Nat.le_of_ble_eq_true rfl) ?_
  intro x hg hl hPo hPx hmc hms F
  subst hg; subst hl
  refine SW.cast (L' := [(0, .ref q)]) ?_ rfl rfl rfl
  refine sw_dqOpen (fun a N hd tl f hN htl hf => ?_)
  have htc := rg_c hd (n + 1) N
  refine sw_aload_n (n := 1) F 0 (some q) rfl rfl rfl dJ11_pollLast_0 rfl ?_
  refine sw_get (n := 4) F 0 rfl (k := 0) ⟨(RJ11, TJ11, 3), rfl, by decide, q322, in_J11, Or.inl rfl⟩ rfl dJ11_pollLast_1 rfl ?_
  refine sw_dup (n := 5) F rfl dJ11_pollLast_4 rfl ?_
  refine sw_astore_n (n := 6) F (some a) (L2 := [(1, .ref a), (0, .ref q)]) rfl rfl (by decide) rfl dJ11_pollLast_5 rfl ?_
  refine sw_aload_n (n := 7) F 1 (some q) rfl rfl rfl dJ11_pollLast_6 rfl ?_
  refine sw_get (n := 10) F 0 rfl (k := 2) ⟨(RJ11, TJ11, 3), rfl, by decide, q326, in_J11, Or.inl rfl⟩ rfl dJ11_pollLast_7 rfl ?_
  refine sw_aload_n (n := 11) F 0 (some a) rfl rfl rfl dJ11_pollLast_10 rfl ?_
  refine sw_alen (n := 12) F 1 rfl (fun _ => rfl) dJ11_pollLast_11 rfl ?_
  refine sw_callS (n := 15) F (ct_J11_dec (g := xg x) (l := xl x) tl N (by first | omega | assumption)) q3774 q3775 q115 q3776 nd_J11_dec rfl (by decide) [0, 1] rfl [ob (xg x) q 15 [.ref a, .int (jI (↑hd)), .int (jI (↑tl))], aQ (xg x) 5 a N f] rfl 0 0 ⟨by omega, by omega⟩ [.ref a] rfl (Nat.le_of_ble_eq_true rfl) dJ11_pollLast_12 rfl (fun _ _ h => h.elim) (fun v Ws h => ?_)
  obtain ⟨rfl, rfl⟩ := h
  show SW x [ob (xg x) q 15 [.ref a, .int (jI (↑hd)), .int (jI (↑tl))], aQ (xg x) 5 a N f] _ _ _ _ [.int (jI (↑(if tl = 0 then N - 1 else tl - 1))), .ref a]
  refine sw_top (topI (show (↑(if tl = 0 then N - 1 else tl - 1) : Int) = ↑(rg hd n N) by rw [dq_last (by omega) (by omega), ← htl])) ?_
  have hrn := rg_c hd n N
  refine sw_dup (n := 16) F rfl dJ11_pollLast_15 rfl ?_
  refine sw_istore_n (n := 17) F (L2 := [(2, .int (jI (↑(rg hd n N)))), (1, .ref a), (0, .ref q)]) rfl (by decide) rfl dJ11_pollLast_16 rfl ?_
  refine sw_callS (n := 20) F (ct_J11_elementAt (g := xg x) (l := xl x) a N f (rg hd n N) (by first | omega | assumption)) q3777 q3778 q115 q3779 nd_J11_elementAt rfl (by decide) [1, 0] rfl [ob (xg x) q 15 [.ref a, .int (jI (↑hd)), .int (jI (↑tl))]] rfl 0 0 ⟨by omega, by omega⟩ [] rfl (Nat.le_of_ble_eq_true rfl) dJ11_pollLast_17 rfl (fun _ _ h => h.elim) (fun v Ws h => ?_)
  obtain ⟨rfl, rfl⟩ := h
  show SW x [aQ (xg x) 5 a N f, ob (xg x) q 15 [.ref a, .int (jI (↑hd)), .int (jI (↑tl))]] _ _ _ _ [va_rf (f (rg hd n N))]
  rw [hf n (by omega)]
  show SW x _ _ _ _ _ [.ref (e n)]
  refine sw_astore_n (n := 21) F (some (e n)) (L2 := [(3, .ref (e n)), (2, .int (jI (↑(rg hd n N)))), (1, .ref a), (0, .ref q)]) rfl rfl (by decide) rfl dJ11_pollLast_20 rfl ?_
  refine sw_aload_n (n := 22) F 0 (some (e n)) rfl rfl rfl dJ11_pollLast_21 rfl ?_
  refine sw_ifnull (n := 25) F (o := (some (e n))) rfl (tgt := 34) dJ11_pollLast_22 (by decide) rfl (fun c_22 => ?_) (fun _ _ => ?_)
  · cases c_22
  ·
    refine sw_aload_n (n := 26) F 2 (some a) rfl rfl rfl dJ11_pollLast_25 rfl ?_
    refine sw_aload_n (n := 27) F 3 (some q) rfl rfl rfl dJ11_pollLast_26 rfl ?_
    refine sw_iload_n (n := 28) F 1 rfl rfl dJ11_pollLast_27 rfl ?_
    refine sw_dup_x1 (n := 29) F rfl rfl dJ11_pollLast_28 rfl ?_
    refine sw_put (n := 32) F 1 rfl (k := 2) ⟨(RJ11, TJ11, 3), rfl, by decide, q326, in_J11, Or.inl rfl⟩ .int ⟨(RJ11, TJ11, 3), rfl, rfl, tyJ11_ok 2 (by decide), nmJ11, tyJ11, tyJ11_ok⟩ rfl rfl (Nat.le_of_ble_eq_true rfl) rfl [aQ (xg x) 5 a N f, ob (xg x) q 15 [.ref a, .int (jI (↑hd)), .int (jI (↑(rg hd n N)))]] rfl dJ11_pollLast_29 rfl ?_
    refine sw_null (n := 33) F dJ11_pollLast_32 rfl ?_
    refine sw_aastoreQN (n := 34) F 0 rfl (fun _ => rfl) (rg hd n N) (by omega) (by omega) [aQ (xg x) 5 a N (va_up f (rg hd n N) none), ob (xg x) q 15 [.ref a, .int (jI (↑hd)), .int (jI (↑(rg hd n N)))]] rfl dJ11_pollLast_33 rfl ?_
    refine sw_aload_n (n := 35) F 0 (some (e n)) rfl rfl rfl dJ11_pollLast_34 rfl ?_
    refine sw_perm [1, 0] rfl [ob (xg x) q 15 [.ref a, .int (jI (↑hd)), .int (jI (↑(rg hd n N)))], aQ (xg x) 5 a N (va_up f (rg hd n N) none)] rfl ?_; refine sw_dqClose (hd := hd) (tl := (rg hd n N)) (n := n) e (by omega) (by exact dq_del (by omega) (by omega) hf) ?_
    exact sw_aret F (some (e n)) _ rfl rfl (by first | exact Or.inl ⟨_, rfl⟩ | exact Or.inr ⟨_, rfl⟩) dJ11_pollLast_35 (by rw [hPo]; exact ⟨rfl, rfl⟩)
theorem nd_J11_grow : yJ11_grow.cls ≠ "java/lang/invoke/MethodHandle" ∧ yJ11_grow.cls ≠ "java/lang/invoke/VarHandle" ∧ (parseMethodDescriptor yJ11_grow.desc).map (fun d => d.parameters.length) = some 1 := by decide +kernel
set_option maxRecDepth 100000 in
set_option maxHeartbeats 16000000 in
theorem ct_J11_grow {g : GG} {l : Launch} (P0 : HP) (q : Nat) (e : Nat → Nat) (a : Nat) (N : Nat) (hd : Nat) (f : Nat → Option Nat) (hN : 17 ≤ N ∧ N ≤ 64 ∧ hd < N) (hf : ∀ k, k < N → f (rg hd k N) = some (e k)) (hke : ∀ k, k < N → kno g P0 (e k) "java/lang/Object") : Ct g l yJ11_grow (ws_ yJ11_grow cJ11_grow 9 (Option.none : Option Jvm.ClassFile.FieldType)) 3 74 1 300 [.ref q, .int (jI 1)] [ob g q 15 [.ref a, .int (jI (↑hd)), .int (jI (↑hd))], aQ g 5 a N f, P0] (fun v9 Ws9 => v9 = none ∧ Ws9 = [dq g q N e, P0]) (nox) := by
  refine Ct.of (cc := cJ11_grow) (nL := 9) (ret := (Option.none : Option Jvm.ClassFile.FieldType)) (by decide) rfl (Nat.le_of_ble_eq_true rfl) ?_
  intro x hg hl hPo hPx hmc hms F
  subst hg; subst hl
  refine SW.cast (L' := [(0, .ref q), (1, .int (jI 1))]) ?_ rfl rfl rfl
  have hel := dq_all hN.2.2 hf hke
  have hr0 : rg hd 0 N = hd := by have := rg_c hd 0 N; omega
  refine sw_aload_n (n := 1) F 0 (some q) rfl rfl rfl dJ11_grow_0 rfl ?_
  refine sw_get (n := 4) F 0 rfl (k := 0) ⟨(RJ11, TJ11, 3), rfl, by decide, q322, in_J11, Or.inl rfl⟩ rfl dJ11_grow_1 rfl ?_
  refine sw_alen (n := 5) F 1 rfl (fun _ => rfl) dJ11_grow_4 rfl ?_
  refine sw_istore_n (n := 6) F (L2 := [(2, .int (jI (↑N))), (0, .ref q), (1, .int (jI 1))]) rfl (by decide) rfl dJ11_grow_5 rfl ?_
  refine sw_iload_n (n := 7) F 0 rfl rfl dJ11_grow_6 rfl ?_
  refine sw_bipush (n := 9) F (64) (by decide) dJ11_grow_7 rfl ?_
  refine sw_icmp_ge (n := 12) F (by omega) (by decide) (tgt := 18) dJ11_grow_9 (by decide) rfl (fun c_9 => ?_) (fun c_9 => ?_)
  ·
    refine sw_iload_n (n := 19) F 0 rfl rfl dJ11_grow_18 rfl ?_
    refine sw_iconst (n := 20) F (1) (by decide) dJ11_grow_19 rfl ?_
    refine sw_ishr (n := 21) F (jI ((↑N) / 2)) (by have h7s := jI_shrQ (z := ↑N) (c := 1) (P := 2) (k := 1) (by omega) (by decide) (by decide); exact h7s) dJ11_grow_20 rfl ?_
    have K21 : ∀ (j : Nat), (18 ≤ j ∧ j ≤ 66) → SW x [ob (xg x) q 15 [.ref a, .int (jI (↑hd)), .int (jI (↑hd))], aQ (xg x) 5 a N f, P0] 1 300 21 [(2, .int (jI (↑N))), (0, .ref q), (1, .int (jI 1))] [.int (jI (↑j))] := by
      intro j hj
      refine sw_istore (n := 23) F (L2 := [(4, .int (jI (↑j))), (2, .int (jI (↑N))), (0, .ref q), (1, .int (jI 1))]) rfl (by decide) dJ11_grow_21 rfl ?_
      refine sw_iload (n := 25) F 0 rfl dJ11_grow_23 rfl ?_
      refine sw_iload_n (n := 26) F 3 rfl rfl dJ11_grow_25 rfl ?_
      refine sw_icmp_lt (n := 29) F (by omega) (by decide) (tgt := 41) dJ11_grow_26 (by decide) rfl (fun c_26 => ?_) (fun c_26 => ?_)
      · exfalso; omega
      ·
        refine sw_iload_n (n := 30) F 1 rfl rfl dJ11_grow_29 rfl ?_
        refine sw_iload (n := 32) F 0 rfl dJ11_grow_30 rfl ?_
        refine sw_iadd (n := 33) F dJ11_grow_32 rfl ?_
        refine sw_top (topI (show ((↑N) + (↑j) : Int) = ↑(N + j) by omega)) ?_
        refine sw_dup (n := 34) F rfl dJ11_grow_33 rfl ?_
        refine sw_istore_n (n := 35) F (L2 := [(3, .int (jI (↑(N + j)))), (4, .int (jI (↑j))), (2, .int (jI (↑N))), (0, .ref q), (1, .int (jI 1))]) rfl (by decide) rfl dJ11_grow_34 rfl ?_
        refine sw_ldc (n := 37) F (2147483639) q3701 (by decide) dJ11_grow_35 rfl ?_
        refine sw_isub (n := 38) F dJ11_grow_37 rfl ?_
        refine sw_if_le (n := 41) F (by omega) (tgt := 49) dJ11_grow_38 (by decide) rfl (fun c_38 => ?_) (fun c_38 => ?_)
        ·
          refine sw_aload_n (n := 50) F 3 (some q) rfl rfl rfl dJ11_grow_49 rfl ?_
          refine sw_aload_n (n := 51) F 3 (some q) rfl rfl rfl dJ11_grow_50 rfl ?_
          refine sw_get (n := 54) F 0 rfl (k := 0) ⟨(RJ11, TJ11, 3), rfl, by decide, q322, in_J11, Or.inl rfl⟩ rfl dJ11_grow_51 rfl ?_
          refine sw_iload_n (n := 55) F 0 rfl rfl dJ11_grow_54 rfl ?_
          refine sw_callS (n := 58) F (ct_J23_copyOf_3 (g := xg x) (l := xl x) P0 a N f (N + j) (by first | omega | assumption) (by exact hel)) q3713 q3352 q131 q3353 nd_J23_copyOf_3 rfl (by decide) [1, 2, 0] rfl [ob (xg x) q 15 [.ref a, .int (jI (↑hd)), .int (jI (↑hd))]] rfl 0 0 ⟨by omega, by omega⟩ [.ref q] rfl (Nat.le_of_ble_eq_true rfl) dJ11_grow_55 rfl (fun _ _ h => h.elim) (fun v Ws h => ?_)
          obtain ⟨r1_1, f1_2, rfl, hcp_3, rfl⟩ := h
          show SW x [aQ (xg x) 5 r1_1 (N + j) f1_2, aQ (xg x) 5 a N f, P0, ob (xg x) q 15 [.ref a, .int (jI (↑hd)), .int (jI (↑hd))]] _ _ _ _ [.ref r1_1, .ref q]
          refine sw_dup_x1 (n := 59) F rfl rfl dJ11_grow_58 rfl ?_
          refine sw_put (n := 62) F 3 rfl (k := 0) ⟨(RJ11, TJ11, 3), rfl, by decide, q322, in_J11, Or.inl rfl⟩ (tyJ11 0) ⟨(RJ11, TJ11, 3), rfl, rfl, tyJ11_ok 0 (by decide), nmJ11, tyJ11, tyJ11_ok⟩ rfl rfl (Nat.le_of_ble_eq_true rfl) rfl [aQ (xg x) 5 r1_1 (N + j) f1_2, aQ (xg x) 5 a N f, P0, ob (xg x) q 15 [.ref r1_1, .int (jI (↑hd)), .int (jI (↑hd))]] rfl dJ11_grow_59 rfl ?_
          refine sw_astore (n := 64) F (some r1_1) (L2 := [(5, .ref r1_1), (3, .int (jI (↑(N + j)))), (4, .int (jI (↑j))), (2, .int (jI (↑N))), (0, .ref q), (1, .int (jI 1))]) rfl rfl (by decide) dJ11_grow_62 rfl ?_
          refine sw_aload_n (n := 65) F 4 (some q) rfl rfl rfl dJ11_grow_64 rfl ?_
          refine sw_get (n := 68) F 3 rfl (k := 2) ⟨(RJ11, TJ11, 3), rfl, by decide, q326, in_J11, Or.inl rfl⟩ rfl dJ11_grow_65 rfl ?_
          refine sw_aload_n (n := 69) F 4 (some q) rfl rfl rfl dJ11_grow_68 rfl ?_
          refine sw_get (n := 72) F 3 rfl (k := 1) ⟨(RJ11, TJ11, 3), rfl, by decide, q325, in_J11, Or.inl rfl⟩ rfl dJ11_grow_69 rfl ?_
          refine sw_icmp_lt (n := 75) F (by omega) (by omega) (tgt := 96) dJ11_grow_72 (by decide) rfl (fun c_72 => ?_) (fun c_72 => ?_)
          · exfalso; omega
          ·
            refine sw_aload_n (n := 76) F 4 (some q) rfl rfl rfl dJ11_grow_75 rfl ?_
            refine sw_get (n := 79) F 3 rfl (k := 2) ⟨(RJ11, TJ11, 3), rfl, by decide, q326, in_J11, Or.inl rfl⟩ rfl dJ11_grow_76 rfl ?_
            refine sw_aload_n (n := 80) F 4 (some q) rfl rfl rfl dJ11_grow_79 rfl ?_
            refine sw_get (n := 83) F 3 rfl (k := 1) ⟨(RJ11, TJ11, 3), rfl, by decide, q325, in_J11, Or.inl rfl⟩ rfl dJ11_grow_80 rfl ?_
            refine sw_icmp_neS (n := 86) F (tgt := 164) dJ11_grow_83 (by decide) rfl ?_
            refine sw_aload (n := 88) F 0 (some r1_1) rfl rfl dJ11_grow_86 rfl ?_
            refine sw_aload_n (n := 89) F 4 (some q) rfl rfl rfl dJ11_grow_88 rfl ?_
            refine sw_get (n := 92) F 3 rfl (k := 1) ⟨(RJ11, TJ11, 3), rfl, by decide, q325, in_J11, Or.inl rfl⟩ rfl dJ11_grow_89 rfl ?_
            refine sw_aaloadQ (n := 93) F 0 rfl (fun _ => rfl) hd rfl (by omega) dJ11_grow_92 rfl ?_
            have hh0 : f1_2 hd = some (e 0) := by rw [hcp_3 hd (by omega), ← hf 0 (by omega), hr0]
            rw [hh0]
            show SW x _ _ _ _ _ [.ref (e 0)]
            refine sw_ifnull (n := 96) F (o := (some (e 0))) rfl (tgt := 164) dJ11_grow_93 (by decide) rfl (fun c_93 => ?_) (fun _ _ => ?_)
            · cases c_93
            ·
              refine sw_iload_n (n := 97) F 1 rfl rfl dJ11_grow_96 rfl ?_
              refine sw_iload_n (n := 98) F 3 rfl rfl dJ11_grow_97 rfl ?_
              refine sw_isub (n := 99) F dJ11_grow_98 rfl ?_
              refine sw_top (topI (show ((↑(N + j)) - (↑N) : Int) = ↑j by omega)) ?_
              refine sw_istore (n := 101) F (L2 := [(6, .int (jI (↑j))), (5, .ref r1_1), (3, .int (jI (↑(N + j)))), (4, .int (jI (↑j))), (2, .int (jI (↑N))), (0, .ref q), (1, .int (jI 1))]) rfl (by decide) dJ11_grow_99 rfl ?_
              refine sw_aload (n := 103) F 1 (some r1_1) rfl rfl dJ11_grow_101 rfl ?_
              refine sw_aload_n (n := 104) F 5 (some q) rfl rfl rfl dJ11_grow_103 rfl ?_
              refine sw_get (n := 107) F 3 rfl (k := 1) ⟨(RJ11, TJ11, 3), rfl, by decide, q325, in_J11, Or.inl rfl⟩ rfl dJ11_grow_104 rfl ?_
              refine sw_aload (n := 109) F 1 (some r1_1) rfl rfl dJ11_grow_107 rfl ?_
              refine sw_aload_n (n := 110) F 5 (some q) rfl rfl rfl dJ11_grow_109 rfl ?_
              refine sw_get (n := 113) F 3 rfl (k := 1) ⟨(RJ11, TJ11, 3), rfl, by decide, q325, in_J11, Or.inl rfl⟩ rfl dJ11_grow_110 rfl ?_
              refine sw_iload (n := 115) F 0 rfl dJ11_grow_113 rfl ?_
              refine sw_iadd (n := 116) F dJ11_grow_115 rfl ?_
              refine sw_top (topI (show ((↑hd) + (↑j) : Int) = ↑(hd + j) by omega)) ?_
              refine sw_iload_n (n := 117) F 4 rfl rfl dJ11_grow_116 rfl ?_
              refine sw_aload_n (n := 118) F 5 (some q) rfl rfl rfl dJ11_grow_117 rfl ?_
              refine sw_get (n := 121) F 3 rfl (k := 1) ⟨(RJ11, TJ11, 3), rfl, by decide, q325, in_J11, Or.inl rfl⟩ rfl dJ11_grow_118 rfl ?_
              refine sw_isub (n := 122) F dJ11_grow_121 rfl ?_
              refine sw_top (topI (show ((↑N) - (↑hd) : Int) = ↑(N - hd) by omega)) ?_
              have helg : ∀ k, k < N - hd → ∀ v, f1_2 (hd + k) = some v → kno (xg x) P0 v "java/lang/Object" := fun k hk v hv => hel (hd + k) (by omega) v (by rw [← hcp_3 (hd + k) (by omega)]; exact hv)
              have hcpx := hcp_3
              refine sw_copyQ (n := 125) F 0 0 rfl rfl (fun _ => rfl) hd (hd + j) (N - hd) (by first | rfl | omega) (by first | rfl | omega) (by first | rfl | omega) (by omega) (by omega) (by omega) (by intro k hk v hv; first | exact any_of F 0 rfl (helg k hk v hv) | exact any_of F 1 rfl (helg k hk v hv) | exact any_of F 2 rfl (helg k hk v hv) | exact any_of F 3 rfl (helg k hk v hv)) q3714 q530 q529 q133 (by decide) [aQ (xg x) 5 r1_1 (N + j) (va_cpy f1_2 f1_2 hd (hd + j) (N - hd)), aQ (xg x) 5 a N f, P0, ob (xg x) q 15 [.ref r1_1, .int (jI (↑hd)), .int (jI (↑hd))]] rfl dJ11_grow_122 rfl ?_
              refine sw_aload_n (n := 126) F 5 (some q) rfl rfl rfl dJ11_grow_125 rfl ?_
              refine sw_get (n := 129) F 3 rfl (k := 1) ⟨(RJ11, TJ11, 3), rfl, by decide, q325, in_J11, Or.inl rfl⟩ rfl dJ11_grow_126 rfl ?_
              refine sw_istore (n := 131) F (L2 := [(7, .int (jI (↑hd))), (6, .int (jI (↑j))), (5, .ref r1_1), (3, .int (jI (↑(N + j)))), (4, .int (jI (↑j))), (2, .int (jI (↑N))), (0, .ref q), (1, .int (jI 1))]) rfl (by decide) dJ11_grow_129 rfl ?_
              refine sw_aload_n (n := 132) F 6 (some q) rfl rfl rfl dJ11_grow_131 rfl ?_
              refine sw_dup (n := 133) F rfl dJ11_grow_132 rfl ?_
              refine sw_get (n := 136) F 3 rfl (k := 1) ⟨(RJ11, TJ11, 3), rfl, by decide, q325, in_J11, Or.inl rfl⟩ rfl dJ11_grow_133 rfl ?_
              refine sw_iload (n := 138) F 1 rfl dJ11_grow_136 rfl ?_
              refine sw_iadd (n := 139) F dJ11_grow_138 rfl ?_
              refine sw_top (topI (show ((↑hd) + (↑j) : Int) = ↑(hd + j) by omega)) ?_
              refine sw_dup_x1 (n := 140) F rfl rfl dJ11_grow_139 rfl ?_
              refine sw_put (n := 143) F 3 rfl (k := 1) ⟨(RJ11, TJ11, 3), rfl, by decide, q325, in_J11, Or.inl rfl⟩ .int ⟨(RJ11, TJ11, 3), rfl, rfl, tyJ11_ok 1 (by decide), nmJ11, tyJ11, tyJ11_ok⟩ rfl rfl (Nat.le_of_ble_eq_true rfl) rfl [aQ (xg x) 5 r1_1 (N + j) (va_cpy f1_2 f1_2 hd (hd + j) (N - hd)), aQ (xg x) 5 a N f, P0, ob (xg x) q 15 [.ref r1_1, .int (jI (↑(hd + j))), .int (jI (↑hd))]] rfl dJ11_grow_140 rfl ?_
              refine sw_istore (n := 145) F (L2 := [(8, .int (jI (↑(hd + j)))), (7, .int (jI (↑hd))), (6, .int (jI (↑j))), (5, .ref r1_1), (3, .int (jI (↑(N + j)))), (4, .int (jI (↑j))), (2, .int (jI (↑N))), (0, .ref q), (1, .int (jI 1))]) rfl (by decide) dJ11_grow_143 rfl ?_
              have K145 : ∀ N145 : Nat, ∀ (i : Nat) (f2 : Nat → Option Nat), (hd ≤ i ∧ i ≤ hd + j) → (∀ p, f2 p = if hd ≤ p ∧ p < i then none else va_cpy f1_2 f1_2 hd (hd + j) (N - hd) p) → ((hd + j - i) < N145) → SW x [aQ (xg x) 5 r1_1 (N + j) f2, aQ (xg x) 5 a N f, P0, ob (xg x) q 15 [.ref r1_1, .int (jI (↑(hd + j))), .int (jI (↑hd))]] 0 0 145 [(0, .ref q), (5, .ref r1_1), (7, .int (jI (↑i))), (8, .int (jI (↑(hd + j))))] [] := by
                intro N145; induction N145 with
                | zero => intro i f2 hi h2 hmu145; omega
                | succ N145 ih145 =>
                  intro i f2 hi h2 hmu145
                  refine sw_iload (n := 147) F 2 rfl dJ11_grow_145 rfl ?_
                  refine sw_iload (n := 149) F 3 rfl dJ11_grow_147 rfl ?_
                  refine sw_icmp_ge (n := 152) F (by omega) (by omega) (tgt := 164) dJ11_grow_149 (by decide) rfl (fun c_149 => ?_) (fun c_149 => ?_)
                  ·
                    have hi9 : i = hd + j := by omega
                    rw [hi9] at h2
                    have hrg := rg_c (hd + j) N (N + j)
                    refine sw_perm [3, 0, 1, 2] (perm_ok _ 4 (by decide +kernel) rfl) [ob (xg x) q 15 [.ref r1_1, .int (jI (↑(hd + j))), .int (jI (↑hd))], aQ (xg x) 5 r1_1 (N + j) f2, aQ (xg x) 5 a N f, P0] rfl ?_; refine sw_dqClose (hd := (hd + j)) (tl := hd) (n := N) e (by omega) (by exact dq_grow (by omega) (by omega) hcpx hf h2) ?_
                    refine sw_drop [0, 2, 1] 2 rfl [dq (xg x) q N e, P0] rfl ?_
                    exact sw_vret F rfl dJ11_grow_164 (by rw [hPo]; exact ⟨rfl, rfl⟩)
                  ·
                    refine sw_aload (n := 154) F 1 (some r1_1) rfl rfl dJ11_grow_152 rfl ?_
                    refine sw_iload (n := 156) F 2 rfl dJ11_grow_154 rfl ?_
                    refine sw_null (n := 157) F dJ11_grow_156 rfl ?_
                    refine sw_aastoreQN (n := 158) F 0 rfl (fun _ => rfl) i (by omega) (by omega) [aQ (xg x) 5 r1_1 (N + j) (va_up f2 i none), aQ (xg x) 5 a N f, P0, ob (xg x) q 15 [.ref r1_1, .int (jI (↑(hd + j))), .int (jI (↑hd))]] rfl dJ11_grow_157 rfl ?_
                    refine sw_iinc (n := 161) F 2 (L2 := [(7, .int (jI (↑i + 1))), (0, .ref q), (5, .ref r1_1), (8, .int (jI (↑(hd + j))))]) rfl rfl (by decide) dJ11_grow_158 rfl ?_
                    refine SW.cast (L' := [(7, .int (jI (↑(i + 1)))), (0, .ref q), (5, .ref r1_1), (8, .int (jI (↑(hd + j))))]) ?_ rfl (by rw [show Value.int (jI (↑i + 1)) = Value.int (jI (↑(i + 1))) from topI (by omega)]) rfl
                    refine sw_goto F (n := 145) dJ11_grow_161 (by decide) ?_
                    refine sw_loc [1, 2, 0, 3] (L2 := [(0, .ref q), (5, .ref r1_1), (7, .int (jI (↑(i + 1)))), (8, .int (jI (↑(hd + j))))]) rfl ?_
                    exact ih145 (i + 1) (va_up f2 i none) (by first | omega | assumption) (by exact dq_step (by omega) h2) (by omega)
              refine sw_loc [7, 3, 1, 0] (L2 := [(0, .ref q), (5, .ref r1_1), (7, .int (jI (↑hd))), (8, .int (jI (↑(hd + j))))]) rfl ?_
              exact K145 _ hd (va_cpy f1_2 f1_2 hd (hd + j) (N - hd)) (by first | omega | assumption) (by intro p; rw [if_neg (by omega)]) (Nat.lt_succ_self _)
        · exfalso; omega
    exact K21 ((N) / 2) (by first | omega | assumption)
  ·
    refine sw_iload_n (n := 13) F 0 rfl rfl dJ11_grow_12 rfl ?_
    refine sw_iconst (n := 14) F (2) (by decide) dJ11_grow_13 rfl ?_
    refine sw_iadd (n := 15) F dJ11_grow_14 rfl ?_
    refine sw_goto F (n := 21) dJ11_grow_15 (by decide) ?_
    have K21 : ∀ (j : Nat), (18 ≤ j ∧ j ≤ 66) → SW x [ob (xg x) q 15 [.ref a, .int (jI (↑hd)), .int (jI (↑hd))], aQ (xg x) 5 a N f, P0] 1 300 21 [(2, .int (jI (↑N))), (0, .ref q), (1, .int (jI 1))] [.int (jI (↑j))] := by
      intro j hj
      refine sw_istore (n := 23) F (L2 := [(4, .int (jI (↑j))), (2, .int (jI (↑N))), (0, .ref q), (1, .int (jI 1))]) rfl (by decide) dJ11_grow_21 rfl ?_
      refine sw_iload (n := 25) F 0 rfl dJ11_grow_23 rfl ?_
      refine sw_iload_n (n := 26) F 3 rfl rfl dJ11_grow_25 rfl ?_
      refine sw_icmp_lt (n := 29) F (by omega) (by decide) (tgt := 41) dJ11_grow_26 (by decide) rfl (fun c_26 => ?_) (fun c_26 => ?_)
      · exfalso; omega
      ·
        refine sw_iload_n (n := 30) F 1 rfl rfl dJ11_grow_29 rfl ?_
        refine sw_iload (n := 32) F 0 rfl dJ11_grow_30 rfl ?_
        refine sw_iadd (n := 33) F dJ11_grow_32 rfl ?_
        refine sw_top (topI (show ((↑N) + (↑j) : Int) = ↑(N + j) by omega)) ?_
        refine sw_dup (n := 34) F rfl dJ11_grow_33 rfl ?_
        refine sw_istore_n (n := 35) F (L2 := [(3, .int (jI (↑(N + j)))), (4, .int (jI (↑j))), (2, .int (jI (↑N))), (0, .ref q), (1, .int (jI 1))]) rfl (by decide) rfl dJ11_grow_34 rfl ?_
        refine sw_ldc (n := 37) F (2147483639) q3701 (by decide) dJ11_grow_35 rfl ?_
        refine sw_isub (n := 38) F dJ11_grow_37 rfl ?_
        refine sw_if_le (n := 41) F (by omega) (tgt := 49) dJ11_grow_38 (by decide) rfl (fun c_38 => ?_) (fun c_38 => ?_)
        ·
          refine sw_aload_n (n := 50) F 3 (some q) rfl rfl rfl dJ11_grow_49 rfl ?_
          refine sw_aload_n (n := 51) F 3 (some q) rfl rfl rfl dJ11_grow_50 rfl ?_
          refine sw_get (n := 54) F 0 rfl (k := 0) ⟨(RJ11, TJ11, 3), rfl, by decide, q322, in_J11, Or.inl rfl⟩ rfl dJ11_grow_51 rfl ?_
          refine sw_iload_n (n := 55) F 0 rfl rfl dJ11_grow_54 rfl ?_
          refine sw_callS (n := 58) F (ct_J23_copyOf_3 (g := xg x) (l := xl x) P0 a N f (N + j) (by first | omega | assumption) (by exact hel)) q3713 q3352 q131 q3353 nd_J23_copyOf_3 rfl (by decide) [1, 2, 0] rfl [ob (xg x) q 15 [.ref a, .int (jI (↑hd)), .int (jI (↑hd))]] rfl 0 0 ⟨by omega, by omega⟩ [.ref q] rfl (Nat.le_of_ble_eq_true rfl) dJ11_grow_55 rfl (fun _ _ h => h.elim) (fun v Ws h => ?_)
          obtain ⟨r1_4, f1_5, rfl, hcp_6, rfl⟩ := h
          show SW x [aQ (xg x) 5 r1_4 (N + j) f1_5, aQ (xg x) 5 a N f, P0, ob (xg x) q 15 [.ref a, .int (jI (↑hd)), .int (jI (↑hd))]] _ _ _ _ [.ref r1_4, .ref q]
          refine sw_dup_x1 (n := 59) F rfl rfl dJ11_grow_58 rfl ?_
          refine sw_put (n := 62) F 3 rfl (k := 0) ⟨(RJ11, TJ11, 3), rfl, by decide, q322, in_J11, Or.inl rfl⟩ (tyJ11 0) ⟨(RJ11, TJ11, 3), rfl, rfl, tyJ11_ok 0 (by decide), nmJ11, tyJ11, tyJ11_ok⟩ rfl rfl (Nat.le_of_ble_eq_true rfl) rfl [aQ (xg x) 5 r1_4 (N + j) f1_5, aQ (xg x) 5 a N f, P0, ob (xg x) q 15 [.ref r1_4, .int (jI (↑hd)), .int (jI (↑hd))]] rfl dJ11_grow_59 rfl ?_
          refine sw_astore (n := 64) F (some r1_4) (L2 := [(5, .ref r1_4), (3, .int (jI (↑(N + j)))), (4, .int (jI (↑j))), (2, .int (jI (↑N))), (0, .ref q), (1, .int (jI 1))]) rfl rfl (by decide) dJ11_grow_62 rfl ?_
          refine sw_aload_n (n := 65) F 4 (some q) rfl rfl rfl dJ11_grow_64 rfl ?_
          refine sw_get (n := 68) F 3 rfl (k := 2) ⟨(RJ11, TJ11, 3), rfl, by decide, q326, in_J11, Or.inl rfl⟩ rfl dJ11_grow_65 rfl ?_
          refine sw_aload_n (n := 69) F 4 (some q) rfl rfl rfl dJ11_grow_68 rfl ?_
          refine sw_get (n := 72) F 3 rfl (k := 1) ⟨(RJ11, TJ11, 3), rfl, by decide, q325, in_J11, Or.inl rfl⟩ rfl dJ11_grow_69 rfl ?_
          refine sw_icmp_lt (n := 75) F (by omega) (by omega) (tgt := 96) dJ11_grow_72 (by decide) rfl (fun c_72 => ?_) (fun c_72 => ?_)
          · exfalso; omega
          ·
            refine sw_aload_n (n := 76) F 4 (some q) rfl rfl rfl dJ11_grow_75 rfl ?_
            refine sw_get (n := 79) F 3 rfl (k := 2) ⟨(RJ11, TJ11, 3), rfl, by decide, q326, in_J11, Or.inl rfl⟩ rfl dJ11_grow_76 rfl ?_
            refine sw_aload_n (n := 80) F 4 (some q) rfl rfl rfl dJ11_grow_79 rfl ?_
            refine sw_get (n := 83) F 3 rfl (k := 1) ⟨(RJ11, TJ11, 3), rfl, by decide, q325, in_J11, Or.inl rfl⟩ rfl dJ11_grow_80 rfl ?_
            refine sw_icmp_neS (n := 86) F (tgt := 164) dJ11_grow_83 (by decide) rfl ?_
            refine sw_aload (n := 88) F 0 (some r1_4) rfl rfl dJ11_grow_86 rfl ?_
            refine sw_aload_n (n := 89) F 4 (some q) rfl rfl rfl dJ11_grow_88 rfl ?_
            refine sw_get (n := 92) F 3 rfl (k := 1) ⟨(RJ11, TJ11, 3), rfl, by decide, q325, in_J11, Or.inl rfl⟩ rfl dJ11_grow_89 rfl ?_
            refine sw_aaloadQ (n := 93) F 0 rfl (fun _ => rfl) hd rfl (by omega) dJ11_grow_92 rfl ?_
            have hh0 : f1_5 hd = some (e 0) := by rw [hcp_6 hd (by omega), ← hf 0 (by omega), hr0]
            rw [hh0]
            show SW x _ _ _ _ _ [.ref (e 0)]
            refine sw_ifnull (n := 96) F (o := (some (e 0))) rfl (tgt := 164) dJ11_grow_93 (by decide) rfl (fun c_93 => ?_) (fun _ _ => ?_)
            · cases c_93
            ·
              refine sw_iload_n (n := 97) F 1 rfl rfl dJ11_grow_96 rfl ?_
              refine sw_iload_n (n := 98) F 3 rfl rfl dJ11_grow_97 rfl ?_
              refine sw_isub (n := 99) F dJ11_grow_98 rfl ?_
              refine sw_top (topI (show ((↑(N + j)) - (↑N) : Int) = ↑j by omega)) ?_
              refine sw_istore (n := 101) F (L2 := [(6, .int (jI (↑j))), (5, .ref r1_4), (3, .int (jI (↑(N + j)))), (4, .int (jI (↑j))), (2, .int (jI (↑N))), (0, .ref q), (1, .int (jI 1))]) rfl (by decide) dJ11_grow_99 rfl ?_
              refine sw_aload (n := 103) F 1 (some r1_4) rfl rfl dJ11_grow_101 rfl ?_
              refine sw_aload_n (n := 104) F 5 (some q) rfl rfl rfl dJ11_grow_103 rfl ?_
              refine sw_get (n := 107) F 3 rfl (k := 1) ⟨(RJ11, TJ11, 3), rfl, by decide, q325, in_J11, Or.inl rfl⟩ rfl dJ11_grow_104 rfl ?_
              refine sw_aload (n := 109) F 1 (some r1_4) rfl rfl dJ11_grow_107 rfl ?_
              refine sw_aload_n (n := 110) F 5 (some q) rfl rfl rfl dJ11_grow_109 rfl ?_
              refine sw_get (n := 113) F 3 rfl (k := 1) ⟨(RJ11, TJ11, 3), rfl, by decide, q325, in_J11, Or.inl rfl⟩ rfl dJ11_grow_110 rfl ?_
              refine sw_iload (n := 115) F 0 rfl dJ11_grow_113 rfl ?_
              refine sw_iadd (n := 116) F dJ11_grow_115 rfl ?_
              refine sw_top (topI (show ((↑hd) + (↑j) : Int) = ↑(hd + j) by omega)) ?_
              refine sw_iload_n (n := 117) F 4 rfl rfl dJ11_grow_116 rfl ?_
              refine sw_aload_n (n := 118) F 5 (some q) rfl rfl rfl dJ11_grow_117 rfl ?_
              refine sw_get (n := 121) F 3 rfl (k := 1) ⟨(RJ11, TJ11, 3), rfl, by decide, q325, in_J11, Or.inl rfl⟩ rfl dJ11_grow_118 rfl ?_
              refine sw_isub (n := 122) F dJ11_grow_121 rfl ?_
              refine sw_top (topI (show ((↑N) - (↑hd) : Int) = ↑(N - hd) by omega)) ?_
              have helg : ∀ k, k < N - hd → ∀ v, f1_5 (hd + k) = some v → kno (xg x) P0 v "java/lang/Object" := fun k hk v hv => hel (hd + k) (by omega) v (by rw [← hcp_6 (hd + k) (by omega)]; exact hv)
              have hcpx := hcp_6
              refine sw_copyQ (n := 125) F 0 0 rfl rfl (fun _ => rfl) hd (hd + j) (N - hd) (by first | rfl | omega) (by first | rfl | omega) (by first | rfl | omega) (by omega) (by omega) (by omega) (by intro k hk v hv; first | exact any_of F 0 rfl (helg k hk v hv) | exact any_of F 1 rfl (helg k hk v hv) | exact any_of F 2 rfl (helg k hk v hv) | exact any_of F 3 rfl (helg k hk v hv)) q3714 q530 q529 q133 (by decide) [aQ (xg x) 5 r1_4 (N + j) (va_cpy f1_5 f1_5 hd (hd + j) (N - hd)), aQ (xg x) 5 a N f, P0, ob (xg x) q 15 [.ref r1_4, .int (jI (↑hd)), .int (jI (↑hd))]] rfl dJ11_grow_122 rfl ?_
              refine sw_aload_n (n := 126) F 5 (some q) rfl rfl rfl dJ11_grow_125 rfl ?_
              refine sw_get (n := 129) F 3 rfl (k := 1) ⟨(RJ11, TJ11, 3), rfl, by decide, q325, in_J11, Or.inl rfl⟩ rfl dJ11_grow_126 rfl ?_
              refine sw_istore (n := 131) F (L2 := [(7, .int (jI (↑hd))), (6, .int (jI (↑j))), (5, .ref r1_4), (3, .int (jI (↑(N + j)))), (4, .int (jI (↑j))), (2, .int (jI (↑N))), (0, .ref q), (1, .int (jI 1))]) rfl (by decide) dJ11_grow_129 rfl ?_
              refine sw_aload_n (n := 132) F 6 (some q) rfl rfl rfl dJ11_grow_131 rfl ?_
              refine sw_dup (n := 133) F rfl dJ11_grow_132 rfl ?_
              refine sw_get (n := 136) F 3 rfl (k := 1) ⟨(RJ11, TJ11, 3), rfl, by decide, q325, in_J11, Or.inl rfl⟩ rfl dJ11_grow_133 rfl ?_
              refine sw_iload (n := 138) F 1 rfl dJ11_grow_136 rfl ?_
              refine sw_iadd (n := 139) F dJ11_grow_138 rfl ?_
              refine sw_top (topI (show ((↑hd) + (↑j) : Int) = ↑(hd + j) by omega)) ?_
              refine sw_dup_x1 (n := 140) F rfl rfl dJ11_grow_139 rfl ?_
              refine sw_put (n := 143) F 3 rfl (k := 1) ⟨(RJ11, TJ11, 3), rfl, by decide, q325, in_J11, Or.inl rfl⟩ .int ⟨(RJ11, TJ11, 3), rfl, rfl, tyJ11_ok 1 (by decide), nmJ11, tyJ11, tyJ11_ok⟩ rfl rfl (Nat.le_of_ble_eq_true rfl) rfl [aQ (xg x) 5 r1_4 (N + j) (va_cpy f1_5 f1_5 hd (hd + j) (N - hd)), aQ (xg x) 5 a N f, P0, ob (xg x) q 15 [.ref r1_4, .int (jI (↑(hd + j))), .int (jI (↑hd))]] rfl dJ11_grow_140 rfl ?_
              refine sw_istore (n := 145) F (L2 := [(8, .int (jI (↑(hd + j)))), (7, .int (jI (↑hd))), (6, .int (jI (↑j))), (5, .ref r1_4), (3, .int (jI (↑(N + j)))), (4, .int (jI (↑j))), (2, .int (jI (↑N))), (0, .ref q), (1, .int (jI 1))]) rfl (by decide) dJ11_grow_143 rfl ?_
              have K145 : ∀ N145 : Nat, ∀ (i : Nat) (f2 : Nat → Option Nat), (hd ≤ i ∧ i ≤ hd + j) → (∀ p, f2 p = if hd ≤ p ∧ p < i then none else va_cpy f1_5 f1_5 hd (hd + j) (N - hd) p) → ((hd + j - i) < N145) → SW x [aQ (xg x) 5 r1_4 (N + j) f2, aQ (xg x) 5 a N f, P0, ob (xg x) q 15 [.ref r1_4, .int (jI (↑(hd + j))), .int (jI (↑hd))]] 0 0 145 [(0, .ref q), (5, .ref r1_4), (7, .int (jI (↑i))), (8, .int (jI (↑(hd + j))))] [] := by
                intro N145; induction N145 with
                | zero => intro i f2 hi h2 hmu145; omega
                | succ N145 ih145 =>
                  intro i f2 hi h2 hmu145
                  refine sw_iload (n := 147) F 2 rfl dJ11_grow_145 rfl ?_
                  refine sw_iload (n := 149) F 3 rfl dJ11_grow_147 rfl ?_
                  refine sw_icmp_ge (n := 152) F (by omega) (by omega) (tgt := 164) dJ11_grow_149 (by decide) rfl (fun c_149 => ?_) (fun c_149 => ?_)
                  ·
                    have hi9 : i = hd + j := by omega
                    rw [hi9] at h2
                    have hrg := rg_c (hd + j) N (N + j)
                    refine sw_perm [3, 0, 1, 2] (perm_ok _ 4 (by decide +kernel) rfl) [ob (xg x) q 15 [.ref r1_4, .int (jI (↑(hd + j))), .int (jI (↑hd))], aQ (xg x) 5 r1_4 (N + j) f2, aQ (xg x) 5 a N f, P0] rfl ?_; refine sw_dqClose (hd := (hd + j)) (tl := hd) (n := N) e (by omega) (by exact dq_grow (by omega) (by omega) hcpx hf h2) ?_
                    refine sw_drop [0, 2, 1] 2 rfl [dq (xg x) q N e, P0] rfl ?_
                    exact sw_vret F rfl dJ11_grow_164 (by rw [hPo]; exact ⟨rfl, rfl⟩)
                  ·
                    refine sw_aload (n := 154) F 1 (some r1_4) rfl rfl dJ11_grow_152 rfl ?_
                    refine sw_iload (n := 156) F 2 rfl dJ11_grow_154 rfl ?_
                    refine sw_null (n := 157) F dJ11_grow_156 rfl ?_
                    refine sw_aastoreQN (n := 158) F 0 rfl (fun _ => rfl) i (by omega) (by omega) [aQ (xg x) 5 r1_4 (N + j) (va_up f2 i none), aQ (xg x) 5 a N f, P0, ob (xg x) q 15 [.ref r1_4, .int (jI (↑(hd + j))), .int (jI (↑hd))]] rfl dJ11_grow_157 rfl ?_
                    refine sw_iinc (n := 161) F 2 (L2 := [(7, .int (jI (↑i + 1))), (0, .ref q), (5, .ref r1_4), (8, .int (jI (↑(hd + j))))]) rfl rfl (by decide) dJ11_grow_158 rfl ?_
                    refine SW.cast (L' := [(7, .int (jI (↑(i + 1)))), (0, .ref q), (5, .ref r1_4), (8, .int (jI (↑(hd + j))))]) ?_ rfl (by rw [show Value.int (jI (↑i + 1)) = Value.int (jI (↑(i + 1))) from topI (by omega)]) rfl
                    refine sw_goto F (n := 145) dJ11_grow_161 (by decide) ?_
                    refine sw_loc [1, 2, 0, 3] (L2 := [(0, .ref q), (5, .ref r1_4), (7, .int (jI (↑(i + 1)))), (8, .int (jI (↑(hd + j))))]) rfl ?_
                    exact ih145 (i + 1) (va_up f2 i none) (by first | omega | assumption) (by exact dq_step (by omega) h2) (by omega)
              refine sw_loc [7, 3, 1, 0] (L2 := [(0, .ref q), (5, .ref r1_4), (7, .int (jI (↑hd))), (8, .int (jI (↑(hd + j))))]) rfl ?_
              exact K145 _ hd (va_cpy f1_5 f1_5 hd (hd + j) (N - hd)) (by first | omega | assumption) (by intro p; rw [if_neg (by omega)]) (Nat.lt_succ_self _)
        · exfalso; omega
    exact K21 ((N) + 2) (by first | omega | assumption)
theorem nd_J11_addLast : yJ11_addLast.cls ≠ "java/lang/invoke/MethodHandle" ∧ yJ11_addLast.cls ≠ "java/lang/invoke/VarHandle" ∧ (parseMethodDescriptor yJ11_addLast.desc).map (fun d => d.parameters.length) = some 1 := by decide +kernel
set_option maxRecDepth 100000 in
set_option maxHeartbeats 16000000 in
theorem ct_J11_addLast {g : GG} {l : Launch} (P0 : HP) (q : Nat) (n : Nat) (e : Nat → Nat) (v : Nat) (hn : n < 64) (hke : ∀ k, k < n → kno g P0 (e k) "java/lang/Object") (hkv : kno g P0 v "java/lang/Object") : Ct g l yJ11_addLast (ws_ yJ11_addLast cJ11_addLast 3 (Option.none : Option Jvm.ClassFile.FieldType)) 4 102 1 300 [.ref q, .ref v] [dq g q n e, P0] (fun v9 Ws9 => v9 = none ∧ Ws9 = [dq g q (n + 1) (va_up e n v), P0]) (nox) := by
  refine Ct.of (cc := cJ11_addLast) (nL := 3) (ret := (Option.none : Option Jvm.ClassFile.FieldType)) (by decide) rfl (Nat.le_of_ble_eq_true rfl) ?_
  intro x hg hl hPo hPx hmc hms F
  subst hg; subst hl
  refine SW.cast (L' := [(0, .ref q), (1, .ref v)]) ?_ rfl rfl rfl
  refine sw_aload_n (n := 1) F 1 (some v) rfl rfl rfl dJ11_addLast_0 rfl ?_
  refine sw_ifnonnull (n := 4) F (o := (some v)) rfl (tgt := 12) dJ11_addLast_1 (by decide) rfl (fun _ _ => ?_) (fun c_1 => ?_)
  ·
    refine sw_dqOpen (fun a N hd tl f hN htl hf => ?_)
    have htc := rg_c hd n N
    refine sw_aload_n (n := 13) F 0 (some q) rfl rfl rfl dJ11_addLast_12 rfl ?_
    refine sw_get (n := 16) F 0 rfl (k := 0) ⟨(RJ11, TJ11, 3), rfl, by decide, q322, in_J11, Or.inl rfl⟩ rfl dJ11_addLast_13 rfl ?_
    refine sw_astore_n (n := 17) F (some a) (L2 := [(2, .ref a), (0, .ref q), (1, .ref v)]) rfl rfl (by decide) rfl dJ11_addLast_16 rfl ?_
    refine sw_aload_n (n := 18) F 0 (some a) rfl rfl rfl dJ11_addLast_17 rfl ?_
    refine sw_aload_n (n := 19) F 1 (some q) rfl rfl rfl dJ11_addLast_18 rfl ?_
    refine sw_get (n := 22) F 0 rfl (k := 2) ⟨(RJ11, TJ11, 3), rfl, by decide, q326, in_J11, Or.inl rfl⟩ rfl dJ11_addLast_19 rfl ?_
    refine sw_aload_n (n := 23) F 2 (some v) rfl rfl rfl dJ11_addLast_22 rfl ?_
    refine sw_aastoreQ (n := 24) F 1 rfl (fun _ => rfl) (any_of F 2 rfl hkv) tl rfl (by omega) [ob (xg x) q 15 [.ref a, .int (jI (↑hd)), .int (jI (↑tl))], aQ (xg x) 5 a N (va_up f tl (some v)), P0] rfl dJ11_addLast_23 rfl ?_
    refine sw_aload_n (n := 25) F 1 (some q) rfl rfl rfl dJ11_addLast_24 rfl ?_
    refine sw_get (n := 28) F 0 rfl (k := 1) ⟨(RJ11, TJ11, 3), rfl, by decide, q325, in_J11, Or.inl rfl⟩ rfl dJ11_addLast_25 rfl ?_
    refine sw_aload_n (n := 29) F 1 (some q) rfl rfl rfl dJ11_addLast_28 rfl ?_
    refine sw_aload_n (n := 30) F 1 (some q) rfl rfl rfl dJ11_addLast_29 rfl ?_
    refine sw_get (n := 33) F 0 rfl (k := 2) ⟨(RJ11, TJ11, 3), rfl, by decide, q326, in_J11, Or.inl rfl⟩ rfl dJ11_addLast_30 rfl ?_
    refine sw_aload_n (n := 34) F 0 (some a) rfl rfl rfl dJ11_addLast_33 rfl ?_
    refine sw_alen (n := 35) F 1 rfl (fun _ => rfl) dJ11_addLast_34 rfl ?_
    refine sw_callS (n := 38) F (ct_J11_inc (g := xg x) (l := xl x) tl N (by first | omega | assumption)) q3696 q988 q115 q989 nd_J11_inc rfl (by decide) [0, 1, 2] rfl [ob (xg x) q 15 [.ref a, .int (jI (↑hd)), .int (jI (↑tl))], aQ (xg x) 5 a N (va_up f tl (some v)), P0] rfl 1 300 ⟨by omega, by omega⟩ [.ref q, .int (jI (↑hd))] rfl (Nat.le_of_ble_eq_true rfl) dJ11_addLast_35 rfl (fun _ _ h => h.elim) (fun v Ws h => ?_)
    obtain ⟨rfl, rfl⟩ := h
    show SW x [ob (xg x) q 15 [.ref a, .int (jI (↑hd)), .int (jI (↑tl))], aQ (xg x) 5 a N (va_up f tl (some v)), P0] _ _ _ _ [.int (jI (↑(if tl + 1 < N then tl + 1 else 0))), .ref q, .int (jI (↑hd))]
    refine sw_top (topI (show (↑(if tl + 1 < N then tl + 1 else 0) : Int) = ↑(rg hd (n + 1) N) by rw [dq_inc (by omega) (by omega) htl])) ?_
    have hrn := rg_c hd (n + 1) N
    refine sw_dup_x1 (n := 39) F rfl rfl dJ11_addLast_38 rfl ?_
    refine sw_put (n := 42) F 0 rfl (k := 2) ⟨(RJ11, TJ11, 3), rfl, by decide, q326, in_J11, Or.inl rfl⟩ .int ⟨(RJ11, TJ11, 3), rfl, rfl, tyJ11_ok 2 (by decide), nmJ11, tyJ11, tyJ11_ok⟩ rfl rfl (Nat.le_of_ble_eq_true rfl) rfl [ob (xg x) q 15 [.ref a, .int (jI (↑hd)), .int (jI (↑(rg hd (n + 1) N)))], aQ (xg x) 5 a N (va_up f tl (some v)), P0] rfl dJ11_addLast_39 rfl ?_
    refine sw_icmp_ne (n := 45) F (by omega) (by omega) (tgt := 50) dJ11_addLast_42 (by decide) rfl (fun c_42 => ?_) (fun c_42 => ?_)
    ·
      refine sw_dqClose (hd := hd) (tl := (rg hd (n + 1) N)) (n := n + 1) (va_up e n v) (by omega) (by rw [htl]; exact dq_put (by omega) (by omega) hf) ?_
      exact sw_vret F rfl dJ11_addLast_50 (by rw [hPo]; exact ⟨rfl, rfl⟩)
    ·
      have hte : ((rg hd (n + 1) N : Nat) : Int) = (hd : Int) := by omega
      rw [hte]
      refine sw_aload_n (n := 46) F 1 (some q) rfl rfl rfl dJ11_addLast_45 rfl ?_
      refine sw_iconst (n := 47) F (1) (by decide) dJ11_addLast_46 rfl ?_
      refine sw_callV (n := 50) F (ct_J11_grow (g := xg x) (l := xl x) P0 q (va_up e n v) a N hd (va_up f tl (some v)) (by first | omega | assumption) (by intro k hk; rw [htl]; exact dq_put (by omega) (by omega) hf k (by omega)) (by intro k hk; unfold va_up; by_cases h9 : k = n; rw [if_pos h9]; exact hkv; rw [if_neg h9]; exact hke k (by omega))) (rcv_ob F 0 rfl rfl) q3697 q3699 qs65 q115 q3700 nd_J11_grow rfl (by decide) [0, 1, 2] rfl [] rfl 0 0 ⟨by omega, by omega⟩ [] rfl (Nat.le_of_ble_eq_true rfl) dJ11_addLast_47 rfl (fun _ _ h => h.elim) (fun v Ws h => ?_)
      obtain ⟨rfl, rfl⟩ := h
      show SW x [dq (xg x) q N (va_up e n v), P0] _ _ _ _ []
      exact sw_vret F rfl dJ11_addLast_50 (by rw [hPo]; exact ⟨rfl, (by rw [show N = n + 1 by omega])⟩)
  · cases c_1
