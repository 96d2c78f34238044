def BD (lo hi : Int) (f : Nat → Int) : Prop := ∀ k, lo ≤ f k ∧ f k ≤ hi
def fdI (f : Nat → Int) (b n : Nat) (p : Int) : Nat → Nat
  | 0 => n
  | k + 1 => if f (b + k) = p then k else fdI f b n p k
theorem fdI_le (f : Nat → Int) (b n : Nat) (p : Int) : ∀ k, k ≤ n → fdI f b n p k ≤ n := by
  intro k
  induction k with
  | zero => intro _; exact Nat.le_refl n
  | succ k ih => intro h; simp only [fdI]; split; omega; exact ih (by omega)
def tlN (fd n : Nat) : Int := if fd = n then (n : Int) + 1 else n
def tdI (f : Nat → Int) (s : Nat) (p : Int) : Nat → Int
  | 0 => -1
  | j + 1 => if f (s + j) ≤ p ∧ (tdI f s p j < 0 ∨ f (tdI f s p j).toNat < f (s + j)) then ((s + j : Nat) : Int) else tdI f s p j
theorem tdI_rng (f : Nat → Int) (s : Nat) (p : Int) : ∀ j, -1 ≤ tdI f s p j ∧ (0 ≤ tdI f s p j → (s : Int) ≤ tdI f s p j ∧ tdI f s p j < s + j) := by
  intro j
  induction j with
  | zero => show -1 ≤ (-1 : Int) ∧ (0 ≤ (-1 : Int) → _); exact ⟨by omega, fun h => absurd h (by decide)⟩
  | succ j ih => simp only [tdI]; split <;> omega
def toR (f h : Nat → Int) (s : Nat) (p : Int) (n : Nat) : Int := if tdI f s p n < 0 then 0 else h (tdI f s p n).toNat
theorem toR_rng {f h : Nat → Int} {s n : Nat} {p lo hi : Int} (hh : BD lo hi h) (h0 : lo ≤ 0 ∧ 0 ≤ hi) : lo ≤ toR f h s p n ∧ toR f h s p n ≤ hi := by
  unfold toR; split
  · exact h0
  · exact hh _
def txI (Td Tm : Nat → Int) (k : Nat) (d : Int) : Nat := 600 * k + fdI Td (600 * k) (Tm k).toNat d (Tm k).toNat
def txN (Td Tm : Nat → Int) (k : Nat) (d : Int) : Int := tlN (fdI Td (600 * k) (Tm k).toNat d (Tm k).toNat) (Tm k).toNat
def txA (Td Tx Tm : Nat → Int) (k : Nat) (d : Int) : Int := toR Td Tx (600 * k) d (Tm k).toNat
def stP (k d p : Int) : Int := if k < 0 ∨ 5 < k then 1 else if d < 0 ∨ 9999 < d ∨ p < 0 ∨ 9999 < p then 2 else 0
theorem stP_c (k d p : Int) : (stP k d p = 1 ∧ (k < 0 ∨ 5 < k)) ∨ (stP k d p = 2 ∧ ¬(k < 0 ∨ 5 < k) ∧ (d < 0 ∨ 9999 < d ∨ p < 0 ∨ 9999 < p)) ∨ (stP k d p = 0 ∧ ¬(k < 0 ∨ 5 < k) ∧ ¬(d < 0 ∨ 9999 < d ∨ p < 0 ∨ 9999 < p)) := by
  unfold stP; (repeat' split) <;> omega
def txP (k d : Int) : Int := if k < 0 ∨ 5 < k then 1 else if d < 0 ∨ 9999 < d then 2 else 0
theorem txP_c (k d : Int) : (txP k d = 1 ∧ (k < 0 ∨ 5 < k)) ∨ (txP k d = 2 ∧ ¬(k < 0 ∨ 5 < k) ∧ (d < 0 ∨ 9999 < d)) ∨ (txP k d = 0 ∧ ¬(k < 0 ∨ 5 < k) ∧ ¬(d < 0 ∨ 9999 < d)) := by
  unfold txP; (repeat' split) <;> omega
def sdP (k d p : Int) : Int := if k < 0 ∨ 5 < k then 1 else if d < 1 ∨ 999999 < d ∨ p < 0 ∨ 999 < p then 2 else 0
theorem sdP_c (k d p : Int) : (sdP k d p = 1 ∧ (k < 0 ∨ 5 < k)) ∨ (sdP k d p = 2 ∧ ¬(k < 0 ∨ 5 < k) ∧ (d < 1 ∨ 999999 < d ∨ p < 0 ∨ 999 < p)) ∨ (sdP k d p = 0 ∧ ¬(k < 0 ∨ 5 < k) ∧ ¬(d < 1 ∨ 999999 < d ∨ p < 0 ∨ 999 < p)) := by
  unfold sdP; (repeat' split) <;> omega
theorem nd_X4_isKind : yX4_isKind.cls ≠ "java/lang/invoke/MethodHandle" ∧ yX4_isKind.cls ≠ "java/lang/invoke/VarHandle" ∧ (parseMethodDescriptor yX4_isKind.desc).map (fun d => d.parameters.length) = some 1 := by decide +kernel
set_option maxRecDepth 100000 in
set_option maxHeartbeats 16000000 in
theorem ct_X4_isKind {g : GG} {l : Launch} (k : Int) (hk : -2147483648 ≤ k ∧ k ≤ 2147483647) : Ct g l yX4_isKind (ws_ yX4_isKind cX4_isKind 1 (Option.some Jvm.ClassFile.FieldType.boolean)) 2 37 0 0 [.int (jI k)] [] (fun v9 Ws9 => v9 = some (.int (jI (inI k 0 5))) ∧ ((inI k 0 5 = 1 ∧ 0 ≤ k ∧ k ≤ 5) ∨ (inI k 0 5 = 0 ∧ (k < 0 ∨ 5 < k))) ∧ Ws9 = []) (nox) := by
  refine Ct.of (cc := cX4_isKind) (nL := 1) (ret := (Option.some Jvm.ClassFile.FieldType.boolean)) (by decide) rfl (Nat.le_of_ble_eq_true rfl) ?_
  intro x hg hl hPo hPx hmc hms F
  subst hg; subst hl
  refine SW.cast (L' := [(0, .int (jI k))]) ?_ rfl rfl rfl
  refine sw_iload_n (n := 1) F 0 rfl rfl dX4_isKind_0 rfl ?_
  refine sw_i2l (n := 2) F (by omega) dX4_isKind_1 rfl ?_
  refine sw_lconst (n := 3) F 0 (by decide) dX4_isKind_2 rfl ?_
  refine sw_ldc2 (n := 6) F (5) q4148 (by decide) dX4_isKind_3 rfl ?_
  refine sw_callS (n := 9) F (ct_X4_in (g := xg x) (l := xl x) k 0 5 (by first | omega | assumption) (by first | omega | assumption) (by first | omega | assumption)) q3963 q3964 q120 q3965 nd_X4_in rfl (by decide) [] rfl [] rfl 0 0 ⟨by omega, by omega⟩ [] rfl (Nat.le_of_ble_eq_true rfl) dX4_isKind_6 rfl (fun _ _ h => h.elim) (fun v Ws h => ?_)
  obtain ⟨rfl, hs_1, rfl⟩ := h
  show SW x [] _ _ _ _ [.int (jI (inI k 0 5))]
  exact sw_iret F _ rfl (by first | rfl | exact jI_nz (by omega) | exact jI_nc (by omega)) dX4_isKind_9 (by rw [hPo]; exact ⟨rfl, (by exact inI_cases _ _ _), rfl⟩)
theorem nd_X4_tells : yX4_tells.cls ≠ "java/lang/invoke/MethodHandle" ∧ yX4_tells.cls ≠ "java/lang/invoke/VarHandle" ∧ (parseMethodDescriptor yX4_tells.desc).map (fun d => d.parameters.length) = some 6 := by decide +kernel
set_option maxRecDepth 100000 in
set_option maxHeartbeats 16000000 in
theorem ct_X4_tells {g : GG} {l : Launch} (x1 : Nat) (y1 : Nat) (f : Nat → Int) (h : Nat → Int) (kd : Nat) (n : Nat) (p : Int) (v : Int) (hkd : kd < 6) (hn : n < 600) (hf : BD 0 999999 f) (hp : -2147483648 ≤ p ∧ p ≤ 2147483647) : Ct g l yX4_tells (ws_ yX4_tells cX4_tells 8 (Option.some Jvm.ClassFile.FieldType.int)) 1 12 0 0 [.ref x1, .ref y1, .int (jI (↑kd)), .int (jI (↑n)), .int (jI p), .int (jI v)] [aI g 0 x1 3600 f, aI g 0 y1 3600 h] (fun v9 Ws9 => v9 = some (.int (jI (tlN (fdI f (600 * kd) n p n) n))) ∧ Ws9 = [aI g 0 x1 3600 (va_up f (600 * kd + fdI f (600 * kd) n p n) p), aI g 0 y1 3600 (va_up h (600 * kd + fdI f (600 * kd) n p n) v)]) (nox) := by
  refine Ct.of (cc := cX4_tells) (nL := 8) (ret := (Option.some Jvm.ClassFile.FieldType.int)) (by decide) rfl (Nat.le_of_ble_eq_true rfl) ?_
  intro x hg hl hPo hPx hmc hms F
  subst hg; subst hl
  refine SW.cast (L' := [(0, .ref x1), (1, .ref y1), (2, .int (jI (↑kd))), (3, .int (jI (↑n))), (4, .int (jI p)), (5, .int (jI v))]) ?_ rfl rfl rfl
  refine sw_iload_n (n := 1) F 3 rfl rfl dX4_tells_0 rfl ?_
  refine sw_istore (n := 3) F (L2 := [(6, .int (jI (↑n))), (0, .ref x1), (1, .ref y1), (2, .int (jI (↑kd))), (3, .int (jI (↑n))), (4, .int (jI p)), (5, .int (jI v))]) rfl (by decide) dX4_tells_1 rfl ?_
  refine sw_iconst (n := 4) F (0) (by decide) dX4_tells_3 rfl ?_
  refine sw_istore (n := 6) F (L2 := [(7, .int (jI 0)), (6, .int (jI (↑n))), (0, .ref x1), (1, .ref y1), (2, .int (jI (↑kd))), (3, .int (jI (↑n))), (4, .int (jI p)), (5, .int (jI v))]) rfl (by decide) dX4_tells_4 rfl ?_
  have K6 : ∀ N6 : Nat, ∀ (k : Nat) (fo : Nat), (k ≤ n) → (fo = fdI f (600 * kd) n p k) → ((n - k) < N6) → SW x [aI (xg x) 0 x1 3600 f, aI (xg x) 0 y1 3600 h] 0 0 6 [(0, .ref x1), (1, .ref y1), (2, .int (jI (↑kd))), (3, .int (jI (↑n))), (4, .int (jI p)), (5, .int (jI v)), (6, .int (jI (↑fo))), (7, .int (jI (↑k)))] [] := by
    intro N6; induction N6 with
    | zero => intro k fo hk hfo hmu6; omega
    | succ N6 ih6 =>
      intro k fo hk hfo hmu6
      refine sw_iload (n := 8) F 7 rfl dX4_tells_6 rfl ?_
      refine sw_iload_n (n := 9) F 3 rfl rfl dX4_tells_8 rfl ?_
      refine sw_icmp_ge (n := 12) F (by omega) (by omega) (tgt := 42) dX4_tells_9 (by decide) rfl (fun c_9 => ?_) (fun c_9 => ?_)
      ·
        have e6 : fo = fdI f (600 * kd) n p n := by rw [hfo, show k = n by omega]
        subst e6
        have hfl := fdI_le f (600 * kd) n p n (Nat.le_refl n)
        refine sw_aload_n (n := 43) F 0 (some x1) rfl rfl rfl dX4_tells_42 rfl ?_
        refine sw_sipush (n := 46) F (600) (by decide) dX4_tells_43 rfl ?_
        refine sw_iload_n (n := 47) F 2 rfl rfl dX4_tells_46 rfl ?_
        refine sw_imul (n := 48) F dX4_tells_47 rfl ?_
        refine sw_iload (n := 50) F 6 rfl dX4_tells_48 rfl ?_
        refine sw_iadd (n := 51) F dX4_tells_50 rfl ?_
        refine sw_iload (n := 53) F 4 rfl dX4_tells_51 rfl ?_
        refine sw_iastoreI (n := 54) F 0 rfl (fun _ => rfl) ((600 * (kd)) + ((fdI f (600 * kd) n p n))) (by omega) (by omega) [aI (xg x) 0 x1 3600 (va_up f ((600 * (kd)) + ((fdI f (600 * kd) n p n))) p), aI (xg x) 0 y1 3600 h] (by rfl) dX4_tells_53 rfl ?_
        refine sw_aload_n (n := 55) F 1 (some y1) rfl rfl rfl dX4_tells_54 rfl ?_
        refine sw_sipush (n := 58) F (600) (by decide) dX4_tells_55 rfl ?_
        refine sw_iload_n (n := 59) F 2 rfl rfl dX4_tells_58 rfl ?_
        refine sw_imul (n := 60) F dX4_tells_59 rfl ?_
        refine sw_iload (n := 62) F 6 rfl dX4_tells_60 rfl ?_
        refine sw_iadd (n := 63) F dX4_tells_62 rfl ?_
        refine sw_iload (n := 65) F 5 rfl dX4_tells_63 rfl ?_
        refine sw_iastoreI (n := 66) F 1 rfl (fun _ => rfl) ((600 * (kd)) + ((fdI f (600 * kd) n p n))) (by omega) (by omega) [aI (xg x) 0 x1 3600 (va_up f ((600 * (kd)) + ((fdI f (600 * kd) n p n))) p), aI (xg x) 0 y1 3600 (va_up h ((600 * (kd)) + ((fdI f (600 * kd) n p n))) v)] (by rfl) dX4_tells_65 rfl ?_
        refine sw_iload (n := 68) F 6 rfl dX4_tells_66 rfl ?_
        refine sw_iload_n (n := 69) F 3 rfl rfl dX4_tells_68 rfl ?_
        refine sw_icmp_ne (n := 72) F (by omega) (by omega) (tgt := 78) dX4_tells_69 (by decide) rfl (fun c_69 => ?_) (fun c_69 => ?_)
        ·
          refine sw_iload_n (n := 79) F 3 rfl rfl dX4_tells_78 rfl ?_
          exact sw_iret F _ rfl (by first | rfl | exact jI_nz (by omega) | exact jI_nc (by omega)) dX4_tells_79 (by rw [hPo]; exact ⟨(by first | (unfold tlN; rw [if_pos (by omega)]) | (unfold tlN; rw [if_neg (by omega)])), (by rfl)⟩)
        ·
          refine sw_iload_n (n := 73) F 3 rfl rfl dX4_tells_72 rfl ?_
          refine sw_iconst (n := 74) F (1) (by decide) dX4_tells_73 rfl ?_
          refine sw_iadd (n := 75) F dX4_tells_74 rfl ?_
          refine sw_goto F (n := 79) dX4_tells_75 (by decide) ?_
          exact sw_iret F _ rfl (by first | rfl | exact jI_nz (by omega) | exact jI_nc (by omega)) dX4_tells_79 (by rw [hPo]; exact ⟨(by first | (unfold tlN; rw [if_pos (by omega)]) | (unfold tlN; rw [if_neg (by omega)])), (by rfl)⟩)
      ·
        refine sw_aload_n (n := 13) F 0 (some x1) rfl rfl rfl dX4_tells_12 rfl ?_
        refine sw_sipush (n := 16) F (600) (by decide) dX4_tells_13 rfl ?_
        refine sw_iload_n (n := 17) F 2 rfl rfl dX4_tells_16 rfl ?_
        refine sw_imul (n := 18) F dX4_tells_17 rfl ?_
        refine sw_iload (n := 20) F 7 rfl dX4_tells_18 rfl ?_
        refine sw_iadd (n := 21) F dX4_tells_20 rfl ?_
        have hfk := hf (600 * kd + k)
        refine sw_ialoadI (n := 22) F 0 rfl (fun _ => rfl) ((600 * (kd)) + (k)) (by omega) (by omega) dX4_tells_21 rfl ?_
        refine sw_iload (n := 24) F 4 rfl dX4_tells_22 rfl ?_
        refine sw_icmp_ne (n := 27) F (by omega) (by omega) (tgt := 32) dX4_tells_24 (by decide) rfl (fun c_24 => ?_) (fun c_24 => ?_)
        ·
          refine sw_iload (n := 34) F 6 rfl dX4_tells_32 rfl ?_
          refine sw_istore (n := 36) F (L2 := [(6, .int (jI (↑fo))), (0, .ref x1), (1, .ref y1), (2, .int (jI (↑kd))), (3, .int (jI (↑n))), (4, .int (jI p)), (5, .int (jI v)), (7, .int (jI (↑k)))]) rfl (by decide) dX4_tells_34 rfl ?_
          refine sw_iinc (n := 39) F 7 (L2 := [(7, .int (jI (↑k + 1))), (6, .int (jI (↑fo))), (0, .ref x1), (1, .ref y1), (2, .int (jI (↑kd))), (3, .int (jI (↑n))), (4, .int (jI p)), (5, .int (jI v))]) rfl rfl (by decide) dX4_tells_36 rfl ?_
          refine sw_goto F (n := 6) dX4_tells_39 (by decide) ?_
          refine sw_loc [2, 3, 4, 5, 6, 7, 1, 0] (L2 := [(0, .ref x1), (1, .ref y1), (2, .int (jI (↑kd))), (3, .int (jI (↑n))), (4, .int (jI p)), (5, .int (jI v)), (6, .int (jI (↑fo))), (7, .int (jI (↑k + 1)))]) rfl ?_
          rw [show (↑k + 1 : Int) = ↑(k + 1) by omega]
          exact ih6 (k + 1) fo (by first | omega | assumption) (by first | rfl | (simp only [fdI]; rw [if_pos (by omega)]) | (simp only [fdI]; rw [if_neg (by omega)]; exact hfo)) (by omega)
        ·
          refine sw_iload (n := 29) F 7 rfl dX4_tells_27 rfl ?_
          refine sw_goto F (n := 34) dX4_tells_29 (by decide) ?_
          refine sw_istore (n := 36) F (L2 := [(6, .int (jI (↑k))), (0, .ref x1), (1, .ref y1), (2, .int (jI (↑kd))), (3, .int (jI (↑n))), (4, .int (jI p)), (5, .int (jI v)), (7, .int (jI (↑k)))]) rfl (by decide) dX4_tells_34 rfl ?_
          refine sw_iinc (n := 39) F 7 (L2 := [(7, .int (jI (↑k + 1))), (6, .int (jI (↑k))), (0, .ref x1), (1, .ref y1), (2, .int (jI (↑kd))), (3, .int (jI (↑n))), (4, .int (jI p)), (5, .int (jI v))]) rfl rfl (by decide) dX4_tells_36 rfl ?_
          refine sw_goto F (n := 6) dX4_tells_39 (by decide) ?_
          refine sw_loc [2, 3, 4, 5, 6, 7, 1, 0] (L2 := [(0, .ref x1), (1, .ref y1), (2, .int (jI (↑kd))), (3, .int (jI (↑n))), (4, .int (jI p)), (5, .int (jI v)), (6, .int (jI (↑k))), (7, .int (jI (↑k + 1)))]) rfl ?_
          rw [show (↑k + 1 : Int) = ↑(k + 1) by omega]
          exact ih6 (k + 1) k (by first | omega | assumption) (by first | rfl | (simp only [fdI]; rw [if_pos (by omega)]) | (simp only [fdI]; rw [if_neg (by omega)]; exact hfo)) (by omega)
  refine sw_loc [2, 3, 4, 5, 6, 7, 1, 0] (L2 := [(0, .ref x1), (1, .ref y1), (2, .int (jI (↑kd))), (3, .int (jI (↑n))), (4, .int (jI p)), (5, .int (jI v)), (6, .int (jI (↑n))), (7, .int (jI 0))]) rfl ?_
  exact K6 _ 0 n (by first | omega | assumption) (by first | rfl | (simp only [fdI]; rw [if_pos (by omega)]) | (simp only [fdI]; rw [if_neg (by omega)]; exact hfo)) (Nat.lt_succ_self _)
theorem nd_X4_told : yX4_told.cls ≠ "java/lang/invoke/MethodHandle" ∧ yX4_told.cls ≠ "java/lang/invoke/VarHandle" ∧ (parseMethodDescriptor yX4_told.desc).map (fun d => d.parameters.length) = some 5 := by decide +kernel
set_option maxRecDepth 100000 in
set_option maxHeartbeats 16000000 in
theorem ct_X4_told {g : GG} {l : Launch} (x1 : Nat) (y1 : Nat) (f : Nat → Int) (h : Nat → Int) (kd : Nat) (n : Nat) (p : Int) (hkd : kd < 6) (hn : n < 600) (hf : BD 0 999999 f) (hp : -2147483648 ≤ p ∧ p ≤ 2147483647) : Ct g l yX4_told (ws_ yX4_told cX4_told 7 (Option.some Jvm.ClassFile.FieldType.int)) 1 12 0 0 [.ref x1, .ref y1, .int (jI (↑kd)), .int (jI (↑n)), .int (jI p)] [aI g 0 x1 3600 f, aI g 0 y1 3600 h] (fun v9 Ws9 => v9 = some (.int (jI (toR f h (600 * kd) p n))) ∧ Ws9 = [aI g 0 x1 3600 f, aI g 0 y1 3600 h]) (nox) := by
  refine Ct.of (cc := cX4_told) (nL := 7) (ret := (Option.some Jvm.ClassFile.FieldType.int)) (by decide) rfl (Nat.le_of_ble_eq_true rfl) ?_
  intro x hg hl hPo hPx hmc hms F
  subst hg; subst hl
  refine SW.cast (L' := [(0, .ref x1), (1, .ref y1), (2, .int (jI (↑kd))), (3, .int (jI (↑n))), (4, .int (jI p))]) ?_ rfl rfl rfl
  refine sw_iconst (n := 1) F (-1) (by decide) dX4_told_0 rfl ?_
  refine sw_istore (n := 3) F (L2 := [(5, .int (jI (-1))), (0, .ref x1), (1, .ref y1), (2, .int (jI (↑kd))), (3, .int (jI (↑n))), (4, .int (jI p))]) rfl (by decide) dX4_told_1 rfl ?_
  refine sw_sipush (n := 6) F (600) (by decide) dX4_told_3 rfl ?_
  refine sw_iload_n (n := 7) F 3 rfl rfl dX4_told_6 rfl ?_
  refine sw_imul (n := 8) F dX4_told_7 rfl ?_
  refine sw_istore (n := 10) F (L2 := [(6, .int (jI (600 * (↑kd)))), (5, .int (jI (-1))), (0, .ref x1), (1, .ref y1), (2, .int (jI (↑kd))), (3, .int (jI (↑n))), (4, .int (jI p))]) rfl (by decide) dX4_told_8 rfl ?_
  have K10 : ∀ N10 : Nat, ∀ (j : Nat) (b : Int), (j ≤ n) → (b = tdI f (600 * kd) p j) → ((n - j) < N10) → SW x [aI (xg x) 0 x1 3600 f, aI (xg x) 0 y1 3600 h] 0 0 10 [(0, .ref x1), (1, .ref y1), (2, .int (jI (↑kd))), (3, .int (jI (↑n))), (4, .int (jI p)), (5, .int (jI b)), (6, .int (jI (600 * ↑kd + ↑j)))] [] := by
    intro N10; induction N10 with
    | zero => intro j b hj hb hmu10; omega
    | succ N10 ih10 =>
      intro j b hj hb hmu10
      subst hb
      have htr := tdI_rng f (600 * kd) p j
      have hfj := hf (600 * kd + j)
      have hfb := hf (tdI f (600 * kd) p j).toNat
      refine sw_iload (n := 12) F 6 rfl dX4_told_10 rfl ?_
      refine sw_sipush (n := 15) F (600) (by decide) dX4_told_12 rfl ?_
      refine sw_iload_n (n := 16) F 2 rfl rfl dX4_told_15 rfl ?_
      refine sw_imul (n := 17) F dX4_told_16 rfl ?_
      refine sw_iload_n (n := 18) F 3 rfl rfl dX4_told_17 rfl ?_
      refine sw_iadd (n := 19) F dX4_told_18 rfl ?_
      refine sw_icmp_ge (n := 22) F (by omega) (by omega) (tgt := 57) dX4_told_19 (by decide) rfl (fun c_19 => ?_) (fun c_19 => ?_)
      ·
        have e5 : tdI f (600 * kd) p j = tdI f (600 * kd) p n := by rw [show j = n by omega]
        refine sw_iload (n := 59) F 5 rfl dX4_told_57 rfl ?_
        refine sw_if_ge (n := 62) F (by omega) (tgt := 66) dX4_told_59 (by decide) rfl (fun c_59 => ?_) (fun c_59 => ?_)
        ·
          refine sw_aload_n (n := 67) F 1 (some y1) rfl rfl rfl dX4_told_66 rfl ?_
          refine sw_iload (n := 69) F 5 rfl dX4_told_67 rfl ?_
          refine sw_ialoadI (n := 70) F 1 rfl (fun _ => rfl) ((tdI f (600 * kd) p j : Int).toNat) (by omega) (by omega) dX4_told_69 rfl ?_
          exact sw_iret F _ rfl (by first | rfl | exact jI_nz (by omega) | exact jI_nc (by omega)) dX4_told_70 (by rw [hPo]; exact ⟨(by first | (unfold toR; rw [← e5, if_pos (by omega)]) | (unfold toR; rw [← e5, if_neg (by omega)])), rfl⟩)
        ·
          refine sw_iconst (n := 63) F (0) (by decide) dX4_told_62 rfl ?_
          refine sw_goto F (n := 70) dX4_told_63 (by decide) ?_
          exact sw_iret F _ rfl (by first | rfl | exact jI_nz (by omega) | exact jI_nc (by omega)) dX4_told_70 (by rw [hPo]; exact ⟨(by first | (unfold toR; rw [← e5, if_pos (by omega)]) | (unfold toR; rw [← e5, if_neg (by omega)])), rfl⟩)
      ·
        refine sw_aload_n (n := 23) F 0 (some x1) rfl rfl rfl dX4_told_22 rfl ?_
        refine sw_iload (n := 25) F 6 rfl dX4_told_23 rfl ?_
        refine sw_ialoadI (n := 26) F 0 rfl (fun _ => rfl) (600 * kd + j) (by omega) (by omega) dX4_told_25 rfl ?_
        refine sw_iload (n := 28) F 4 rfl dX4_told_26 rfl ?_
        refine sw_icmp_gt (n := 31) F (by omega) (by omega) (tgt := 51) dX4_told_28 (by decide) rfl (fun c_28 => ?_) (fun c_28 => ?_)
        ·
          refine sw_iinc (n := 54) F 6 (L2 := [(6, .int (jI (600 * ↑kd + ↑j + 1))), (0, .ref x1), (1, .ref y1), (2, .int (jI (↑kd))), (3, .int (jI (↑n))), (4, .int (jI p)), (5, .int (jI (tdI f (600 * kd) p j)))]) rfl rfl (by decide) dX4_told_51 rfl ?_
          refine sw_goto F (n := 10) dX4_told_54 (by decide) ?_
          refine sw_loc [1, 2, 3, 4, 5, 6, 0] (L2 := [(0, .ref x1), (1, .ref y1), (2, .int (jI (↑kd))), (3, .int (jI (↑n))), (4, .int (jI p)), (5, .int (jI (tdI f (600 * kd) p j))), (6, .int (jI (600 * ↑kd + ↑j + 1)))]) rfl ?_
          rw [show (600 * ↑kd + ↑j + 1 : Int) = 600 * ↑kd + ↑(j + 1) by omega]
          exact ih10 (j + 1) (tdI f (600 * kd) p j) (by first | omega | assumption) (by first | rfl | (simp only [tdI]; rw [if_pos ⟨by omega, by omega⟩]; omega) | (simp only [tdI]; rw [if_neg (by omega)])) (by omega)
        ·
          refine sw_iload (n := 33) F 5 rfl dX4_told_31 rfl ?_
          refine sw_if_lt (n := 36) F (by omega) (tgt := 47) dX4_told_33 (by decide) rfl (fun c_33 => ?_) (fun c_33 => ?_)
          ·
            refine sw_iload (n := 49) F 6 rfl dX4_told_47 rfl ?_
            refine sw_istore (n := 51) F (L2 := [(5, .int (jI (600 * ↑kd + ↑j))), (0, .ref x1), (1, .ref y1), (2, .int (jI (↑kd))), (3, .int (jI (↑n))), (4, .int (jI p)), (6, .int (jI (600 * ↑kd + ↑j)))]) rfl (by decide) dX4_told_49 rfl ?_
            refine sw_iinc (n := 54) F 6 (L2 := [(6, .int (jI (600 * ↑kd + ↑j + 1))), (5, .int (jI (600 * ↑kd + ↑j))), (0, .ref x1), (1, .ref y1), (2, .int (jI (↑kd))), (3, .int (jI (↑n))), (4, .int (jI p))]) rfl rfl (by decide) dX4_told_51 rfl ?_
            refine sw_goto F (n := 10) dX4_told_54 (by decide) ?_
            refine sw_loc [2, 3, 4, 5, 6, 1, 0] (L2 := [(0, .ref x1), (1, .ref y1), (2, .int (jI (↑kd))), (3, .int (jI (↑n))), (4, .int (jI p)), (5, .int (jI (600 * ↑kd + ↑j))), (6, .int (jI (600 * ↑kd + ↑j + 1)))]) rfl ?_
            rw [show (600 * ↑kd + ↑j + 1 : Int) = 600 * ↑kd + ↑(j + 1) by omega]
            exact ih10 (j + 1) (600 * ↑kd + ↑j) (by first | omega | assumption) (by first | rfl | (simp only [tdI]; rw [if_pos ⟨by omega, by omega⟩]; omega) | (simp only [tdI]; rw [if_neg (by omega)])) (by omega)
          ·
            refine sw_aload_n (n := 37) F 0 (some x1) rfl rfl rfl dX4_told_36 rfl ?_
            refine sw_iload (n := 39) F 6 rfl dX4_told_37 rfl ?_
            refine sw_ialoadI (n := 40) F 0 rfl (fun _ => rfl) (600 * kd + j) (by omega) (by omega) dX4_told_39 rfl ?_
            refine sw_aload_n (n := 41) F 0 (some x1) rfl rfl rfl dX4_told_40 rfl ?_
            refine sw_iload (n := 43) F 5 rfl dX4_told_41 rfl ?_
            refine sw_ialoadI (n := 44) F 0 rfl (fun _ => rfl) ((tdI f (600 * kd) p j : Int).toNat) (by omega) (by omega) dX4_told_43 rfl ?_
            refine sw_icmp_le (n := 47) F (by omega) (by omega) (tgt := 51) dX4_told_44 (by decide) rfl (fun c_44 => ?_) (fun c_44 => ?_)
            ·
              refine sw_iinc (n := 54) F 6 (L2 := [(6, .int (jI (600 * ↑kd + ↑j + 1))), (0, .ref x1), (1, .ref y1), (2, .int (jI (↑kd))), (3, .int (jI (↑n))), (4, .int (jI p)), (5, .int (jI (tdI f (600 * kd) p j)))]) rfl rfl (by decide) dX4_told_51 rfl ?_
              refine sw_goto F (n := 10) dX4_told_54 (by decide) ?_
              refine sw_loc [1, 2, 3, 4, 5, 6, 0] (L2 := [(0, .ref x1), (1, .ref y1), (2, .int (jI (↑kd))), (3, .int (jI (↑n))), (4, .int (jI p)), (5, .int (jI (tdI f (600 * kd) p j))), (6, .int (jI (600 * ↑kd + ↑j + 1)))]) rfl ?_
              rw [show (600 * ↑kd + ↑j + 1 : Int) = 600 * ↑kd + ↑(j + 1) by omega]
              exact ih10 (j + 1) (tdI f (600 * kd) p j) (by first | omega | assumption) (by first | rfl | (simp only [tdI]; rw [if_pos ⟨by omega, by omega⟩]; omega) | (simp only [tdI]; rw [if_neg (by omega)])) (by omega)
            ·
              refine sw_iload (n := 49) F 6 rfl dX4_told_47 rfl ?_
              refine sw_istore (n := 51) F (L2 := [(5, .int (jI (600 * ↑kd + ↑j))), (0, .ref x1), (1, .ref y1), (2, .int (jI (↑kd))), (3, .int (jI (↑n))), (4, .int (jI p)), (6, .int (jI (600 * ↑kd + ↑j)))]) rfl (by decide) dX4_told_49 rfl ?_
              refine sw_iinc (n := 54) F 6 (L2 := [(6, .int (jI (600 * ↑kd + ↑j + 1))), (5, .int (jI (600 * ↑kd + ↑j))), (0, .ref x1), (1, .ref y1), (2, .int (jI (↑kd))), (3, .int (jI (↑n))), (4, .int (jI p))]) rfl rfl (by decide) dX4_told_51 rfl ?_
              refine sw_goto F (n := 10) dX4_told_54 (by decide) ?_
              refine sw_loc [2, 3, 4, 5, 6, 1, 0] (L2 := [(0, .ref x1), (1, .ref y1), (2, .int (jI (↑kd))), (3, .int (jI (↑n))), (4, .int (jI p)), (5, .int (jI (600 * ↑kd + ↑j))), (6, .int (jI (600 * ↑kd + ↑j + 1)))]) rfl ?_
              rw [show (600 * ↑kd + ↑j + 1 : Int) = 600 * ↑kd + ↑(j + 1) by omega]
              exact ih10 (j + 1) (600 * ↑kd + ↑j) (by first | omega | assumption) (by first | rfl | (simp only [tdI]; rw [if_pos ⟨by omega, by omega⟩]; omega) | (simp only [tdI]; rw [if_neg (by omega)])) (by omega)
  refine sw_loc [2, 3, 4, 5, 6, 1, 0] (L2 := [(0, .ref x1), (1, .ref y1), (2, .int (jI (↑kd))), (3, .int (jI (↑n))), (4, .int (jI p)), (5, .int (jI (-1))), (6, .int (jI (600 * (↑kd))))]) rfl ?_
  rw [show (600 * (↑kd) : Int) = 600 * ↑kd + 0 by omega]
  exact K10 _ 0 (-1) (by first | omega | assumption) (by first | rfl | (simp only [tdI]; rw [if_pos ⟨by omega, by omega⟩]; omega) | (simp only [tdI]; rw [if_neg (by omega)])) (Nat.lt_succ_self _)
theorem nd_X4_setTax : yX4_setTax.cls ≠ "java/lang/invoke/MethodHandle" ∧ yX4_setTax.cls ≠ "java/lang/invoke/VarHandle" ∧ (parseMethodDescriptor yX4_setTax.desc).map (fun d => d.parameters.length) = some 3 := by decide +kernel
set_option maxRecDepth 100000 in
set_option maxHeartbeats 16000000 in
theorem ct_X4_setTax {g : GG} {l : Launch} (o : Nat) (a : Nat → Nat) (z : Nat → Int) (Td : Nat → Int) (Tx : Nat → Int) (Tm : Nat → Int) (k : Int) (d : Int) (p : Int) (hk : -2147483648 ≤ k ∧ k ≤ 2147483647) (hd : -2147483648 ≤ d ∧ d ≤ 2147483647) (hp : -2147483648 ≤ p ∧ p ≤ 2147483647) (hTd : BD 0 999999 Td) (hTx : BD 0 9999 Tx) (hTm : BD 0 500 Tm) : Ct g l yX4_setTax (ws_ yX4_setTax cX4_setTax 4 (Option.some Jvm.ClassFile.FieldType.int)) 3 57 0 0 [.ref o, .int (jI k), .int (jI d), .int (jI p)] [tmO g o a z, aI g 0 (a 14) 3600 Td, aI g 0 (a 15) 3600 Tx, aI g 0 (a 18) 6 Tm] (fun v9 Ws9 => v9 = some (.int (jI (if0 (stP k d p) (txN Td Tm k.toNat d)))) ∧ Ws9 = [tmO g o a (va_up z 8 (stP k d p)), aI g 0 (a 14) 3600 (up0 (stP k d p) Td (txI Td Tm k.toNat d) d), aI g 0 (a 15) 3600 (up0 (stP k d p) Tx (txI Td Tm k.toNat d) p), aI g 0 (a 18) 6 (up0 (stP k d p) Tm k.toNat (txN Td Tm k.toNat d))]) (nox) := by
  refine Ct.of (cc := cX4_setTax) (nL := 4) (ret := (Option.some Jvm.ClassFile.FieldType.int)) (by decide) rfl (Nat.le_of_ble_eq_true rfl) ?_
  intro x hg hl hPo hPx hmc hms F
  subst hg; subst hl
  refine SW.cast (L' := [(0, .ref o), (1, .int (jI k)), (2, .int (jI d)), (3, .int (jI p))]) ?_ rfl rfl rfl
  refine sw_aload_n (n := 1) F 0 (some o) rfl rfl rfl dX4_setTax_0 rfl ?_
  have K41 : ∀ (p9 : Int), (p9 = stP k d p) → SW x [tmO (xg x) o a z, aI (xg x) 0 (a 14) 3600 Td, aI (xg x) 0 (a 15) 3600 Tx, aI (xg x) 0 (a 18) 6 Tm] 0 0 41 [(0, .ref o), (1, .int (jI k)), (2, .int (jI d)), (3, .int (jI p))] [.int (jI p9), .ref o] := by
    intro p9 hpc
    subst hpc
    have hcs := stP_c k d p
    refine sw_callV (n := 44) F (ct_X4_fails (g := xg x) (l := xl x) o a z (stP k d p) (by first | omega | assumption)) (rcv_ob F 0 (ci := 3) rfl rfl) q3973 q3975 qs68 q120 q3976 nd_X4_fails rfl (by decide) [0, 1, 2, 3] rfl [aI (xg x) 0 (a 14) 3600 Td, aI (xg x) 0 (a 15) 3600 Tx, aI (xg x) 0 (a 18) 6 Tm] rfl 0 0 ⟨by omega, by omega⟩ [] rfl (Nat.le_of_ble_eq_true rfl) dX4_setTax_41 rfl (fun _ _ h => h.elim) (fun v Ws h => ?_)
    obtain ⟨rfl, hps_1, rfl⟩ := h
    show SW x [tmO (xg x) o a (va_up z 8 (stP k d p)), aI (xg x) 0 (a 14) 3600 Td, aI (xg x) 0 (a 15) 3600 Tx, aI (xg x) 0 (a 18) 6 Tm] _ _ _ _ [.int (jI (psI (stP k d p)))]
    refine sw_if_eq (n := 47) F (by omega) (tgt := 49) dX4_setTax_44 (by decide) rfl (fun c_44 => ?_) (fun c_44 => ?_)
    ·
      have e0 : stP k d p = 0 := by omega
      have rg0 : 0 ≤ k ∧ k ≤ 5 := by omega
      clear hcs c_44 hps_1
      refine SW.cast (L' := [(0, .ref o), (1, .int (jI (↑(k.toNat)))), (2, .int (jI d)), (3, .int (jI p))]) ?_ rfl (by rw [Int.toNat_of_nonneg (show 0 ≤ k by omega)]) rfl
      have htm := hTm k.toNat
      refine sw_aload_n (n := 50) F 0 (some o) rfl rfl rfl dX4_setTax_49 rfl ?_
      refine sw_get (n := 53) F 0 rfl (k := 18) ⟨(RX4, TX4, 50), rfl, by decide, q3817, in_X4, Or.inl rfl⟩ (v := .ref (a 18)) rfl dX4_setTax_50 rfl ?_
      refine sw_iload_n (n := 54) F 1 rfl rfl dX4_setTax_53 rfl ?_
      refine sw_aload_n (n := 55) F 0 (some o) rfl rfl rfl dX4_setTax_54 rfl ?_
      refine sw_get (n := 58) F 0 rfl (k := 14) ⟨(RX4, TX4, 50), rfl, by decide, q3813, in_X4, Or.inl rfl⟩ (v := .ref (a 14)) rfl dX4_setTax_55 rfl ?_
      refine sw_aload_n (n := 59) F 0 (some o) rfl rfl rfl dX4_setTax_58 rfl ?_
      refine sw_get (n := 62) F 0 rfl (k := 15) ⟨(RX4, TX4, 50), rfl, by decide, q3814, in_X4, Or.inl rfl⟩ (v := .ref (a 15)) rfl dX4_setTax_59 rfl ?_
      refine sw_iload_n (n := 63) F 1 rfl rfl dX4_setTax_62 rfl ?_
      refine sw_aload_n (n := 64) F 0 (some o) rfl rfl rfl dX4_setTax_63 rfl ?_
      refine sw_get (n := 67) F 0 rfl (k := 18) ⟨(RX4, TX4, 50), rfl, by decide, q3817, in_X4, Or.inl rfl⟩ (v := .ref (a 18)) rfl dX4_setTax_64 rfl ?_
      refine sw_iload_n (n := 68) F 1 rfl rfl dX4_setTax_67 rfl ?_
      refine sw_ialoadI (n := 69) F 3 rfl (fun _ => rfl) k.toNat (by omega) (by omega) dX4_setTax_68 rfl ?_
      refine sw_iload_n (n := 70) F 2 rfl rfl dX4_setTax_69 rfl ?_
      refine sw_iload_n (n := 71) F 3 rfl rfl dX4_setTax_70 rfl ?_
      rw [show (Tm k.toNat : Int) = ↑((Tm k.toNat : Int).toNat) by omega]
      refine sw_callS (n := 74) F (ct_X4_tells (g := xg x) (l := xl x) (a 14) (a 15) Td Tx k.toNat ((Tm k.toNat : Int).toNat) d p (by first | omega | assumption) (by first | omega | assumption) hTd hd) q4196 q4197 q120 q4198 nd_X4_tells rfl (by decide) [1, 2, 0, 3] rfl [tmO (xg x) o a (va_up z 8 (stP k d p)), aI (xg x) 0 (a 18) 6 Tm] rfl 0 0 ⟨by omega, by omega⟩ [.int (jI (↑(k.toNat))), .ref (a 18)] rfl (Nat.le_of_ble_eq_true rfl) dX4_setTax_71 rfl (fun _ _ h => h.elim) (fun v Ws h => ?_)
      obtain ⟨rfl, rfl⟩ := h
      show SW x [aI (xg x) 0 (a 14) 3600 (va_up Td (600 * k.toNat + fdI Td (600 * k.toNat) ((Tm k.toNat : Int).toNat) d ((Tm k.toNat : Int).toNat)) d), aI (xg x) 0 (a 15) 3600 (va_up Tx (600 * k.toNat + fdI Td (600 * k.toNat) ((Tm k.toNat : Int).toNat) d ((Tm k.toNat : Int).toNat)) p), tmO (xg x) o a (va_up z 8 (stP k d p)), aI (xg x) 0 (a 18) 6 Tm] _ _ _ _ [.int (jI (tlN (fdI Td (600 * k.toNat) ((Tm k.toNat : Int).toNat) d ((Tm k.toNat : Int).toNat)) ((Tm k.toNat : Int).toNat))), .int (jI (↑(k.toNat))), .ref (a 18)]
      refine sw_iastoreI (n := 75) F 3 rfl (fun _ => rfl) k.toNat (by omega) (by omega) [aI (xg x) 0 (a 14) 3600 (va_up Td (600 * k.toNat + fdI Td (600 * k.toNat) ((Tm k.toNat : Int).toNat) d ((Tm k.toNat : Int).toNat)) d), aI (xg x) 0 (a 15) 3600 (va_up Tx (600 * k.toNat + fdI Td (600 * k.toNat) ((Tm k.toNat : Int).toNat) d ((Tm k.toNat : Int).toNat)) p), tmO (xg x) o a (va_up z 8 (stP k d p)), aI (xg x) 0 (a 18) 6 (va_up Tm k.toNat (tlN (fdI Td (600 * k.toNat) ((Tm k.toNat : Int).toNat) d ((Tm k.toNat : Int).toNat)) ((Tm k.toNat : Int).toNat)))] (by simp [List.set]) dX4_setTax_74 rfl ?_
      refine sw_aload_n (n := 76) F 0 (some o) rfl rfl rfl dX4_setTax_75 rfl ?_
      refine sw_get (n := 79) F 2 rfl (k := 18) ⟨(RX4, TX4, 50), rfl, by decide, q3817, in_X4, Or.inl rfl⟩ (v := .ref (a 18)) rfl dX4_setTax_76 rfl ?_
      refine sw_iload_n (n := 80) F 1 rfl rfl dX4_setTax_79 rfl ?_
      refine sw_ialoadI (n := 81) F 3 rfl (fun _ => rfl) k.toNat (by omega) (by omega) dX4_setTax_80 rfl ?_
      rw [show (va_up Tm k.toNat (tlN (fdI Td (600 * k.toNat) ((Tm k.toNat : Int).toNat) d ((Tm k.toNat : Int).toNat)) ((Tm k.toNat : Int).toNat))) k.toNat = (tlN (fdI Td (600 * k.toNat) ((Tm k.toNat : Int).toNat) d ((Tm k.toNat : Int).toNat)) ((Tm k.toNat : Int).toNat)) from va_up_self _ _ _]
      have e0 : stP k d p = 0 := by omega
      refine sw_perm [2, 0, 1, 3] rfl [tmO (xg x) o a (va_up z 8 (stP k d p)), aI (xg x) 0 (a 14) 3600 (va_up Td (600 * k.toNat + fdI Td (600 * k.toNat) ((Tm k.toNat : Int).toNat) d ((Tm k.toNat : Int).toNat)) d), aI (xg x) 0 (a 15) 3600 (va_up Tx (600 * k.toNat + fdI Td (600 * k.toNat) ((Tm k.toNat : Int).toNat) d ((Tm k.toNat : Int).toNat)) p), aI (xg x) 0 (a 18) 6 (va_up Tm k.toNat (tlN (fdI Td (600 * k.toNat) ((Tm k.toNat : Int).toNat) d ((Tm k.toNat : Int).toNat)) ((Tm k.toNat : Int).toNat)))] rfl ?_
      exact sw_iret F _ rfl (by first | rfl | exact jI_nz (by omega) | exact jI_nc (by omega)) dX4_setTax_81 (by rw [hPo]; exact ⟨(by rw [if0_p e0]; first | rfl | (rw [va_up_self]; rfl)), (by simp only [up0_p e0, up_88, txI, txN])⟩)
    ·
      refine sw_iconst (n := 48) F (0) (by decide) dX4_setTax_47 rfl ?_
      have e0 : stP k d p ≠ 0 := by omega
      exact sw_iret F _ rfl (by first | rfl | exact jI_nz (by omega) | exact jI_nc (by omega)) dX4_setTax_48 (by rw [hPo]; exact ⟨(by rw [if0_n e0]), (by simp only [up0_n e0, up_88, txI, txN])⟩)
  refine sw_iload_n (n := 2) F 1 rfl rfl dX4_setTax_1 rfl ?_
  refine sw_callS (n := 5) F (ct_X4_isKind (g := xg x) (l := xl x) k hk) q4192 q4193 q120 q4194 nd_X4_isKind rfl (by decide) [0, 1, 2, 3] rfl [tmO (xg x) o a z, aI (xg x) 0 (a 14) 3600 Td, aI (xg x) 0 (a 15) 3600 Tx, aI (xg x) 0 (a 18) 6 Tm] rfl 0 0 ⟨by omega, by omega⟩ [.ref o] rfl (Nat.le_of_ble_eq_true rfl) dX4_setTax_2 rfl (fun _ _ h => h.elim) (fun v Ws h => ?_)
  obtain ⟨rfl, hs_2, rfl⟩ := h
  show SW x [tmO (xg x) o a z, aI (xg x) 0 (a 14) 3600 Td, aI (xg x) 0 (a 15) 3600 Tx, aI (xg x) 0 (a 18) 6 Tm] _ _ _ _ [.int (jI (inI k 0 5)), .ref o]
  refine sw_if_ne (n := 8) F (by omega) (tgt := 12) dX4_setTax_5 (by decide) rfl (fun c_5 => ?_) (fun c_5 => ?_)
  ·
    refine sw_iload_n (n := 13) F 2 rfl rfl dX4_setTax_12 rfl ?_
    refine sw_i2l (n := 14) F (by omega) dX4_setTax_13 rfl ?_
    refine sw_lconst (n := 15) F 0 (by decide) dX4_setTax_14 rfl ?_
    refine sw_ldc2 (n := 18) F (9999) q4195 (by decide) dX4_setTax_15 rfl ?_
    refine sw_callS (n := 21) F (ct_X4_in (g := xg x) (l := xl x) d 0 9999 (by first | omega | assumption) (by first | omega | assumption) (by first | omega | assumption)) q3963 q3964 q120 q3965 nd_X4_in rfl (by decide) [0, 1, 2, 3] rfl [tmO (xg x) o a z, aI (xg x) 0 (a 14) 3600 Td, aI (xg x) 0 (a 15) 3600 Tx, aI (xg x) 0 (a 18) 6 Tm] rfl 0 0 ⟨by omega, by omega⟩ [.ref o] rfl (Nat.le_of_ble_eq_true rfl) dX4_setTax_18 rfl (fun _ _ h => h.elim) (fun v Ws h => ?_)
    obtain ⟨rfl, hs_3, rfl⟩ := h
    show SW x [tmO (xg x) o a z, aI (xg x) 0 (a 14) 3600 Td, aI (xg x) 0 (a 15) 3600 Tx, aI (xg x) 0 (a 18) 6 Tm] _ _ _ _ [.int (jI (inI d 0 9999)), .ref o]
    refine sw_if_eq (n := 24) F (by omega) (tgt := 36) dX4_setTax_21 (by decide) rfl (fun c_21 => ?_) (fun c_21 => ?_)
    ·
      refine sw_iconst (n := 37) F (2) (by decide) dX4_setTax_36 rfl ?_
      refine sw_goto F (n := 41) dX4_setTax_37 (by decide) ?_
      exact K41 2 (by unfold stP; (repeat' split) <;> omega)
    ·
      refine sw_iload_n (n := 25) F 3 rfl rfl dX4_setTax_24 rfl ?_
      refine sw_i2l (n := 26) F (by omega) dX4_setTax_25 rfl ?_
      refine sw_lconst (n := 27) F 0 (by decide) dX4_setTax_26 rfl ?_
      refine sw_ldc2 (n := 30) F (9999) q4195 (by decide) dX4_setTax_27 rfl ?_
      refine sw_callS (n := 33) F (ct_X4_in (g := xg x) (l := xl x) p 0 9999 (by first | omega | assumption) (by first | omega | assumption) (by first | omega | assumption)) q3963 q3964 q120 q3965 nd_X4_in rfl (by decide) [0, 1, 2, 3] rfl [tmO (xg x) o a z, aI (xg x) 0 (a 14) 3600 Td, aI (xg x) 0 (a 15) 3600 Tx, aI (xg x) 0 (a 18) 6 Tm] rfl 0 0 ⟨by omega, by omega⟩ [.ref o] rfl (Nat.le_of_ble_eq_true rfl) dX4_setTax_30 rfl (fun _ _ h => h.elim) (fun v Ws h => ?_)
      obtain ⟨rfl, hs_4, rfl⟩ := h
      show SW x [tmO (xg x) o a z, aI (xg x) 0 (a 14) 3600 Td, aI (xg x) 0 (a 15) 3600 Tx, aI (xg x) 0 (a 18) 6 Tm] _ _ _ _ [.int (jI (inI p 0 9999)), .ref o]
      refine sw_if_ne (n := 36) F (by omega) (tgt := 40) dX4_setTax_33 (by decide) rfl (fun c_33 => ?_) (fun c_33 => ?_)
      ·
        refine sw_iconst (n := 41) F (0) (by decide) dX4_setTax_40 rfl ?_
        exact K41 0 (by unfold stP; (repeat' split) <;> omega)
      ·
        refine sw_iconst (n := 37) F (2) (by decide) dX4_setTax_36 rfl ?_
        refine sw_goto F (n := 41) dX4_setTax_37 (by decide) ?_
        exact K41 2 (by unfold stP; (repeat' split) <;> omega)
  ·
    refine sw_iconst (n := 9) F (1) (by decide) dX4_setTax_8 rfl ?_
    refine sw_goto F (n := 41) dX4_setTax_9 (by decide) ?_
    exact K41 1 (by unfold stP; (repeat' split) <;> omega)
theorem nd_X4_setDiscount : yX4_setDiscount.cls ≠ "java/lang/invoke/MethodHandle" ∧ yX4_setDiscount.cls ≠ "java/lang/invoke/VarHandle" ∧ (parseMethodDescriptor yX4_setDiscount.desc).map (fun d => d.parameters.length) = some 3 := by decide +kernel
set_option maxRecDepth 100000 in
set_option maxHeartbeats 16000000 in
theorem ct_X4_setDiscount {g : GG} {l : Launch} (o : Nat) (a : Nat → Nat) (z : Nat → Int) (Qt : Nat → Int) (Ds : Nat → Int) (Dm : Nat → Int) (k : Int) (d : Int) (p : Int) (hk : -2147483648 ≤ k ∧ k ≤ 2147483647) (hd : -2147483648 ≤ d ∧ d ≤ 2147483647) (hp : -2147483648 ≤ p ∧ p ≤ 2147483647) (hQt : BD 0 999999 Qt) (hDs : BD 0 999 Ds) (hDm : BD 0 500 Dm) : Ct g l yX4_setDiscount (ws_ yX4_setDiscount cX4_setDiscount 4 (Option.some Jvm.ClassFile.FieldType.int)) 3 57 0 0 [.ref o, .int (jI k), .int (jI d), .int (jI p)] [tmO g o a z, aI g 0 (a 16) 3600 Qt, aI g 0 (a 17) 3600 Ds, aI g 0 (a 19) 6 Dm] (fun v9 Ws9 => v9 = some (.int (jI (if0 (sdP k d p) (txN Qt Dm k.toNat d)))) ∧ Ws9 = [tmO g o a (va_up z 8 (sdP k d p)), aI g 0 (a 16) 3600 (up0 (sdP k d p) Qt (txI Qt Dm k.toNat d) d), aI g 0 (a 17) 3600 (up0 (sdP k d p) Ds (txI Qt Dm k.toNat d) p), aI g 0 (a 19) 6 (up0 (sdP k d p) Dm k.toNat (txN Qt Dm k.toNat d))]) (nox) := by
  refine Ct.of (cc := cX4_setDiscount) (nL := 4) (ret := (Option.some Jvm.ClassFile.FieldType.int)) (by decide) rfl (Nat.le_of_ble_eq_true rfl) ?_
  intro x hg hl hPo hPx hmc hms F
  subst hg; subst hl
  refine SW.cast (L' := [(0, .ref o), (1, .int (jI k)), (2, .int (jI d)), (3, .int (jI p))]) ?_ rfl rfl rfl
  refine sw_aload_n (n := 1) F 0 (some o) rfl rfl rfl dX4_setDiscount_0 rfl ?_
  have K41 : ∀ (p9 : Int), (p9 = sdP k d p) → SW x [tmO (xg x) o a z, aI (xg x) 0 (a 16) 3600 Qt, aI (xg x) 0 (a 17) 3600 Ds, aI (xg x) 0 (a 19) 6 Dm] 0 0 41 [(0, .ref o), (1, .int (jI k)), (2, .int (jI d)), (3, .int (jI p))] [.int (jI p9), .ref o] := by
    intro p9 hpc
    subst hpc
    have hcs := sdP_c k d p
    refine sw_callV (n := 44) F (ct_X4_fails (g := xg x) (l := xl x) o a z (sdP k d p) (by first | omega | assumption)) (rcv_ob F 0 (ci := 3) rfl rfl) q3973 q3975 qs68 q120 q3976 nd_X4_fails rfl (by decide) [0, 1, 2, 3] rfl [aI (xg x) 0 (a 16) 3600 Qt, aI (xg x) 0 (a 17) 3600 Ds, aI (xg x) 0 (a 19) 6 Dm] rfl 0 0 ⟨by omega, by omega⟩ [] rfl (Nat.le_of_ble_eq_true rfl) dX4_setDiscount_41 rfl (fun _ _ h => h.elim) (fun v Ws h => ?_)
    obtain ⟨rfl, hps_1, rfl⟩ := h
    show SW x [tmO (xg x) o a (va_up z 8 (sdP k d p)), aI (xg x) 0 (a 16) 3600 Qt, aI (xg x) 0 (a 17) 3600 Ds, aI (xg x) 0 (a 19) 6 Dm] _ _ _ _ [.int (jI (psI (sdP k d p)))]
    refine sw_if_eq (n := 47) F (by omega) (tgt := 49) dX4_setDiscount_44 (by decide) rfl (fun c_44 => ?_) (fun c_44 => ?_)
    ·
      have e0 : sdP k d p = 0 := by omega
      have rg0 : 0 ≤ k ∧ k ≤ 5 := by omega
      clear hcs c_44 hps_1
      refine SW.cast (L' := [(0, .ref o), (1, .int (jI (↑(k.toNat)))), (2, .int (jI d)), (3, .int (jI p))]) ?_ rfl (by rw [Int.toNat_of_nonneg (show 0 ≤ k by omega)]) rfl
      have htm := hDm k.toNat
      refine sw_aload_n (n := 50) F 0 (some o) rfl rfl rfl dX4_setDiscount_49 rfl ?_
      refine sw_get (n := 53) F 0 rfl (k := 19) ⟨(RX4, TX4, 50), rfl, by decide, q3818, in_X4, Or.inl rfl⟩ (v := .ref (a 19)) rfl dX4_setDiscount_50 rfl ?_
      refine sw_iload_n (n := 54) F 1 rfl rfl dX4_setDiscount_53 rfl ?_
      refine sw_aload_n (n := 55) F 0 (some o) rfl rfl rfl dX4_setDiscount_54 rfl ?_
      refine sw_get (n := 58) F 0 rfl (k := 16) ⟨(RX4, TX4, 50), rfl, by decide, q3815, in_X4, Or.inl rfl⟩ (v := .ref (a 16)) rfl dX4_setDiscount_55 rfl ?_
      refine sw_aload_n (n := 59) F 0 (some o) rfl rfl rfl dX4_setDiscount_58 rfl ?_
      refine sw_get (n := 62) F 0 rfl (k := 17) ⟨(RX4, TX4, 50), rfl, by decide, q3816, in_X4, Or.inl rfl⟩ (v := .ref (a 17)) rfl dX4_setDiscount_59 rfl ?_
      refine sw_iload_n (n := 63) F 1 rfl rfl dX4_setDiscount_62 rfl ?_
      refine sw_aload_n (n := 64) F 0 (some o) rfl rfl rfl dX4_setDiscount_63 rfl ?_
      refine sw_get (n := 67) F 0 rfl (k := 19) ⟨(RX4, TX4, 50), rfl, by decide, q3818, in_X4, Or.inl rfl⟩ (v := .ref (a 19)) rfl dX4_setDiscount_64 rfl ?_
      refine sw_iload_n (n := 68) F 1 rfl rfl dX4_setDiscount_67 rfl ?_
      refine sw_ialoadI (n := 69) F 3 rfl (fun _ => rfl) k.toNat (by omega) (by omega) dX4_setDiscount_68 rfl ?_
      refine sw_iload_n (n := 70) F 2 rfl rfl dX4_setDiscount_69 rfl ?_
      refine sw_iload_n (n := 71) F 3 rfl rfl dX4_setDiscount_70 rfl ?_
      rw [show (Dm k.toNat : Int) = ↑((Dm k.toNat : Int).toNat) by omega]
      refine sw_callS (n := 74) F (ct_X4_tells (g := xg x) (l := xl x) (a 16) (a 17) Qt Ds k.toNat ((Dm k.toNat : Int).toNat) d p (by first | omega | assumption) (by first | omega | assumption) hQt hd) q4196 q4197 q120 q4198 nd_X4_tells rfl (by decide) [1, 2, 0, 3] rfl [tmO (xg x) o a (va_up z 8 (sdP k d p)), aI (xg x) 0 (a 19) 6 Dm] rfl 0 0 ⟨by omega, by omega⟩ [.int (jI (↑(k.toNat))), .ref (a 19)] rfl (Nat.le_of_ble_eq_true rfl) dX4_setDiscount_71 rfl (fun _ _ h => h.elim) (fun v Ws h => ?_)
      obtain ⟨rfl, rfl⟩ := h
      show SW x [aI (xg x) 0 (a 16) 3600 (va_up Qt (600 * k.toNat + fdI Qt (600 * k.toNat) ((Dm k.toNat : Int).toNat) d ((Dm k.toNat : Int).toNat)) d), aI (xg x) 0 (a 17) 3600 (va_up Ds (600 * k.toNat + fdI Qt (600 * k.toNat) ((Dm k.toNat : Int).toNat) d ((Dm k.toNat : Int).toNat)) p), tmO (xg x) o a (va_up z 8 (sdP k d p)), aI (xg x) 0 (a 19) 6 Dm] _ _ _ _ [.int (jI (tlN (fdI Qt (600 * k.toNat) ((Dm k.toNat : Int).toNat) d ((Dm k.toNat : Int).toNat)) ((Dm k.toNat : Int).toNat))), .int (jI (↑(k.toNat))), .ref (a 19)]
      refine sw_iastoreI (n := 75) F 3 rfl (fun _ => rfl) k.toNat (by omega) (by omega) [aI (xg x) 0 (a 16) 3600 (va_up Qt (600 * k.toNat + fdI Qt (600 * k.toNat) ((Dm k.toNat : Int).toNat) d ((Dm k.toNat : Int).toNat)) d), aI (xg x) 0 (a 17) 3600 (va_up Ds (600 * k.toNat + fdI Qt (600 * k.toNat) ((Dm k.toNat : Int).toNat) d ((Dm k.toNat : Int).toNat)) p), tmO (xg x) o a (va_up z 8 (sdP k d p)), aI (xg x) 0 (a 19) 6 (va_up Dm k.toNat (tlN (fdI Qt (600 * k.toNat) ((Dm k.toNat : Int).toNat) d ((Dm k.toNat : Int).toNat)) ((Dm k.toNat : Int).toNat)))] (by simp [List.set]) dX4_setDiscount_74 rfl ?_
      refine sw_aload_n (n := 76) F 0 (some o) rfl rfl rfl dX4_setDiscount_75 rfl ?_
      refine sw_get (n := 79) F 2 rfl (k := 19) ⟨(RX4, TX4, 50), rfl, by decide, q3818, in_X4, Or.inl rfl⟩ (v := .ref (a 19)) rfl dX4_setDiscount_76 rfl ?_
      refine sw_iload_n (n := 80) F 1 rfl rfl dX4_setDiscount_79 rfl ?_
      refine sw_ialoadI (n := 81) F 3 rfl (fun _ => rfl) k.toNat (by omega) (by omega) dX4_setDiscount_80 rfl ?_
      rw [show (va_up Dm k.toNat (tlN (fdI Qt (600 * k.toNat) ((Dm k.toNat : Int).toNat) d ((Dm k.toNat : Int).toNat)) ((Dm k.toNat : Int).toNat))) k.toNat = (tlN (fdI Qt (600 * k.toNat) ((Dm k.toNat : Int).toNat) d ((Dm k.toNat : Int).toNat)) ((Dm k.toNat : Int).toNat)) from va_up_self _ _ _]
      have e0 : sdP k d p = 0 := by omega
      refine sw_perm [2, 0, 1, 3] rfl [tmO (xg x) o a (va_up z 8 (sdP k d p)), aI (xg x) 0 (a 16) 3600 (va_up Qt (600 * k.toNat + fdI Qt (600 * k.toNat) ((Dm k.toNat : Int).toNat) d ((Dm k.toNat : Int).toNat)) d), aI (xg x) 0 (a 17) 3600 (va_up Ds (600 * k.toNat + fdI Qt (600 * k.toNat) ((Dm k.toNat : Int).toNat) d ((Dm k.toNat : Int).toNat)) p), aI (xg x) 0 (a 19) 6 (va_up Dm k.toNat (tlN (fdI Qt (600 * k.toNat) ((Dm k.toNat : Int).toNat) d ((Dm k.toNat : Int).toNat)) ((Dm k.toNat : Int).toNat)))] rfl ?_
      exact sw_iret F _ rfl (by first | rfl | exact jI_nz (by omega) | exact jI_nc (by omega)) dX4_setDiscount_81 (by rw [hPo]; exact ⟨(by rw [if0_p e0]; first | rfl | (rw [va_up_self]; rfl)), (by simp only [up0_p e0, up_88, txI, txN])⟩)
    ·
      refine sw_iconst (n := 48) F (0) (by decide) dX4_setDiscount_47 rfl ?_
      have e0 : sdP k d p ≠ 0 := by omega
      exact sw_iret F _ rfl (by first | rfl | exact jI_nz (by omega) | exact jI_nc (by omega)) dX4_setDiscount_48 (by rw [hPo]; exact ⟨(by rw [if0_n e0]), (by simp only [up0_n e0, up_88, txI, txN])⟩)
  refine sw_iload_n (n := 2) F 1 rfl rfl dX4_setDiscount_1 rfl ?_
  refine sw_callS (n := 5) F (ct_X4_isKind (g := xg x) (l := xl x) k hk) q4192 q4193 q120 q4194 nd_X4_isKind rfl (by decide) [0, 1, 2, 3] rfl [tmO (xg x) o a z, aI (xg x) 0 (a 16) 3600 Qt, aI (xg x) 0 (a 17) 3600 Ds, aI (xg x) 0 (a 19) 6 Dm] rfl 0 0 ⟨by omega, by omega⟩ [.ref o] rfl (Nat.le_of_ble_eq_true rfl) dX4_setDiscount_2 rfl (fun _ _ h => h.elim) (fun v Ws h => ?_)
  obtain ⟨rfl, hs_2, rfl⟩ := h
  show SW x [tmO (xg x) o a z, aI (xg x) 0 (a 16) 3600 Qt, aI (xg x) 0 (a 17) 3600 Ds, aI (xg x) 0 (a 19) 6 Dm] _ _ _ _ [.int (jI (inI k 0 5)), .ref o]
  refine sw_if_ne (n := 8) F (by omega) (tgt := 12) dX4_setDiscount_5 (by decide) rfl (fun c_5 => ?_) (fun c_5 => ?_)
  ·
    refine sw_iload_n (n := 13) F 2 rfl rfl dX4_setDiscount_12 rfl ?_
    refine sw_i2l (n := 14) F (by omega) dX4_setDiscount_13 rfl ?_
    refine sw_lconst (n := 15) F 1 (by decide) dX4_setDiscount_14 rfl ?_
    refine sw_ldc2 (n := 18) F (999999) q4214 (by decide) dX4_setDiscount_15 rfl ?_
    refine sw_callS (n := 21) F (ct_X4_in (g := xg x) (l := xl x) d 1 999999 (by first | omega | assumption) (by first | omega | assumption) (by first | omega | assumption)) q3963 q3964 q120 q3965 nd_X4_in rfl (by decide) [0, 1, 2, 3] rfl [tmO (xg x) o a z, aI (xg x) 0 (a 16) 3600 Qt, aI (xg x) 0 (a 17) 3600 Ds, aI (xg x) 0 (a 19) 6 Dm] rfl 0 0 ⟨by omega, by omega⟩ [.ref o] rfl (Nat.le_of_ble_eq_true rfl) dX4_setDiscount_18 rfl (fun _ _ h => h.elim) (fun v Ws h => ?_)
    obtain ⟨rfl, hs_3, rfl⟩ := h
    show SW x [tmO (xg x) o a z, aI (xg x) 0 (a 16) 3600 Qt, aI (xg x) 0 (a 17) 3600 Ds, aI (xg x) 0 (a 19) 6 Dm] _ _ _ _ [.int (jI (inI d 1 999999)), .ref o]
    refine sw_if_eq (n := 24) F (by omega) (tgt := 36) dX4_setDiscount_21 (by decide) rfl (fun c_21 => ?_) (fun c_21 => ?_)
    ·
      refine sw_iconst (n := 37) F (2) (by decide) dX4_setDiscount_36 rfl ?_
      refine sw_goto F (n := 41) dX4_setDiscount_37 (by decide) ?_
      exact K41 2 (by unfold sdP; (repeat' split) <;> omega)
    ·
      refine sw_iload_n (n := 25) F 3 rfl rfl dX4_setDiscount_24 rfl ?_
      refine sw_i2l (n := 26) F (by omega) dX4_setDiscount_25 rfl ?_
      refine sw_lconst (n := 27) F 0 (by decide) dX4_setDiscount_26 rfl ?_
      refine sw_ldc2 (n := 30) F (999) q4215 (by decide) dX4_setDiscount_27 rfl ?_
      refine sw_callS (n := 33) F (ct_X4_in (g := xg x) (l := xl x) p 0 999 (by first | omega | assumption) (by first | omega | assumption) (by first | omega | assumption)) q3963 q3964 q120 q3965 nd_X4_in rfl (by decide) [0, 1, 2, 3] rfl [tmO (xg x) o a z, aI (xg x) 0 (a 16) 3600 Qt, aI (xg x) 0 (a 17) 3600 Ds, aI (xg x) 0 (a 19) 6 Dm] rfl 0 0 ⟨by omega, by omega⟩ [.ref o] rfl (Nat.le_of_ble_eq_true rfl) dX4_setDiscount_30 rfl (fun _ _ h => h.elim) (fun v Ws h => ?_)
      obtain ⟨rfl, hs_4, rfl⟩ := h
      show SW x [tmO (xg x) o a z, aI (xg x) 0 (a 16) 3600 Qt, aI (xg x) 0 (a 17) 3600 Ds, aI (xg x) 0 (a 19) 6 Dm] _ _ _ _ [.int (jI (inI p 0 999)), .ref o]
      refine sw_if_ne (n := 36) F (by omega) (tgt := 40) dX4_setDiscount_33 (by decide) rfl (fun c_33 => ?_) (fun c_33 => ?_)
      ·
        refine sw_iconst (n := 41) F (0) (by decide) dX4_setDiscount_40 rfl ?_
        exact K41 0 (by unfold sdP; (repeat' split) <;> omega)
      ·
        refine sw_iconst (n := 37) F (2) (by decide) dX4_setDiscount_36 rfl ?_
        refine sw_goto F (n := 41) dX4_setDiscount_37 (by decide) ?_
        exact K41 2 (by unfold sdP; (repeat' split) <;> omega)
  ·
    refine sw_iconst (n := 9) F (1) (by decide) dX4_setDiscount_8 rfl ?_
    refine sw_goto F (n := 41) dX4_setDiscount_9 (by decide) ?_
    exact K41 1 (by unfold sdP; (repeat' split) <;> omega)
theorem nd_X4_taxAt : yX4_taxAt.cls ≠ "java/lang/invoke/MethodHandle" ∧ yX4_taxAt.cls ≠ "java/lang/invoke/VarHandle" ∧ (parseMethodDescriptor yX4_taxAt.desc).map (fun d => d.parameters.length) = some 2 := by decide +kernel
set_option maxRecDepth 100000 in
set_option maxHeartbeats 16000000 in
theorem ct_X4_taxAt {g : GG} {l : Launch} (o : Nat) (a : Nat → Nat) (z : Nat → Int) (Td : Nat → Int) (Tx : Nat → Int) (Tm : Nat → Int) (k : Nat) (d : Int) (hTd : BD 0 999999 Td) (hTx : BD 0 9999 Tx) (hTm : BD 0 500 Tm) (hk6 : k < 6) (hd : -2147483648 ≤ d ∧ d ≤ 2147483647) : Ct g l yX4_taxAt (ws_ yX4_taxAt cX4_taxAt 3 (Option.some Jvm.ClassFile.FieldType.int)) 2 38 0 0 [.ref o, .int (jI (↑k)), .int (jI d)] [tmO g o a z, aI g 0 (a 14) 3600 Td, aI g 0 (a 15) 3600 Tx, aI g 0 (a 18) 6 Tm] (fun v9 Ws9 => v9 = some (.int (jI (txA Td Tx Tm k d))) ∧ Ws9 = [tmO g o a z, aI g 0 (a 14) 3600 Td, aI g 0 (a 15) 3600 Tx, aI g 0 (a 18) 6 Tm]) (nox) := by
  refine Ct.of (cc := cX4_taxAt) (nL := 3) (ret := (Option.some Jvm.ClassFile.FieldType.int)) (by decide) rfl (Nat.le_of_ble_eq_true rfl) ?_
  intro x hg hl hPo hPx hmc hms F
  subst hg; subst hl
  refine SW.cast (L' := [(0, .ref o), (1, .int (jI (↑k))), (2, .int (jI d))]) ?_ rfl rfl rfl
  have htm := hTm k
  refine sw_aload_n (n := 1) F 0 (some o) rfl rfl rfl dX4_taxAt_0 rfl ?_
  refine sw_get (n := 4) F 0 rfl (k := 14) ⟨(RX4, TX4, 50), rfl, by decide, q3813, in_X4, Or.inl rfl⟩ (v := .ref (a 14)) rfl dX4_taxAt_1 rfl ?_
  refine sw_aload_n (n := 5) F 0 (some o) rfl rfl rfl dX4_taxAt_4 rfl ?_
  refine sw_get (n := 8) F 0 rfl (k := 15) ⟨(RX4, TX4, 50), rfl, by decide, q3814, in_X4, Or.inl rfl⟩ (v := .ref (a 15)) rfl dX4_taxAt_5 rfl ?_
  refine sw_iload_n (n := 9) F 1 rfl rfl dX4_taxAt_8 rfl ?_
  refine sw_aload_n (n := 10) F 0 (some o) rfl rfl rfl dX4_taxAt_9 rfl ?_
  refine sw_get (n := 13) F 0 rfl (k := 18) ⟨(RX4, TX4, 50), rfl, by decide, q3817, in_X4, Or.inl rfl⟩ (v := .ref (a 18)) rfl dX4_taxAt_10 rfl ?_
  refine sw_iload_n (n := 14) F 1 rfl rfl dX4_taxAt_13 rfl ?_
  refine sw_ialoadI (n := 15) F 3 rfl (fun _ => rfl) k rfl (by omega) dX4_taxAt_14 rfl ?_
  refine sw_iload_n (n := 16) F 2 rfl rfl dX4_taxAt_15 rfl ?_
  rw [show (Tm k : Int) = ↑((Tm k : Int).toNat) by omega]
  refine sw_callS (n := 19) F (ct_X4_told (g := xg x) (l := xl x) (a 14) (a 15) Td Tx k ((Tm k : Int).toNat) d hk6 (by first | omega | assumption) hTd hd) q4207 q4208 q120 q4209 nd_X4_told rfl (by decide) [1, 2, 0, 3] rfl [tmO (xg x) o a z, aI (xg x) 0 (a 18) 6 Tm] rfl 0 0 ⟨by omega, by omega⟩ [] rfl (Nat.le_of_ble_eq_true rfl) dX4_taxAt_16 rfl (fun _ _ h => h.elim) (fun v Ws h => ?_)
  obtain ⟨rfl, rfl⟩ := h
  show SW x [aI (xg x) 0 (a 14) 3600 Td, aI (xg x) 0 (a 15) 3600 Tx, tmO (xg x) o a z, aI (xg x) 0 (a 18) 6 Tm] _ _ _ _ [.int (jI (toR Td Tx (600 * k) d ((Tm k : Int).toNat)))]
  refine sw_perm [2, 0, 1, 3] rfl [tmO (xg x) o a z, aI (xg x) 0 (a 14) 3600 Td, aI (xg x) 0 (a 15) 3600 Tx, aI (xg x) 0 (a 18) 6 Tm] rfl ?_
  exact sw_iret F _ rfl (by first | rfl | exact jI_nz (by omega) | exact jI_nc (by omega)) dX4_taxAt_19 (by rw [hPo]; exact ⟨(by first | (congr 3; omega) | (congr 2; omega) | rfl), rfl⟩)
theorem nd_X4_tax : yX4_tax.cls ≠ "java/lang/invoke/MethodHandle" ∧ yX4_tax.cls ≠ "java/lang/invoke/VarHandle" ∧ (parseMethodDescriptor yX4_tax.desc).map (fun d => d.parameters.length) = some 2 := by decide +kernel
set_option maxRecDepth 100000 in
set_option maxHeartbeats 16000000 in
theorem ct_X4_tax {g : GG} {l : Launch} (o : Nat) (a : Nat → Nat) (z : Nat → Int) (Td : Nat → Int) (Tx : Nat → Int) (Tm : Nat → Int) (k : Int) (d : Int) (hTd : BD 0 999999 Td) (hTx : BD 0 9999 Tx) (hTm : BD 0 500 Tm) (hk : -2147483648 ≤ k ∧ k ≤ 2147483647) (hd : -2147483648 ≤ d ∧ d ≤ 2147483647) : Ct g l yX4_tax (ws_ yX4_tax cX4_tax 3 (Option.some Jvm.ClassFile.FieldType.int)) 3 60 0 0 [.ref o, .int (jI k), .int (jI d)] [tmO g o a z, aI g 0 (a 14) 3600 Td, aI g 0 (a 15) 3600 Tx, aI g 0 (a 18) 6 Tm] (fun v9 Ws9 => v9 = some (.int (jI (if0 (txP k d) (txA Td Tx Tm k.toNat d)))) ∧ Ws9 = [tmO g o a (va_up z 8 (txP k d)), aI g 0 (a 14) 3600 Td, aI g 0 (a 15) 3600 Tx, aI g 0 (a 18) 6 Tm]) (nox) := by
  refine Ct.of (cc := cX4_tax) (nL := 3) (ret := (Option.some Jvm.ClassFile.FieldType.int)) (by decide) rfl (Nat.le_of_ble_eq_true rfl) ?_
  intro x hg hl hPo hPx hmc hms F
  subst hg; subst hl
  refine SW.cast (L' := [(0, .ref o), (1, .int (jI k)), (2, .int (jI d))]) ?_ rfl rfl rfl
  refine sw_aload_n (n := 1) F 0 (some o) rfl rfl rfl dX4_tax_0 rfl ?_
  have K29 : ∀ (p9 : Int), (p9 = txP k d) → SW x [tmO (xg x) o a z, aI (xg x) 0 (a 14) 3600 Td, aI (xg x) 0 (a 15) 3600 Tx, aI (xg x) 0 (a 18) 6 Tm] 0 0 29 [(0, .ref o), (1, .int (jI k)), (2, .int (jI d))] [.int (jI p9), .ref o] := by
    intro p9 hpc
    subst hpc
    have hcs := txP_c k d
    refine sw_callV (n := 32) F (ct_X4_fails (g := xg x) (l := xl x) o a z (txP k d) (by first | omega | assumption)) (rcv_ob F 0 (ci := 3) rfl rfl) q3973 q3975 qs68 q120 q3976 nd_X4_fails rfl (by decide) [0, 1, 2, 3] rfl [aI (xg x) 0 (a 14) 3600 Td, aI (xg x) 0 (a 15) 3600 Tx, aI (xg x) 0 (a 18) 6 Tm] rfl 0 0 ⟨by omega, by omega⟩ [] rfl (Nat.le_of_ble_eq_true rfl) dX4_tax_29 rfl (fun _ _ h => h.elim) (fun v Ws h => ?_)
    obtain ⟨rfl, hps_1, rfl⟩ := h
    show SW x [tmO (xg x) o a (va_up z 8 (txP k d)), aI (xg x) 0 (a 14) 3600 Td, aI (xg x) 0 (a 15) 3600 Tx, aI (xg x) 0 (a 18) 6 Tm] _ _ _ _ [.int (jI (psI (txP k d)))]
    refine sw_if_eq (n := 35) F (by omega) (tgt := 39) dX4_tax_32 (by decide) rfl (fun c_32 => ?_) (fun c_32 => ?_)
    ·
      have e0 : txP k d = 0 := by omega
      have rg0 : 0 ≤ k ∧ k ≤ 5 := by omega
      clear hcs c_32 hps_1
      refine SW.cast (L' := [(0, .ref o), (1, .int (jI (↑(k.toNat)))), (2, .int (jI d))]) ?_ rfl (by rw [Int.toNat_of_nonneg (show 0 ≤ k by omega)]) rfl
      refine sw_aload_n (n := 40) F 0 (some o) rfl rfl rfl dX4_tax_39 rfl ?_
      refine sw_iload_n (n := 41) F 1 rfl rfl dX4_tax_40 rfl ?_
      refine sw_iload_n (n := 42) F 2 rfl rfl dX4_tax_41 rfl ?_
      refine sw_callV (n := 45) F (ct_X4_taxAt (g := xg x) (l := xl x) o a (va_up z 8 (txP k d)) Td Tx Tm k.toNat d hTd hTx hTm (by first | omega | assumption) hd) (rcv_ob F 0 (ci := 3) rfl rfl) q4203 q4205 qs94 q120 q4206 nd_X4_taxAt rfl (by decide) [0, 1, 2, 3] rfl [] rfl 0 0 ⟨by omega, by omega⟩ [] rfl (Nat.le_of_ble_eq_true rfl) dX4_tax_42 rfl (fun _ _ h => h.elim) (fun v Ws h => ?_)
      obtain ⟨rfl, rfl⟩ := h
      show SW x [tmO (xg x) o a (va_up z 8 (txP k d)), aI (xg x) 0 (a 14) 3600 Td, aI (xg x) 0 (a 15) 3600 Tx, aI (xg x) 0 (a 18) 6 Tm] _ _ _ _ [.int (jI (txA Td Tx Tm k.toNat d))]
      have e0 : txP k d = 0 := by omega
      exact sw_iret F _ rfl (by first | rfl | exact jI_nz (by omega) | exact jI_nc (by omega)) dX4_tax_45 (by rw [hPo]; exact ⟨(by rw [if0_p e0]), rfl⟩)
    ·
      refine sw_iconst (n := 36) F (0) (by decide) dX4_tax_35 rfl ?_
      refine sw_goto F (n := 45) dX4_tax_36 (by decide) ?_
      have e0 : txP k d ≠ 0 := by omega
      exact sw_iret F _ rfl (by first | rfl | exact jI_nz (by omega) | exact jI_nc (by omega)) dX4_tax_45 (by rw [hPo]; exact ⟨(by rw [if0_n e0]), rfl⟩)
  refine sw_iload_n (n := 2) F 1 rfl rfl dX4_tax_1 rfl ?_
  refine sw_callS (n := 5) F (ct_X4_isKind (g := xg x) (l := xl x) k hk) q4192 q4193 q120 q4194 nd_X4_isKind rfl (by decide) [0, 1, 2, 3] rfl [tmO (xg x) o a z, aI (xg x) 0 (a 14) 3600 Td, aI (xg x) 0 (a 15) 3600 Tx, aI (xg x) 0 (a 18) 6 Tm] rfl 0 0 ⟨by omega, by omega⟩ [.ref o] rfl (Nat.le_of_ble_eq_true rfl) dX4_tax_2 rfl (fun _ _ h => h.elim) (fun v Ws h => ?_)
  obtain ⟨rfl, hs_2, rfl⟩ := h
  show SW x [tmO (xg x) o a z, aI (xg x) 0 (a 14) 3600 Td, aI (xg x) 0 (a 15) 3600 Tx, aI (xg x) 0 (a 18) 6 Tm] _ _ _ _ [.int (jI (inI k 0 5)), .ref o]
  refine sw_if_ne (n := 8) F (by omega) (tgt := 12) dX4_tax_5 (by decide) rfl (fun c_5 => ?_) (fun c_5 => ?_)
  ·
    refine sw_iload_n (n := 13) F 2 rfl rfl dX4_tax_12 rfl ?_
    refine sw_i2l (n := 14) F (by omega) dX4_tax_13 rfl ?_
    refine sw_lconst (n := 15) F 0 (by decide) dX4_tax_14 rfl ?_
    refine sw_ldc2 (n := 18) F (9999) q4195 (by decide) dX4_tax_15 rfl ?_
    refine sw_callS (n := 21) F (ct_X4_in (g := xg x) (l := xl x) d 0 9999 (by first | omega | assumption) (by first | omega | assumption) (by first | omega | assumption)) q3963 q3964 q120 q3965 nd_X4_in rfl (by decide) [0, 1, 2, 3] rfl [tmO (xg x) o a z, aI (xg x) 0 (a 14) 3600 Td, aI (xg x) 0 (a 15) 3600 Tx, aI (xg x) 0 (a 18) 6 Tm] rfl 0 0 ⟨by omega, by omega⟩ [.ref o] rfl (Nat.le_of_ble_eq_true rfl) dX4_tax_18 rfl (fun _ _ h => h.elim) (fun v Ws h => ?_)
    obtain ⟨rfl, hs_3, rfl⟩ := h
    show SW x [tmO (xg x) o a z, aI (xg x) 0 (a 14) 3600 Td, aI (xg x) 0 (a 15) 3600 Tx, aI (xg x) 0 (a 18) 6 Tm] _ _ _ _ [.int (jI (inI d 0 9999)), .ref o]
    refine sw_if_eq (n := 24) F (by omega) (tgt := 28) dX4_tax_21 (by decide) rfl (fun c_21 => ?_) (fun c_21 => ?_)
    ·
      refine sw_iconst (n := 29) F (2) (by decide) dX4_tax_28 rfl ?_
      exact K29 2 (by unfold txP; (repeat' split) <;> omega)
    ·
      refine sw_iconst (n := 25) F (0) (by decide) dX4_tax_24 rfl ?_
      refine sw_goto F (n := 29) dX4_tax_25 (by decide) ?_
      exact K29 0 (by unfold txP; (repeat' split) <;> omega)
  ·
    refine sw_iconst (n := 9) F (1) (by decide) dX4_tax_8 rfl ?_
    refine sw_goto F (n := 29) dX4_tax_9 (by decide) ?_
    exact K29 1 (by unfold txP; (repeat' split) <;> omega)
