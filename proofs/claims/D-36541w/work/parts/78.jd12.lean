set_option maxRecDepth 100000

theorem ms_p {a b : Nat} (ha : a < 4294967296) (hb : b < 4294967296) : a * b ≤ 18446744065119617025 := Nat.mul_le_mul (show a ≤ 4294967295 by omega) (show b ≤ 4294967295 by omega)
/-- w is the word fv less the product p -/
def msD (fv p w : Nat) : Prop := w = (fv + 4294967296 - p % 4294967296) % 4294967296
theorem msw {fv p w : Nat} (hf : fv < 4294967296) (hw : msD fv p w) : (wI (fv : Int) - (p : Int)) % 4294967296 = (w : Int) := by
  have h := (wI_s (fv : Int)).2.2
  unfold msD at hw
  generalize wI (fv : Int) = z at *
  omega
theorem msw_b {fv p w : Nat} (hw : msD fv p w) : w < 4294967296 := by unfold msD at hw; omega
theorem msw_m {v : Int} {w : Nat} (h : v % 4294967296 = (w : Int)) : v % 4294967296 = (w : Int) % 4294967296 := by omega
theorem ms_c1 {p w c : Nat} (hc : c = p / 4294967296 + (if 4294967295 - p % 4294967296 < w then 1 else 0)) (hp : p ≤ 18446744065119617025) : c ≤ 4294967295 := by subst hc; split <;> omega
theorem ms_c2 {p w c : Nat} (hc : c = p / 4294967296 + (if 4294967295 - p % 4294967296 < w then 1 else 0)) (hp : p ≤ 18446744065119617025 + 4294967295) : c ≤ 4294967296 := by subst hc; split <;> omega
theorem lc_le {a b : Int} (h : (if a < b then (-1 : Int) else if a = b then 0 else 1) ≤ 0) : a ≤ b := by revert h; (repeat' split) <;> omega
theorem lc_gt {a b : Int} (h : 0 < (if a < b then (-1 : Int) else if a = b then 0 else 1)) : a > b := by revert h; (repeat' split) <;> omega
theorem lc_lt {a b : Int} (h : (if a < b then (-1 : Int) else if a = b then 0 else 1) < 0) : a < b := by revert h; (repeat' split) <;> omega
theorem lc_ge {a b : Int} (h : 0 ≤ (if a < b then (-1 : Int) else if a = b then 0 else 1)) : a ≥ b := by revert h; (repeat' split) <;> omega
theorem lc_eq {a b : Int} (h : (if a < b then (-1 : Int) else if a = b then 0 else 1) = 0) : a = b := by revert h; (repeat' split) <;> omega
theorem lc_ne {a b : Int} (h : (if a < b then (-1 : Int) else if a = b then 0 else 1) ≠ 0) : a ≠ b := by revert h; (repeat' split) <;> omega
theorem ms_if0 {p w : Nat} (h : (w : Int) ≤ 4294967295 - ((p % 4294967296 : Nat) : Int)) : p / 4294967296 + 0 = p / 4294967296 + (if 4294967295 - p % 4294967296 < w then 1 else 0) := by rw [if_neg (by omega)]
theorem ms_if1 {p w : Nat} (h : (w : Int) > 4294967295 - ((p % 4294967296 : Nat) : Int)) : p / 4294967296 + 1 = p / 4294967296 + (if 4294967295 - p % 4294967296 < w then 1 else 0) := by rw [if_pos (by omega)]
theorem not_w {p : Nat} : (-(p : Int) - 1) % 4294967296 = 4294967295 - ((p % 4294967296 : Nat) : Int) := by omega
theorem not_r {p : Nat} : -9223372036854775808 ≤ 4294967295 - ((p % 4294967296 : Nat) : Int) ∧ 4294967295 - ((p % 4294967296 : Nat) : Int) ≤ 9223372036854775807 := by omega
theorem ushr_n {p : Nat} (h : p ≤ 18446744073709551615) : (p : Int) % 18446744073709551616 / 4294967296 = ((p / 4294967296 : Nat) : Int) := by omega
theorem wI_mod (z : Int) : wI z % 4294967296 = z % 4294967296 := (wI_s z).2.2
theorem nd_J35_mulsubLong : yJ35_mulsubLong.cls ≠ "java/lang/invoke/MethodHandle" ∧ yJ35_mulsubLong.cls ≠ "java/lang/invoke/VarHandle" ∧ (parseMethodDescriptor yJ35_mulsubLong.desc).map (fun d => d.parameters.length) = some 5 := by decide +kernel
set_option maxRecDepth 100000 in
set_option maxHeartbeats 16000000 in
theorem ct_J35_mulsubLong {g : GG} {l : Launch} (q : Nat) (a : Nat) (N : Nat) (f : Nat → Nat) (dh : Nat) (dl : Nat) (x_ : Nat) (o : Nat) (hN : o + 3 ≤ N ∧ N ≤ 64) (hf : ∀ k, k < N → f k < 4294967296) (hd : dh < 4294967296 ∧ dl < 4294967296) (hx : x_ < 4294967296) : Ct g l yJ35_mulsubLong (ws_ yJ35_mulsubLong cJ35_mulsubLong 14 (Option.some Jvm.ClassFile.FieldType.int)) 1 12 0 0 [.ref q, .ref a, .int (jI (↑dh)), .int (jI (↑dl)), .int (jI (↑x_)), .int (jI (↑o))] [aN g 0 a N f] (fun v9 Ws9 => ∃ w1 : Nat, ∃ w2 : Nat, ∃ c2 : Nat, v9 = some (.int (jI (↑c2))) ∧ (w1 < 4294967296 ∧ w2 < 4294967296) ∧ (c2 ≤ 4294967296) ∧ (f (o + 1) * 4294967296 + f (o + 2) + c2 * 18446744073709551616 = (dh * 4294967296 + dl) * x_ + (w1 * 4294967296 + w2)) ∧ Ws9 = [aN g 0 a N (va_up (va_up f (o + 2) w2) (o + 1) w1)]) (nox) := by
  refine Ct.of (cc := cJ35_mulsubLong) (nL := 14) (ret := (Option.some Jvm.ClassFile.FieldType.int)) (by decide) rfl (Nat.le_of_ble_eq_true rfl) ?_
  intro x hg hl hPo hPx hmc hms F
  subst hg; subst hl
  refine SW.cast (L' := [(0, .ref q), (1, .ref a), (2, .int (jI (↑dh))), (3, .int (jI (↑dl))), (4, .int (jI (↑x_))), (5, .int (jI (↑o)))]) ?_ rfl rfl rfl
  refine sw_iload (n := 2) F 4 rfl dJ35_mulsubLong_0 rfl ?_
  refine sw_i2lr (n := 3) F dJ35_mulsubLong_2 rfl ?_
  refine sw_ldc2 (n := 6) F (4294967295) q1865 (by decide) dJ35_mulsubLong_3 rfl ?_
  refine sw_land (n := 7) F (jL (↑x_)) (jI_wordE (by omega)) dJ35_mulsubLong_6 rfl ?_
  refine sw_lstore (n := 9) F (L2 := [(6, .long (jL (↑x_))), (0, .ref q), (1, .ref a), (2, .int (jI (↑dh))), (3, .int (jI (↑dl))), (4, .int (jI (↑x_))), (5, .int (jI (↑o)))]) rfl (by decide) dJ35_mulsubLong_7 rfl ?_
  refine sw_iinc (n := 12) F 6 (L2 := [(5, .int (jI (↑o + 2))), (6, .long (jL (↑x_))), (0, .ref q), (1, .ref a), (2, .int (jI (↑dh))), (3, .int (jI (↑dl))), (4, .int (jI (↑x_)))]) rfl rfl (by decide) dJ35_mulsubLong_9 rfl ?_
  refine sw_iload_n (n := 13) F 5 rfl rfl dJ35_mulsubLong_12 rfl ?_
  refine sw_i2lr (n := 14) F dJ35_mulsubLong_13 rfl ?_
  refine sw_ldc2 (n := 17) F (4294967295) q1865 (by decide) dJ35_mulsubLong_14 rfl ?_
  refine sw_land (n := 18) F (jL (↑dl)) (jI_wordE (by omega)) dJ35_mulsubLong_17 rfl ?_
  refine sw_lload (n := 20) F 1 rfl dJ35_mulsubLong_18 rfl ?_
  refine sw_lmul (n := 21) F dJ35_mulsubLong_20 rfl ?_
  obtain ⟨p1, hp1⟩ : ∃ z : Nat, z = dl * x_ := ⟨_, rfl⟩
  refine sw_top (topL (show ((↑dl) * (↑x_) : Int) = ↑p1 by rw [hp1, Int.natCast_mul])) ?_
  have hp1b : p1 ≤ 18446744065119617025 := by rw [hp1]; exact ms_p hd.2 hx
  have hp1c : p1 ≤ 18446744073709551615 := by omega
  refine sw_lstore (n := 23) F (L2 := [(8, .long (jL (↑p1))), (5, .int (jI (↑o + 2))), (6, .long (jL (↑x_))), (0, .ref q), (1, .ref a), (2, .int (jI (↑dh))), (3, .int (jI (↑dl))), (4, .int (jI (↑x_)))]) rfl (by decide) dJ35_mulsubLong_21 rfl ?_
  refine sw_aload_n (n := 24) F 4 (some a) rfl rfl rfl dJ35_mulsubLong_23 rfl ?_
  refine sw_iload (n := 26) F 1 rfl dJ35_mulsubLong_24 rfl ?_
  refine sw_ialoadN (n := 27) F 0 rfl (fun _ => rfl) (o + 2) (by omega) (by omega) dJ35_mulsubLong_26 rfl ?_
  refine sw_top (topIm (show (↑(f (o + 2)) : Int) % 4294967296 = (wI ↑(f (o + 2))) % 4294967296 by exact (wI_s _).2.2.symm)) ?_
  refine sw_i2l (n := 28) F (by exact ⟨(wI_s _).1, (wI_s _).2.1⟩) dJ35_mulsubLong_27 rfl ?_
  refine sw_lload (n := 30) F 0 rfl dJ35_mulsubLong_28 rfl ?_
  refine sw_lsub (n := 31) F dJ35_mulsubLong_30 rfl ?_
  obtain ⟨dz1, hdz1⟩ : ∃ z : Int, z = wI ↑(f (o + 2)) - ↑p1 := ⟨_, rfl⟩
  refine sw_top (topL (show ((wI ↑(f (o + 2))) - (↑p1) : Int) = dz1 by exact hdz1.symm)) ?_
  refine sw_lstore (n := 33) F (L2 := [(10, .long (jL dz1)), (8, .long (jL (↑p1))), (5, .int (jI (↑o + 2))), (6, .long (jL (↑x_))), (0, .ref q), (1, .ref a), (2, .int (jI (↑dh))), (3, .int (jI (↑dl))), (4, .int (jI (↑x_)))]) rfl (by decide) dJ35_mulsubLong_31 rfl ?_
  obtain ⟨w2, hw2⟩ : ∃ z : Nat, msD (f (o + 2)) p1 z := ⟨_, by unfold msD; rfl⟩
  have hb_w2 : f (o + 2) < 4294967296 := hf _ (by omega)
  have hl_w2 := msw_b hw2
  refine sw_aload_n (n := 34) F 5 (some a) rfl rfl rfl dJ35_mulsubLong_33 rfl ?_
  refine sw_iload (n := 36) F 2 rfl dJ35_mulsubLong_34 rfl ?_
  refine sw_iinc (n := 39) F 2 (L2 := [(5, .int (jI (↑o + 2 + (-1)))), (10, .long (jL dz1)), (8, .long (jL (↑p1))), (6, .long (jL (↑x_))), (0, .ref q), (1, .ref a), (2, .int (jI (↑dh))), (3, .int (jI (↑dl))), (4, .int (jI (↑x_)))]) rfl (by rfl) (by decide) dJ35_mulsubLong_36 rfl ?_
  refine SW.cast (L' := [(5, .int (jI (↑o + 1))), (10, .long (jL dz1)), (8, .long (jL (↑p1))), (6, .long (jL (↑x_))), (0, .ref q), (1, .ref a), (2, .int (jI (↑dh))), (3, .int (jI (↑dl))), (4, .int (jI (↑x_)))]) ?_ rfl (by rw [show Value.int (jI (↑o + 2 + (-1))) = Value.int (jI (↑o + 1)) from topI (by omega)]) rfl
  refine sw_lload (n := 41) F 1 rfl dJ35_mulsubLong_39 rfl ?_
  refine sw_l2i (n := 42) F dJ35_mulsubLong_41 rfl ?_
  refine sw_iastoreW (n := 43) F 0 rfl (fun _ => rfl) (o + 2) (by omega) (by omega) w2 (by rw [hdz1]; exact msw_m (msw hb_w2 hw2)) [aN (xg x) 0 a N (va_up f (o + 2) w2)] (by rfl) dJ35_mulsubLong_42 rfl ?_
  refine sw_lload (n := 45) F 2 rfl dJ35_mulsubLong_43 rfl ?_
  refine sw_bipush (n := 47) F (32) (by decide) dJ35_mulsubLong_45 rfl ?_
  refine sw_lushr (n := 48) F _ (jL_ushr32 _) dJ35_mulsubLong_47 rfl ?_
  refine sw_top (topL (show ((↑p1) % 18446744073709551616 / 4294967296 : Int) = ↑(p1 / 4294967296) by exact ushr_n hp1c)) ?_
  refine sw_lload (n := 50) F 1 rfl dJ35_mulsubLong_48 rfl ?_
  refine sw_ldc2 (n := 53) F (4294967295) q1865 (by decide) dJ35_mulsubLong_50 rfl ?_
  refine sw_land (n := 54) F (jL (dz1 % 4294967296)) (jL_and 32 (by decide) (by rfl)) dJ35_mulsubLong_53 rfl ?_
  refine sw_top (topL (show (dz1 % 4294967296 : Int) = ↑w2 by rw [hdz1]; exact msw hb_w2 hw2)) ?_
  refine sw_lload (n := 56) F 2 rfl dJ35_mulsubLong_54 rfl ?_
  refine sw_l2i (n := 57) F dJ35_mulsubLong_56 rfl ?_
  refine sw_iconst (n := 58) F (-1) (by decide) dJ35_mulsubLong_57 rfl ?_
  refine sw_ixor (n := 59) F (jI (-↑p1 - 1)) (jI_not _) dJ35_mulsubLong_58 rfl ?_
  refine sw_i2lr (n := 60) F dJ35_mulsubLong_59 rfl ?_
  refine sw_ldc2 (n := 63) F (4294967295) q1865 (by decide) dJ35_mulsubLong_60 rfl ?_
  refine sw_land (n := 64) F (jL (4294967295 - ↑(p1 % 4294967296))) (jI_wordE (by exact not_w)) dJ35_mulsubLong_63 rfl ?_
  refine sw_lcmp (n := 65) F (by omega) (by exact not_r) dJ35_mulsubLong_64 rfl ?_
  have K75 : ∀ (c1 : Nat), (c1 = p1 / 4294967296 + (if 4294967295 - p1 % 4294967296 < w2 then 1 else 0)) → SW x [aN (xg x) 0 a N (va_up f (o + 2) w2)] 0 0 75 [(5, .int (jI (↑o + 1))), (10, .long (jL dz1)), (8, .long (jL (↑p1))), (6, .long (jL (↑x_))), (0, .ref q), (1, .ref a), (2, .int (jI (↑dh))), (3, .int (jI (↑dl))), (4, .int (jI (↑x_)))] [.long (jL (↑c1))] := by
    intro c1 hc1
    refine sw_lstore (n := 77) F (L2 := [(12, .long (jL (↑c1))), (5, .int (jI (↑o + 1))), (10, .long (jL dz1)), (8, .long (jL (↑p1))), (6, .long (jL (↑x_))), (0, .ref q), (1, .ref a), (2, .int (jI (↑dh))), (3, .int (jI (↑dl))), (4, .int (jI (↑x_)))]) rfl (by decide) dJ35_mulsubLong_75 rfl ?_
    refine sw_iload_n (n := 78) F 7 rfl rfl dJ35_mulsubLong_77 rfl ?_
    refine sw_i2lr (n := 79) F dJ35_mulsubLong_78 rfl ?_
    refine sw_ldc2 (n := 82) F (4294967295) q1865 (by decide) dJ35_mulsubLong_79 rfl ?_
    refine sw_land (n := 83) F (jL (↑dh)) (jI_wordE (by omega)) dJ35_mulsubLong_82 rfl ?_
    refine sw_lload (n := 85) F 4 rfl dJ35_mulsubLong_83 rfl ?_
    refine sw_lmul (n := 86) F dJ35_mulsubLong_85 rfl ?_
    refine sw_lload (n := 88) F 0 rfl dJ35_mulsubLong_86 rfl ?_
    refine sw_ladd (n := 89) F dJ35_mulsubLong_88 rfl ?_
    obtain ⟨p2, hp2⟩ : ∃ z : Nat, z = dh * x_ + c1 := ⟨_, rfl⟩
    refine sw_top (topL (show (((↑dh) * (↑x_)) + (↑c1) : Int) = ↑p2 by rw [hp2, Int.natCast_add, Int.natCast_mul])) ?_
    have hp2b : p2 ≤ 18446744065119617025 + 4294967295 := by rw [hp2]; exact Nat.add_le_add (ms_p hd.1 hx) (ms_c1 hc1 hp1b)
    have hp2c : p2 ≤ 18446744073709551615 := by omega
    refine sw_lstore (n := 91) F (L2 := [(8, .long (jL (↑p2))), (12, .long (jL (↑c1))), (5, .int (jI (↑o + 1))), (10, .long (jL dz1)), (6, .long (jL (↑x_))), (0, .ref q), (1, .ref a), (2, .int (jI (↑dh))), (3, .int (jI (↑dl))), (4, .int (jI (↑x_)))]) rfl (by decide) dJ35_mulsubLong_89 rfl ?_
    refine sw_aload_n (n := 92) F 6 (some a) rfl rfl rfl dJ35_mulsubLong_91 rfl ?_
    refine sw_iload (n := 94) F 2 rfl dJ35_mulsubLong_92 rfl ?_
    refine sw_ialoadN (n := 95) F 0 rfl (fun _ => rfl) (o + 1) (by omega) (by omega) dJ35_mulsubLong_94 rfl ?_
    refine sw_top (topIm (show (↑((va_up f (o + 2) w2) (o + 1)) : Int) % 4294967296 = (wI ↑(f (o + 1))) % 4294967296 by rw [vu_ne (by omega)]; exact (wI_s _).2.2.symm)) ?_
    refine sw_i2l (n := 96) F (by exact ⟨(wI_s _).1, (wI_s _).2.1⟩) dJ35_mulsubLong_95 rfl ?_
    refine sw_lload (n := 98) F 0 rfl dJ35_mulsubLong_96 rfl ?_
    refine sw_lsub (n := 99) F dJ35_mulsubLong_98 rfl ?_
    obtain ⟨dz2, hdz2⟩ : ∃ z : Int, z = wI ↑(f (o + 1)) - ↑p2 := ⟨_, rfl⟩
    refine sw_top (topL (show ((wI ↑(f (o + 1))) - (↑p2) : Int) = dz2 by exact hdz2.symm)) ?_
    refine sw_lstore (n := 101) F (L2 := [(10, .long (jL dz2)), (8, .long (jL (↑p2))), (12, .long (jL (↑c1))), (5, .int (jI (↑o + 1))), (6, .long (jL (↑x_))), (0, .ref q), (1, .ref a), (2, .int (jI (↑dh))), (3, .int (jI (↑dl))), (4, .int (jI (↑x_)))]) rfl (by decide) dJ35_mulsubLong_99 rfl ?_
    obtain ⟨w1, hw1⟩ : ∃ z : Nat, msD (f (o + 1)) p2 z := ⟨_, by unfold msD; rfl⟩
    have hb_w1 : f (o + 1) < 4294967296 := hf _ (by omega)
    have hl_w1 := msw_b hw1
    refine sw_aload_n (n := 102) F 6 (some a) rfl rfl rfl dJ35_mulsubLong_101 rfl ?_
    refine sw_iload (n := 104) F 3 rfl dJ35_mulsubLong_102 rfl ?_
    refine sw_iinc (n := 107) F 3 (L2 := [(5, .int (jI (↑o + 1 + (-1)))), (10, .long (jL dz2)), (8, .long (jL (↑p2))), (12, .long (jL (↑c1))), (6, .long (jL (↑x_))), (0, .ref q), (1, .ref a), (2, .int (jI (↑dh))), (3, .int (jI (↑dl))), (4, .int (jI (↑x_)))]) rfl (by rfl) (by decide) dJ35_mulsubLong_104 rfl ?_
    refine sw_lload (n := 109) F 1 rfl dJ35_mulsubLong_107 rfl ?_
    refine sw_l2i (n := 110) F dJ35_mulsubLong_109 rfl ?_
    refine sw_iastoreW (n := 111) F 0 rfl (fun _ => rfl) (o + 1) (by omega) (by omega) w1 (by rw [hdz2]; exact msw_m (msw hb_w1 hw1)) [aN (xg x) 0 a N (va_up (va_up f (o + 2) w2) (o + 1) w1)] (by rfl) dJ35_mulsubLong_110 rfl ?_
    refine sw_lload (n := 113) F 2 rfl dJ35_mulsubLong_111 rfl ?_
    refine sw_bipush (n := 115) F (32) (by decide) dJ35_mulsubLong_113 rfl ?_
    refine sw_lushr (n := 116) F _ (jL_ushr32 _) dJ35_mulsubLong_115 rfl ?_
    refine sw_top (topL (show ((↑p2) % 18446744073709551616 / 4294967296 : Int) = ↑(p2 / 4294967296) by exact ushr_n hp2c)) ?_
    refine sw_lload (n := 118) F 1 rfl dJ35_mulsubLong_116 rfl ?_
    refine sw_ldc2 (n := 121) F (4294967295) q1865 (by decide) dJ35_mulsubLong_118 rfl ?_
    refine sw_land (n := 122) F (jL (dz2 % 4294967296)) (jL_and 32 (by decide) (by rfl)) dJ35_mulsubLong_121 rfl ?_
    refine sw_top (topL (show (dz2 % 4294967296 : Int) = ↑w1 by rw [hdz2]; exact msw hb_w1 hw1)) ?_
    refine sw_lload (n := 124) F 2 rfl dJ35_mulsubLong_122 rfl ?_
    refine sw_l2i (n := 125) F dJ35_mulsubLong_124 rfl ?_
    refine sw_iconst (n := 126) F (-1) (by decide) dJ35_mulsubLong_125 rfl ?_
    refine sw_ixor (n := 127) F (jI (-↑p2 - 1)) (jI_not _) dJ35_mulsubLong_126 rfl ?_
    refine sw_i2lr (n := 128) F dJ35_mulsubLong_127 rfl ?_
    refine sw_ldc2 (n := 131) F (4294967295) q1865 (by decide) dJ35_mulsubLong_128 rfl ?_
    refine sw_land (n := 132) F (jL (4294967295 - ↑(p2 % 4294967296))) (jI_wordE (by exact not_w)) dJ35_mulsubLong_131 rfl ?_
    refine sw_lcmp (n := 133) F (by omega) (by exact not_r) dJ35_mulsubLong_132 rfl ?_
    have K143 : ∀ (c2 : Nat), (c2 = p2 / 4294967296 + (if 4294967295 - p2 % 4294967296 < w1 then 1 else 0)) → SW x [aN (xg x) 0 a N (va_up (va_up f (o + 2) w2) (o + 1) w1)] 0 0 143 [(5, .int (jI (↑o + 1 + (-1)))), (10, .long (jL dz2)), (8, .long (jL (↑p2))), (12, .long (jL (↑c1))), (6, .long (jL (↑x_))), (0, .ref q), (1, .ref a), (2, .int (jI (↑dh))), (3, .int (jI (↑dl))), (4, .int (jI (↑x_)))] [.long (jL (↑c2))] := by
      intro c2 hc2
      refine sw_lstore (n := 145) F (L2 := [(12, .long (jL (↑c2))), (5, .int (jI (↑o + 1 + (-1)))), (10, .long (jL dz2)), (8, .long (jL (↑p2))), (6, .long (jL (↑x_))), (0, .ref q), (1, .ref a), (2, .int (jI (↑dh))), (3, .int (jI (↑dl))), (4, .int (jI (↑x_)))]) rfl (by decide) dJ35_mulsubLong_143 rfl ?_
      have he1 := (ms_step hb_w2 hw2 hc1).1
      have he2 := (ms_step hb_w1 hw1 hc2).1
      have he3 := ms_2 hp1 he1 hp2 he2
      refine sw_lload (n := 147) F 0 rfl dJ35_mulsubLong_145 rfl ?_
      refine sw_l2i (n := 148) F dJ35_mulsubLong_147 rfl ?_
      exact sw_iret F _ rfl (by first | rfl | exact jI_nz (by omega) | exact jI_nc (by omega)) dJ35_mulsubLong_148 (by rw [hPo]; exact ⟨w1, w2, c2, rfl, (by exact ⟨hl_w1, hl_w2⟩), (by exact ms_c2 hc2 hp2b), (by exact he3), rfl⟩)
    refine sw_if_le (n := 136) F (by omega) (tgt := 140) dJ35_mulsubLong_133 (by decide) rfl (fun c_133 => ?_) (fun c_133 => ?_)
    ·
      have c_133 := lc_le c_133
      refine sw_iconst (n := 141) F (0) (by decide) dJ35_mulsubLong_140 rfl ?_
      refine sw_i2l (n := 142) F (by decide) dJ35_mulsubLong_141 rfl ?_
      refine sw_ladd (n := 143) F dJ35_mulsubLong_142 rfl ?_
      exact K143 (((p2 / 4294967296)) + 0) (by first | exact ms_if0 c_133 | exact ms_if1 c_133)
    ·
      have c_133 := lc_gt c_133
      refine sw_iconst (n := 137) F (1) (by decide) dJ35_mulsubLong_136 rfl ?_
      refine sw_goto F (n := 141) dJ35_mulsubLong_137 (by decide) ?_
      refine sw_i2l (n := 142) F (by decide) dJ35_mulsubLong_141 rfl ?_
      refine sw_ladd (n := 143) F dJ35_mulsubLong_142 rfl ?_
      exact K143 (((p2 / 4294967296)) + 1) (by first | exact ms_if0 c_133 | exact ms_if1 c_133)
  refine sw_if_le (n := 68) F (by omega) (tgt := 72) dJ35_mulsubLong_65 (by decide) rfl (fun c_65 => ?_) (fun c_65 => ?_)
  ·
    have c_65 := lc_le c_65
    refine sw_iconst (n := 73) F (0) (by decide) dJ35_mulsubLong_72 rfl ?_
    refine sw_i2l (n := 74) F (by decide) dJ35_mulsubLong_73 rfl ?_
    refine sw_ladd (n := 75) F dJ35_mulsubLong_74 rfl ?_
    exact K75 (((p1 / 4294967296)) + 0) (by first | exact ms_if0 c_65 | exact ms_if1 c_65)
  ·
    have c_65 := lc_gt c_65
    refine sw_iconst (n := 69) F (1) (by decide) dJ35_mulsubLong_68 rfl ?_
    refine sw_goto F (n := 73) dJ35_mulsubLong_69 (by decide) ?_
    refine sw_i2l (n := 74) F (by decide) dJ35_mulsubLong_73 rfl ?_
    refine sw_ladd (n := 75) F dJ35_mulsubLong_74 rfl ?_
    exact K75 (((p1 / 4294967296)) + 1) (by first | exact ms_if0 c_65 | exact ms_if1 c_65)
theorem mw_1 (f : Nat → Nat) (o : Nat) : mw f o 1 = f o := by show 0 * 4294967296 + f (o + 0) = f o; rw [Nat.zero_mul, Nat.zero_add]; rfl
theorem mw_2 (f : Nat → Nat) (o : Nat) : mw f o 2 = f o * 4294967296 + f (o + 1) := by show (0 * 4294967296 + f (o + 0)) * 4294967296 + f (o + 1) = _; rw [Nat.zero_mul, Nat.zero_add]; rfl
theorem nd_J35_toLong : yJ35_toLong.cls ≠ "java/lang/invoke/MethodHandle" ∧ yJ35_toLong.cls ≠ "java/lang/invoke/VarHandle" ∧ (parseMethodDescriptor yJ35_toLong.desc).map (fun d => d.parameters.length) = some 0 := by decide +kernel
set_option maxRecDepth 100000 in
set_option maxHeartbeats 16000000 in
theorem ct_J35_toLong {g : GG} {l : Launch} (q : Nat) (a : Nat) (N : Nat) (f : Nat → Nat) (n : Nat) (o : Nat) (hN : o + n ≤ N ∧ N ≤ 64) (hf : ∀ k, k < N → f k < 4294967296) (hn : n ≤ 2) : Ct g l yJ35_toLong (ws_ yJ35_toLong cJ35_toLong 3 (Option.some Jvm.ClassFile.FieldType.long)) 1 12 0 0 [.ref q] [ob g q 19 [.ref a, .int (jI (↑n)), .int (jI (↑o))], aN g 0 a N f] (fun v9 Ws9 => v9 = some (.long (jL (↑(mw f o n)))) ∧ Ws9 = [ob g q 19 [.ref a, .int (jI (↑n)), .int (jI (↑o))], aN g 0 a N f]) (nox) := by
  refine Ct.of (cc := cJ35_toLong) (nL := 3) (ret := (Option.some Jvm.ClassFile.FieldType.long)) (by decide) rfl (Nat.le_of_ble_eq_true rfl) ?_
  intro x hg hl hPo hPx hmc hms F
  subst hg; subst hl
  refine SW.cast (L' := [(0, .ref q)]) ?_ rfl rfl rfl
  refine sw_gets (n := 3) F (kaMB F.gx.1).1 q1921 (Or.inl rfl) dJ35_toLong_0 rfl ?_
  refine sw_if_ne (n := 6) F (by decide) (tgt := 24) dJ35_toLong_3 (by decide) rfl (fun c_3 => ?_) (fun c_3 => ?_)
  ·
    refine sw_aload_n (n := 25) F 0 (some q) rfl rfl rfl dJ35_toLong_24 rfl ?_
    refine sw_get (n := 28) F 0 rfl (k := 1) ⟨(RJ35, TJ35, 3), rfl, by decide, q1837, in_J35, Or.inl rfl⟩ rfl dJ35_toLong_25 rfl ?_
    refine sw_if_ne (n := 31) F (by omega) (tgt := 33) dJ35_toLong_28 (by decide) rfl (fun c_28 => ?_) (fun c_28 => ?_)
    ·
      refine sw_aload_n (n := 34) F 0 (some q) rfl rfl rfl dJ35_toLong_33 rfl ?_
      refine sw_get (n := 37) F 0 rfl (k := 0) ⟨(RJ35, TJ35, 3), rfl, by decide, q1836, in_J35, Or.inl rfl⟩ rfl dJ35_toLong_34 rfl ?_
      refine sw_aload_n (n := 38) F 0 (some q) rfl rfl rfl dJ35_toLong_37 rfl ?_
      refine sw_get (n := 41) F 0 rfl (k := 2) ⟨(RJ35, TJ35, 3), rfl, by decide, q1838, in_J35, Or.inl rfl⟩ rfl dJ35_toLong_38 rfl ?_
      refine sw_ialoadN (n := 42) F 1 rfl (fun _ => rfl) o rfl (by omega) dJ35_toLong_41 rfl ?_
      have hb_x : f o < 4294967296 := hf _ (by omega)
      have hb_1 : f o < 4294967296 := hf _ (by omega)
      refine sw_i2lr (n := 43) F dJ35_toLong_42 rfl ?_
      refine sw_ldc2 (n := 46) F (4294967295) q1865 (by decide) dJ35_toLong_43 rfl ?_
      refine sw_land (n := 47) F (jL (↑(f o))) (jI_wordE (by omega)) dJ35_toLong_46 rfl ?_
      refine sw_lstore_n (n := 48) F (L2 := [(1, .long (jL (↑(f o)))), (0, .ref q)]) rfl (by decide) rfl dJ35_toLong_47 rfl ?_
      refine sw_aload_n (n := 49) F 1 (some q) rfl rfl rfl dJ35_toLong_48 rfl ?_
      refine sw_get (n := 52) F 0 rfl (k := 1) ⟨(RJ35, TJ35, 3), rfl, by decide, q1837, in_J35, Or.inl rfl⟩ rfl dJ35_toLong_49 rfl ?_
      refine sw_iconst (n := 53) F (2) (by decide) dJ35_toLong_52 rfl ?_
      refine sw_icmp_ne (n := 56) F (by omega) (by decide) (tgt := 80) dJ35_toLong_53 (by decide) rfl (fun c_53 => ?_) (fun c_53 => ?_)
      ·
        refine sw_lload_n (n := 81) F 0 rfl rfl dJ35_toLong_80 rfl ?_
        exact sw_lret F rfl dJ35_toLong_81 (by rw [hPo]; exact ⟨(by first | (rw [show n = 1 by omega, mw_1]) | (rw [show n = 2 by omega, mw_2, Int.natCast_add, Int.natCast_mul]; rfl) | (rw [show n = 2 by omega, mw_2]; congr 3; omega)), rfl⟩)
      ·
        refine sw_lload_n (n := 57) F 0 rfl rfl dJ35_toLong_56 rfl ?_
        refine sw_bipush (n := 59) F (32) (by decide) dJ35_toLong_57 rfl ?_
        refine sw_lshl (n := 60) F (jL ((↑(f o)) * 4294967296)) (by have h7s := jL_shlQ (↑(f o)) (c := 32) (P := 4294967296) (k := 32) (by decide) (by decide) (by decide); exact h7s) dJ35_toLong_59 rfl ?_
        refine sw_aload_n (n := 61) F 1 (some q) rfl rfl rfl dJ35_toLong_60 rfl ?_
        refine sw_get (n := 64) F 0 rfl (k := 0) ⟨(RJ35, TJ35, 3), rfl, by decide, q1836, in_J35, Or.inl rfl⟩ rfl dJ35_toLong_61 rfl ?_
        refine sw_aload_n (n := 65) F 1 (some q) rfl rfl rfl dJ35_toLong_64 rfl ?_
        refine sw_get (n := 68) F 0 rfl (k := 2) ⟨(RJ35, TJ35, 3), rfl, by decide, q1838, in_J35, Or.inl rfl⟩ rfl dJ35_toLong_65 rfl ?_
        refine sw_iconst (n := 69) F (1) (by decide) dJ35_toLong_68 rfl ?_
        refine sw_iadd (n := 70) F dJ35_toLong_69 rfl ?_
        refine sw_ialoadN (n := 71) F 1 rfl (fun _ => rfl) ((o) + 1) (by omega) (by omega) dJ35_toLong_70 rfl ?_
        have hb_y : f (o + 1) < 4294967296 := hf _ (by omega)
        have hb_2 : f ((o) + 1) < 4294967296 := hf _ (by omega)
        refine sw_i2lr (n := 72) F dJ35_toLong_71 rfl ?_
        refine sw_ldc2 (n := 75) F (4294967295) q1865 (by decide) dJ35_toLong_72 rfl ?_
        refine sw_land (n := 76) F (jL (↑(f ((o) + 1)))) (jI_wordE (by omega)) dJ35_toLong_75 rfl ?_
        refine sw_lor (n := 77) F (jL (↑(f o) * 4294967296 + ↑(f (o + 1)))) (by exact jL_or 32 (by decide) (by omega) (by omega)) dJ35_toLong_76 rfl ?_
        refine sw_goto F (n := 81) dJ35_toLong_77 (by decide) ?_
        exact sw_lret F rfl dJ35_toLong_81 (by rw [hPo]; exact ⟨(by first | (rw [show n = 1 by omega, mw_1]) | (rw [show n = 2 by omega, mw_2, Int.natCast_add, Int.natCast_mul]; rfl) | (rw [show n = 2 by omega, mw_2]; congr 3; omega)), rfl⟩)
    ·
      refine sw_lconst (n := 32) F 0 (by decide) dJ35_toLong_31 rfl ?_
      exact sw_lret F rfl dJ35_toLong_32 (by rw [hPo]; exact ⟨(by rw [show n = 0 by omega]; rfl), rfl⟩)
  · exfalso; omega
theorem nd_J35_getMagnitudeArray : yJ35_getMagnitudeArray.cls ≠ "java/lang/invoke/MethodHandle" ∧ yJ35_getMagnitudeArray.cls ≠ "java/lang/invoke/VarHandle" ∧ (parseMethodDescriptor yJ35_getMagnitudeArray.desc).map (fun d => d.parameters.length) = some 0 := by decide +kernel
set_option maxRecDepth 100000 in
set_option maxHeartbeats 16000000 in
theorem ct_J35_getMagnitudeArray {g : GG} {l : Launch} (q : Nat) (a : Nat) (N : Nat) (f : Nat → Nat) (n : Nat) (o : Nat) (hN : o + n ≤ N ∧ N ≤ 64) (hf : ∀ k, k < N → f k < 4294967296) (hn : 0 < n ∧ n ≤ 8 ∧ N ≤ 8) : Ct g l yJ35_getMagnitudeArray (ws_ yJ35_getMagnitudeArray cJ35_getMagnitudeArray 2 (Option.some (Jvm.ClassFile.FieldType.array Jvm.ClassFile.FieldType.int))) 4 79 1 8 [.ref q] [ob g q 19 [.ref a, .int (jI (↑n)), .int (jI (↑o))], aN g 0 a N f] (fun v9 Ws9 => ∃ a1 : Nat, ∃ f1 : Nat → Nat, v9 = some (.ref a1) ∧ (∀ k, k < n → f1 k < 4294967296) ∧ (wv f1 n = mw f o n) ∧ (f1 0 = f o) ∧ Ws9 = [ob g q 19 [.ref a1, .int (jI (↑n)), .int (jI 0)], aN g 0 a1 n f1]) (nox) := by
  refine Ct.of (cc := cJ35_getMagnitudeArray) (nL := 2) (ret := (Option.some (Jvm.ClassFile.FieldType.array Jvm.ClassFile.FieldType.int))) (by decide) rfl (Nat.le_of_ble_eq_true rfl) ?_
  intro x hg hl hPo hPx hmc hms F
  subst hg; subst hl
  refine SW.cast (L' := [(0, .ref q)]) ?_ rfl rfl rfl
  have K64 : ∀ (a1 : Nat) (f1 : Nat → Nat), (∀ k, k < n → f1 k < 4294967296) → (wv f1 n = mw f o n) → (f1 0 = f o) → SW x [ob (xg x) q 19 [.ref a1, .int (jI (↑n)), .int (jI 0)], aN (xg x) 0 a1 n f1] 0 0 64 [(0, .ref q)] [] := by
    intro a1 f1 hf1 hv1 h01
    refine sw_aload_n (n := 65) F 0 (some q) rfl rfl rfl dJ35_getMagnitudeArray_64 rfl ?_
    refine sw_get (n := 68) F 0 rfl (k := 0) ⟨(RJ35, TJ35, 3), rfl, by decide, q1836, in_J35, Or.inl rfl⟩ rfl dJ35_getMagnitudeArray_65 rfl ?_
    exact sw_aret F (some a1) _ rfl rfl (by first | exact Or.inl ⟨_, rfl⟩ | exact Or.inr ⟨_, rfl⟩) dJ35_getMagnitudeArray_68 (by rw [hPo]; exact ⟨a1, f1, rfl, hf1, (by first | exact hE2 | exact hv1), (by first | exact hE3 | exact h01), rfl⟩)
  refine sw_aload_n (n := 1) F 0 (some q) rfl rfl rfl dJ35_getMagnitudeArray_0 rfl ?_
  refine sw_get (n := 4) F 0 rfl (k := 2) ⟨(RJ35, TJ35, 3), rfl, by decide, q1838, in_J35, Or.inl rfl⟩ rfl dJ35_getMagnitudeArray_1 rfl ?_
  refine sw_if_gt (n := 7) F (by omega) (tgt := 19) dJ35_getMagnitudeArray_4 (by decide) rfl (fun c_4 => ?_) (fun c_4 => ?_)
  ·
    refine sw_aload_n (n := 20) F 0 (some q) rfl rfl rfl dJ35_getMagnitudeArray_19 rfl ?_
    refine sw_get (n := 23) F 0 rfl (k := 0) ⟨(RJ35, TJ35, 3), rfl, by decide, q1836, in_J35, Or.inl rfl⟩ rfl dJ35_getMagnitudeArray_20 rfl ?_
    refine sw_aload_n (n := 24) F 0 (some q) rfl rfl rfl dJ35_getMagnitudeArray_23 rfl ?_
    refine sw_get (n := 27) F 0 rfl (k := 2) ⟨(RJ35, TJ35, 3), rfl, by decide, q1838, in_J35, Or.inl rfl⟩ rfl dJ35_getMagnitudeArray_24 rfl ?_
    refine sw_aload_n (n := 28) F 0 (some q) rfl rfl rfl dJ35_getMagnitudeArray_27 rfl ?_
    refine sw_get (n := 31) F 0 rfl (k := 2) ⟨(RJ35, TJ35, 3), rfl, by decide, q1838, in_J35, Or.inl rfl⟩ rfl dJ35_getMagnitudeArray_28 rfl ?_
    refine sw_aload_n (n := 32) F 0 (some q) rfl rfl rfl dJ35_getMagnitudeArray_31 rfl ?_
    refine sw_get (n := 35) F 0 rfl (k := 1) ⟨(RJ35, TJ35, 3), rfl, by decide, q1837, in_J35, Or.inl rfl⟩ rfl dJ35_getMagnitudeArray_32 rfl ?_
    refine sw_iadd (n := 36) F dJ35_getMagnitudeArray_35 rfl ?_
    rw [show ((↑o) + (↑n) : Int) = ↑((o) + (n)) by omega]
    refine sw_callS (n := 39) F (ct_J23_copyOfRange_2 (g := xg x) (l := xl x) a N f o ((o) + (n)) (by omega)) q1950 q1152 q131 q1153 nd_J23_copyOfRange_2 rfl (by decide) [1, 0] rfl [ob (xg x) q 19 [.ref a, .int (jI (↑n)), .int (jI (↑o))]] rfl 0 0 ⟨by omega, by omega⟩ [] rfl (Nat.le_of_ble_eq_true rfl) dJ35_getMagnitudeArray_36 rfl (fun _ _ h => h.elim) (fun v Ws h => ?_)
    obtain ⟨r1_1, f1_2, rfl, hf1_3, rfl⟩ := h
    show SW x [aN (xg x) 0 r1_1 (((o) + (n)) - o) f1_2, aN (xg x) 0 a N f, ob (xg x) q 19 [.ref a, .int (jI (↑n)), .int (jI (↑o))]] _ _ _ _ [.ref r1_1]
    refine sw_astore_n (n := 40) F (some r1_1) (L2 := [(1, .ref r1_1), (0, .ref q)]) rfl rfl (by decide) rfl dJ35_getMagnitudeArray_39 rfl ?_
    refine sw_aload_n (n := 41) F 1 (some q) rfl rfl rfl dJ35_getMagnitudeArray_40 rfl ?_
    refine sw_get (n := 44) F 2 rfl (k := 0) ⟨(RJ35, TJ35, 3), rfl, by decide, q1836, in_J35, Or.inl rfl⟩ rfl dJ35_getMagnitudeArray_41 rfl ?_
    refine sw_iconst (n := 45) F (0) (by decide) dJ35_getMagnitudeArray_44 rfl ?_
    refine sw_callS (n := 48) F (ct_J23_fill_2 (g := xg x) (l := xl x) a N f (by first | omega | assumption)) q1951 q1952 q131 q1953 nd_J23_fill_2 rfl (by decide) [1, 0, 2] rfl [aN (xg x) 0 r1_1 (((o) + (n)) - o) f1_2, ob (xg x) q 19 [.ref a, .int (jI (↑n)), .int (jI (↑o))]] rfl 0 0 ⟨by omega, by omega⟩ [] rfl (Nat.le_of_ble_eq_true rfl) dJ35_getMagnitudeArray_45 rfl (fun _ _ h => h.elim) (fun v Ws h => ?_)
    obtain ⟨f1_4, rfl, hf1_5, rfl⟩ := h
    show SW x [aN (xg x) 0 a N f1_4, aN (xg x) 0 r1_1 (((o) + (n)) - o) f1_2, ob (xg x) q 19 [.ref a, .int (jI (↑n)), .int (jI (↑o))]] _ _ _ _ []
    refine sw_aload_n (n := 49) F 1 (some q) rfl rfl rfl dJ35_getMagnitudeArray_48 rfl ?_
    refine sw_iconst (n := 50) F (0) (by decide) dJ35_getMagnitudeArray_49 rfl ?_
    refine sw_put (n := 53) F 2 rfl (k := 2) ⟨(RJ35, TJ35, 3), rfl, by decide, q1838, in_J35, Or.inl rfl⟩ .int ⟨(RJ35, TJ35, 3), rfl, rfl, tyJ35_ok 2 (by decide), nmJ35, tyJ35, tyJ35_ok⟩ rfl rfl (Nat.le_of_ble_eq_true rfl) rfl [aN (xg x) 0 a N f1_4, aN (xg x) 0 r1_1 (((o) + (n)) - o) f1_2, ob (xg x) q 19 [.ref a, .int (jI (↑n)), .int (jI 0)]] rfl dJ35_getMagnitudeArray_50 rfl ?_
    refine sw_aload_n (n := 54) F 1 (some q) rfl rfl rfl dJ35_getMagnitudeArray_53 rfl ?_
    refine sw_aload_n (n := 55) F 0 (some r1_1) rfl rfl rfl dJ35_getMagnitudeArray_54 rfl ?_
    refine sw_alen (n := 56) F 1 rfl (fun _ => rfl) dJ35_getMagnitudeArray_55 rfl ?_
    refine sw_top (topI (show (↑(((o) + (n)) - o) : Int) = ↑n by omega)) ?_
    refine sw_put (n := 59) F 2 rfl (k := 1) ⟨(RJ35, TJ35, 3), rfl, by decide, q1837, in_J35, Or.inl rfl⟩ .int ⟨(RJ35, TJ35, 3), rfl, rfl, tyJ35_ok 1 (by decide), nmJ35, tyJ35, tyJ35_ok⟩ rfl rfl (Nat.le_of_ble_eq_true rfl) rfl [aN (xg x) 0 a N f1_4, aN (xg x) 0 r1_1 (((o) + (n)) - o) f1_2, ob (xg x) q 19 [.ref a, .int (jI (↑n)), .int (jI 0)]] rfl dJ35_getMagnitudeArray_56 rfl ?_
    refine sw_aload_n (n := 60) F 1 (some q) rfl rfl rfl dJ35_getMagnitudeArray_59 rfl ?_
    refine sw_aload_n (n := 61) F 0 (some r1_1) rfl rfl rfl dJ35_getMagnitudeArray_60 rfl ?_
    refine sw_put (n := 64) F 2 rfl (k := 0) ⟨(RJ35, TJ35, 3), rfl, by decide, q1836, in_J35, Or.inl rfl⟩ (tyJ35 0) ⟨(RJ35, TJ35, 3), rfl, rfl, tyJ35_ok 0 (by decide), nmJ35, tyJ35, tyJ35_ok⟩ rfl rfl (Nat.le_of_ble_eq_true rfl) rfl [aN (xg x) 0 a N f1_4, aN (xg x) 0 r1_1 (((o) + (n)) - o) f1_2, ob (xg x) q 19 [.ref r1_1, .int (jI (↑n)), .int (jI 0)]] rfl dJ35_getMagnitudeArray_61 rfl ?_
    have hg1 : ∀ j, j < n → f1_2 j = f (o + j) := fun j hj => hf1_3 j (by omega)
    rw [show o + n - o = n by omega]
    have hE1 : ∀ k, k < n → f1_2 k < 4294967296 := fun k hk => by rw [hg1 k hk]; exact hf _ (by omega)
    have hE2 : wv f1_2 n = mw f o n := wv_cong hg1
    have hE3 : f1_2 0 = f o := hg1 0 (by omega)
    refine sw_drop [2, 1, 0] 2 rfl [ob (xg x) q 19 [.ref r1_1, .int (jI (↑n)), .int (jI 0)], aN (xg x) 0 r1_1 n f1_2] rfl ?_
    refine sw_loc [1] (L2 := [(0, .ref q)]) rfl ?_
    exact K64 r1_1 f1_2 (by exact hE1) (by first | exact hE2 | exact hv1) (by first | exact hE3 | exact h01)
  ·
    refine sw_aload_n (n := 8) F 0 (some q) rfl rfl rfl dJ35_getMagnitudeArray_7 rfl ?_
    refine sw_get (n := 11) F 0 rfl (k := 0) ⟨(RJ35, TJ35, 3), rfl, by decide, q1836, in_J35, Or.inl rfl⟩ rfl dJ35_getMagnitudeArray_8 rfl ?_
    refine sw_alen (n := 12) F 1 rfl (fun _ => rfl) dJ35_getMagnitudeArray_11 rfl ?_
    refine sw_aload_n (n := 13) F 0 (some q) rfl rfl rfl dJ35_getMagnitudeArray_12 rfl ?_
    refine sw_get (n := 16) F 0 rfl (k := 1) ⟨(RJ35, TJ35, 3), rfl, by decide, q1837, in_J35, Or.inl rfl⟩ rfl dJ35_getMagnitudeArray_13 rfl ?_
    refine sw_icmp_eq (n := 19) F (by omega) (by omega) (tgt := 64) dJ35_getMagnitudeArray_16 (by decide) rfl (fun c_16 => ?_) (fun c_16 => ?_)
    ·
      have hNn : n = N := by omega
      have ho0 : o = 0 := by omega
      subst ho0
      subst hNn
      have hE1 := hf
      have hE2 : wv f n = mw f 0 n := (mw_0 f n).symm
      have hE3 : f 0 = f 0 := rfl
      refine sw_room (bc2 := 0) (bs2 := 0) ⟨by omega, by omega⟩ ?_
      exact K64 a f (by exact hE1) (by first | exact hE2 | exact hv1) (by first | exact hE3 | exact h01)
    ·
      refine sw_aload_n (n := 20) F 0 (some q) rfl rfl rfl dJ35_getMagnitudeArray_19 rfl ?_
      refine sw_get (n := 23) F 0 rfl (k := 0) ⟨(RJ35, TJ35, 3), rfl, by decide, q1836, in_J35, Or.inl rfl⟩ rfl dJ35_getMagnitudeArray_20 rfl ?_
      refine sw_aload_n (n := 24) F 0 (some q) rfl rfl rfl dJ35_getMagnitudeArray_23 rfl ?_
      refine sw_get (n := 27) F 0 rfl (k := 2) ⟨(RJ35, TJ35, 3), rfl, by decide, q1838, in_J35, Or.inl rfl⟩ rfl dJ35_getMagnitudeArray_24 rfl ?_
      refine sw_aload_n (n := 28) F 0 (some q) rfl rfl rfl dJ35_getMagnitudeArray_27 rfl ?_
      refine sw_get (n := 31) F 0 rfl (k := 2) ⟨(RJ35, TJ35, 3), rfl, by decide, q1838, in_J35, Or.inl rfl⟩ rfl dJ35_getMagnitudeArray_28 rfl ?_
      refine sw_aload_n (n := 32) F 0 (some q) rfl rfl rfl dJ35_getMagnitudeArray_31 rfl ?_
      refine sw_get (n := 35) F 0 rfl (k := 1) ⟨(RJ35, TJ35, 3), rfl, by decide, q1837, in_J35, Or.inl rfl⟩ rfl dJ35_getMagnitudeArray_32 rfl ?_
      refine sw_iadd (n := 36) F dJ35_getMagnitudeArray_35 rfl ?_
      rw [show ((↑o) + (↑n) : Int) = ↑((o) + (n)) by omega]
      refine sw_callS (n := 39) F (ct_J23_copyOfRange_2 (g := xg x) (l := xl x) a N f o ((o) + (n)) (by omega)) q1950 q1152 q131 q1153 nd_J23_copyOfRange_2 rfl (by decide) [1, 0] rfl [ob (xg x) q 19 [.ref a, .int (jI (↑n)), .int (jI (↑o))]] rfl 0 0 ⟨by omega, by omega⟩ [] rfl (Nat.le_of_ble_eq_true rfl) dJ35_getMagnitudeArray_36 rfl (fun _ _ h => h.elim) (fun v Ws h => ?_)
      obtain ⟨r1_6, f1_7, rfl, hf1_8, rfl⟩ := h
      show SW x [aN (xg x) 0 r1_6 (((o) + (n)) - o) f1_7, aN (xg x) 0 a N f, ob (xg x) q 19 [.ref a, .int (jI (↑n)), .int (jI (↑o))]] _ _ _ _ [.ref r1_6]
      refine sw_astore_n (n := 40) F (some r1_6) (L2 := [(1, .ref r1_6), (0, .ref q)]) rfl rfl (by decide) rfl dJ35_getMagnitudeArray_39 rfl ?_
      refine sw_aload_n (n := 41) F 1 (some q) rfl rfl rfl dJ35_getMagnitudeArray_40 rfl ?_
      refine sw_get (n := 44) F 2 rfl (k := 0) ⟨(RJ35, TJ35, 3), rfl, by decide, q1836, in_J35, Or.inl rfl⟩ rfl dJ35_getMagnitudeArray_41 rfl ?_
      refine sw_iconst (n := 45) F (0) (by decide) dJ35_getMagnitudeArray_44 rfl ?_
      refine sw_callS (n := 48) F (ct_J23_fill_2 (g := xg x) (l := xl x) a N f (by first | omega | assumption)) q1951 q1952 q131 q1953 nd_J23_fill_2 rfl (by decide) [1, 0, 2] rfl [aN (xg x) 0 r1_6 (((o) + (n)) - o) f1_7, ob (xg x) q 19 [.ref a, .int (jI (↑n)), .int (jI (↑o))]] rfl 0 0 ⟨by omega, by omega⟩ [] rfl (Nat.le_of_ble_eq_true rfl) dJ35_getMagnitudeArray_45 rfl (fun _ _ h => h.elim) (fun v Ws h => ?_)
      obtain ⟨f1_9, rfl, hf1_10, rfl⟩ := h
      show SW x [aN (xg x) 0 a N f1_9, aN (xg x) 0 r1_6 (((o) + (n)) - o) f1_7, ob (xg x) q 19 [.ref a, .int (jI (↑n)), .int (jI (↑o))]] _ _ _ _ []
      refine sw_aload_n (n := 49) F 1 (some q) rfl rfl rfl dJ35_getMagnitudeArray_48 rfl ?_
      refine sw_iconst (n := 50) F (0) (by decide) dJ35_getMagnitudeArray_49 rfl ?_
      refine sw_put (n := 53) F 2 rfl (k := 2) ⟨(RJ35, TJ35, 3), rfl, by decide, q1838, in_J35, Or.inl rfl⟩ .int ⟨(RJ35, TJ35, 3), rfl, rfl, tyJ35_ok 2 (by decide), nmJ35, tyJ35, tyJ35_ok⟩ rfl rfl (Nat.le_of_ble_eq_true rfl) rfl [aN (xg x) 0 a N f1_9, aN (xg x) 0 r1_6 (((o) + (n)) - o) f1_7, ob (xg x) q 19 [.ref a, .int (jI (↑n)), .int (jI 0)]] rfl dJ35_getMagnitudeArray_50 rfl ?_
      refine sw_aload_n (n := 54) F 1 (some q) rfl rfl rfl dJ35_getMagnitudeArray_53 rfl ?_
      refine sw_aload_n (n := 55) F 0 (some r1_6) rfl rfl rfl dJ35_getMagnitudeArray_54 rfl ?_
      refine sw_alen (n := 56) F 1 rfl (fun _ => rfl) dJ35_getMagnitudeArray_55 rfl ?_
      refine sw_top (topI (show (↑(((o) + (n)) - o) : Int) = ↑n by omega)) ?_
      refine sw_put (n := 59) F 2 rfl (k := 1) ⟨(RJ35, TJ35, 3), rfl, by decide, q1837, in_J35, Or.inl rfl⟩ .int ⟨(RJ35, TJ35, 3), rfl, rfl, tyJ35_ok 1 (by decide), nmJ35, tyJ35, tyJ35_ok⟩ rfl rfl (Nat.le_of_ble_eq_true rfl) rfl [aN (xg x) 0 a N f1_9, aN (xg x) 0 r1_6 (((o) + (n)) - o) f1_7, ob (xg x) q 19 [.ref a, .int (jI (↑n)), .int (jI 0)]] rfl dJ35_getMagnitudeArray_56 rfl ?_
      refine sw_aload_n (n := 60) F 1 (some q) rfl rfl rfl dJ35_getMagnitudeArray_59 rfl ?_
      refine sw_aload_n (n := 61) F 0 (some r1_6) rfl rfl rfl dJ35_getMagnitudeArray_60 rfl ?_
      refine sw_put (n := 64) F 2 rfl (k := 0) ⟨(RJ35, TJ35, 3), rfl, by decide, q1836, in_J35, Or.inl rfl⟩ (tyJ35 0) ⟨(RJ35, TJ35, 3), rfl, rfl, tyJ35_ok 0 (by decide), nmJ35, tyJ35, tyJ35_ok⟩ rfl rfl (Nat.le_of_ble_eq_true rfl) rfl [aN (xg x) 0 a N f1_9, aN (xg x) 0 r1_6 (((o) + (n)) - o) f1_7, ob (xg x) q 19 [.ref r1_6, .int (jI (↑n)), .int (jI 0)]] rfl dJ35_getMagnitudeArray_61 rfl ?_
      have hg1 : ∀ j, j < n → f1_7 j = f (o + j) := fun j hj => hf1_8 j (by omega)
      rw [show o + n - o = n by omega]
      have hE1 : ∀ k, k < n → f1_7 k < 4294967296 := fun k hk => by rw [hg1 k hk]; exact hf _ (by omega)
      have hE2 : wv f1_7 n = mw f o n := wv_cong hg1
      have hE3 : f1_7 0 = f o := hg1 0 (by omega)
      refine sw_drop [2, 1, 0] 2 rfl [ob (xg x) q 19 [.ref r1_6, .int (jI (↑n)), .int (jI 0)], aN (xg x) 0 r1_6 n f1_7] rfl ?_
      refine sw_loc [1] (L2 := [(0, .ref q)]) rfl ?_
      exact K64 r1_6 f1_7 (by exact hE1) (by first | exact hE2 | exact hv1) (by first | exact hE3 | exact h01)
set_option maxRecDepth 100000 in
set_option maxHeartbeats 16000000 in
theorem ct_J19_init_2_o {g : GG} {l : Launch} (q : Nat) (a : Nat) (n : Nat) (f : Nat → Nat) (sg : Int) (hn : 0 < n ∧ n ≤ 64) : Ct g l yJ19_init_2 (ws_ yJ19_init_2 cJ19_init_2 3 (Option.none : Option Jvm.ClassFile.FieldType)) 2 32 0 0 [.ref q, .ref a, .int (jI sg)] [ob g q 16 [.int (jI 0), .null, .int (jI 0), .int (jI 0), .int (jI 0), .int (jI 0)], aN g 0 a n f] (fun v9 Ws9 => v9 = none ∧ Ws9 = [ob g q 16 [.int (jI sg), .ref a, .int (jI 0), .int (jI 0), .int (jI 0), .int (jI 0)], aN g 0 a n f]) (nox) := by
  refine Ct.of (cc := cJ19_init_2) (nL := 3) (ret := (Option.none : Option Jvm.ClassFile.FieldType)) (by decide) rfl (Nat.le_of_ble_eq_true rfl) ?_
  intro x hg hl hPo hPx hmc hms F
  subst hg; subst hl
  refine SW.cast (L' := [(0, .ref q), (1, .ref a), (2, .int (jI sg))]) ?_ rfl rfl rfl
  refine sw_aload_n (n := 1) F 0 (some q) rfl rfl rfl dJ19_init_2_0 rfl ?_
  refine sw_callI (n := 4) F (ct_J7_init (g := xg x) (l := xl x) q ) q1069 q257 q111 q258 rfl nd_J7_init rfl (by decide) [0, 1] rfl [ob (xg x) q 16 [.int (jI 0), .null, .int (jI 0), .int (jI 0), .int (jI 0), .int (jI 0)], aN (xg x) 0 a n f] rfl 0 0 ⟨by omega, by omega⟩ [] rfl (Nat.le_of_ble_eq_true rfl) dJ19_init_2_1 rfl (fun _ _ h => h.elim) (fun v Ws h => ?_)
  obtain ⟨rfl, rfl⟩ := h
  show SW x [ob (xg x) q 16 [.int (jI 0), .null, .int (jI 0), .int (jI 0), .int (jI 0), .int (jI 0)], aN (xg x) 0 a n f] _ _ _ _ []
  refine sw_aload_n (n := 5) F 0 (some q) rfl rfl rfl dJ19_init_2_4 rfl ?_
  refine sw_aload_n (n := 6) F 1 (some a) rfl rfl rfl dJ19_init_2_5 rfl ?_
  refine sw_alen (n := 7) F 1 rfl (fun _ => rfl) dJ19_init_2_6 rfl ?_
  refine sw_if_ne (n := 10) F (by omega) (tgt := 14) dJ19_init_2_7 (by decide) rfl (fun c_7 => ?_) (fun c_7 => ?_)
  ·
    refine sw_iload_n (n := 15) F 2 rfl rfl dJ19_init_2_14 rfl ?_
    refine sw_putF (n := 18) F rfl 0 rfl (k := 0) ⟨(RJ19, TJ19, 6), rfl, by decide, q1070, in_J19, Or.inl rfl⟩ .int ⟨(RJ19, TJ19, 6), rfl, rfl, rfl, tyJ19_ok 0 (by decide), nmJ19, tyJ19, tyJ19_ok⟩ rfl rfl (Nat.le_of_ble_eq_true rfl) rfl [ob (xg x) q 16 [.int (jI sg), .null, .int (jI 0), .int (jI 0), .int (jI 0), .int (jI 0)], aN (xg x) 0 a n f] rfl dJ19_init_2_15 rfl ?_
    refine sw_aload_n (n := 19) F 0 (some q) rfl rfl rfl dJ19_init_2_18 rfl ?_
    refine sw_aload_n (n := 20) F 1 (some a) rfl rfl rfl dJ19_init_2_19 rfl ?_
    refine sw_putF (n := 23) F rfl 0 rfl (k := 1) ⟨(RJ19, TJ19, 6), rfl, by decide, q1072, in_J19, Or.inl rfl⟩ (tyJ19 1) ⟨(RJ19, TJ19, 6), rfl, rfl, rfl, tyJ19_ok 1 (by decide), nmJ19, tyJ19, tyJ19_ok⟩ rfl rfl (Nat.le_of_ble_eq_true rfl) rfl [ob (xg x) q 16 [.int (jI sg), .ref a, .int (jI 0), .int (jI 0), .int (jI 0), .int (jI 0)], aN (xg x) 0 a n f] rfl dJ19_init_2_20 rfl ?_
    refine sw_aload_n (n := 24) F 0 (some q) rfl rfl rfl dJ19_init_2_23 rfl ?_
    refine sw_get (n := 27) F 0 rfl (k := 1) ⟨(RJ19, TJ19, 6), rfl, by decide, q1072, in_J19, Or.inl rfl⟩ rfl dJ19_init_2_24 rfl ?_
    refine sw_alen (n := 28) F 1 rfl (fun _ => rfl) dJ19_init_2_27 rfl ?_
    refine sw_ldc (n := 30) F (67108864) q1111 (by decide) dJ19_init_2_28 rfl ?_
    refine sw_icmp_lt (n := 33) F (by omega) (by decide) (tgt := 37) dJ19_init_2_30 (by decide) rfl (fun c_30 => ?_) (fun c_30 => ?_)
    ·
      exact sw_vret F rfl dJ19_init_2_37 (by rw [hPo]; exact ⟨rfl, rfl⟩)
    · exfalso; omega
  · exfalso; omega
theorem jL_or_c {a b : Int} (k : Nat) (hk : k ≤ 64) (ha : a % ((2 ^ k : Nat) : Int) = 0) (hb : 0 ≤ b ∧ b < ((2 ^ k : Nat) : Int)) : jL b ||| jL a = jL (a + b) := by rw [Int64.or_comm]; exact jL_or k hk ha hb
theorem wI_c {v : Nat} (h : v < 4294967296) : (v < 2147483648 → wI (v : Int) = v) ∧ (2147483648 ≤ v → wI (v : Int) = v - 4294967296) := by unfold wI; omega
theorem wI_nn {v : Nat} (h : v < 4294967296) (h0 : 0 ≤ wI (v : Int)) : v < 2147483648 := by have := wI_c h; omega
theorem wI_neg {v : Nat} (h : v < 4294967296) (h0 : wI (v : Int) < 0) : 2147483648 ≤ v := by have := wI_c h; omega
theorem sgn_abs {sg : Int} {m : Nat} (hs : sg = 1 ∨ sg = -1) : (sg * (m : Int)).natAbs = m ∧ (sg = 1 → sg * (m : Int) = m) ∧ (sg = -1 → sg * (m : Int) = -m) := by
  rcases hs with e | e <;> subst e <;> omega
theorem wv_b3 {f : Nat → Nat} {n : Nat} (h : wOK n f) (hn : 3 ≤ n) : 18446744073709551616 ≤ wv f n := by
  have h1 := wOK_ge h (by omega)
  have h2 := bw_mono (show 2 ≤ n - 1 by omega)
  rw [bw_2] at h2; omega
theorem nfit_big {u : Int} (h : 9223372036854775808 ≤ u.natAbs) : ¬ fit u := fun k => by unfold fit at k; omega
theorem sgI_sg {sg : Int} {m : Nat} (hs : sg = 1 ∨ sg = -1) (hm : m ≠ 0) : sgI (sg * (m : Int)) = sg := by
  have h := (sgn_abs (m := m) hs)
  have h2 := sgI_cases (sg * (m : Int))
  rcases hs with e | e
  · have := h.2.1 e; omega
  · have := h.2.2 e; omega
theorem nd_J35_toBigDecimal : yJ35_toBigDecimal.cls ≠ "java/lang/invoke/MethodHandle" ∧ yJ35_toBigDecimal.cls ≠ "java/lang/invoke/VarHandle" ∧ (parseMethodDescriptor yJ35_toBigDecimal.desc).map (fun d => d.parameters.length) = some 2 := by decide +kernel
set_option maxRecDepth 100000 in
set_option maxHeartbeats 16000000 in
theorem ct_J35_toBigDecimal {g : GG} {l : Launch} (M : Nat → Option PV) (q : Nat) (a : Nat) (N : Nat) (f : Nat → Nat) (n : Nat) (o : Nat) (sg : Int) (s : Int) (hN : o + n ≤ N ∧ N ≤ 64) (hf : ∀ k, k < N → f k < 4294967296) (hn : n ≤ 8 ∧ N ≤ 8) (hw : wOK n (fun j => f (o + j))) (hsg : sg = 1 ∨ sg = -1) (hs : -2147483648 ≤ s ∧ s ≤ 2147483647) : Ct g l yJ35_toBigDecimal (ws_ yJ35_toBigDecimal cJ35_toBigDecimal 8 (Option.some (Jvm.ClassFile.FieldType.object "java/math/BigDecimal"))) 5 100 3 19 [.ref q, .int (jI sg), .int (jI s)] [ob g q 19 [.ref a, .int (jI (↑n)), .int (jI (↑o))], aN g 0 a N f, pl g M] (fun v9 Ws9 => ∃ M1 : Nat → Option PV, ∃ r1 : Nat, ∃ o1 : Option Nat, v9 = some (.ref r1) ∧ (le_ M M1) ∧ (at_ g M1 r1 (vD (sg * ↑(mw f o n)) s o1)) ∧ Ws9 = [pl g M1]) (nox) := by
  refine Ct.of (cc := cJ35_toBigDecimal) (nL := 8) (ret := (Option.some (Jvm.ClassFile.FieldType.object "java/math/BigDecimal"))) (by decide) rfl (Nat.le_of_ble_eq_true rfl) ?_
  intro x hg hl hPo hPx hmc hms F
  subst hg; subst hl
  refine SW.cast (L' := [(0, .ref q), (1, .int (jI sg)), (2, .int (jI s))]) ?_ rfl rfl rfl
  refine sw_aload_n (n := 1) F 0 (some q) rfl rfl rfl dJ35_toBigDecimal_0 rfl ?_
  refine sw_get (n := 4) F 0 rfl (k := 1) ⟨(RJ35, TJ35, 3), rfl, by decide, q1837, in_J35, Or.inl rfl⟩ rfl dJ35_toBigDecimal_1 rfl ?_
  refine sw_if_eq (n := 7) F (by omega) (tgt := 11) dJ35_toBigDecimal_4 (by decide) rfl (fun c_4 => ?_) (fun c_4 => ?_)
  ·
    refine sw_iload_n (n := 12) F 2 rfl rfl dJ35_toBigDecimal_11 rfl ?_
    refine sw_callS (n := 15) F (ct_J8_zeroValueOf (g := xg x) (l := xl x) M s hs) q2672 q1048 q112 q1049 nd_J8_zeroValueOf rfl (by decide) [2, 0, 1] rfl [ob (xg x) q 19 [.ref a, .int (jI (↑n)), .int (jI (↑o))], aN (xg x) 0 a N f] rfl 2 14 ⟨by omega, by omega⟩ [] rfl (Nat.le_of_ble_eq_true rfl) dJ35_toBigDecimal_12 rfl (fun _ _ h => h.elim) (fun v Ws h => ?_)
    obtain ⟨M1_1, r1_2, o1_3, rfl, hle_4, hat_5, rfl⟩ := h
    show SW x [pl (xg x) M1_1, ob (xg x) q 19 [.ref a, .int (jI (↑n)), .int (jI (↑o))], aN (xg x) 0 a N f] _ _ _ _ [.ref r1_2]
    refine sw_drop [0, 1, 2] 1 rfl [pl (xg x) M1_1] rfl ?_
    exact sw_aret F (some r1_2) _ rfl rfl (by first | exact Or.inl ⟨_, rfl⟩ | exact Or.inr ⟨_, rfl⟩) dJ35_toBigDecimal_15 (by rw [hPo]; exact ⟨M1_1, r1_2, o1_3, rfl, hle_4, (by rw [show (sg * ↑(mw f o n) : Int) = 0 by rw [show n = 0 by omega]; exact Int.mul_zero _]; assumption), rfl⟩)
  ·
    refine sw_iload_n (n := 8) F 1 rfl rfl dJ35_toBigDecimal_7 rfl ?_
    refine sw_if_ne (n := 11) F (by omega) (tgt := 16) dJ35_toBigDecimal_8 (by decide) rfl (fun c_8 => ?_) (fun c_8 => ?_)
    ·
      refine sw_aload_n (n := 17) F 0 (some q) rfl rfl rfl dJ35_toBigDecimal_16 rfl ?_
      refine sw_callV (n := 20) F (ct_J35_getMagnitudeArray (g := xg x) (l := xl x) q a N f n o hN hf (by first | omega | assumption)) (rcv_ob F 0 rfl rfl) q1946 q1948 qs24 q144 q1949 nd_J35_getMagnitudeArray rfl (by decide) [0, 1, 2] rfl [pl (xg x) M] rfl 2 11 ⟨by omega, by omega⟩ [] rfl (Nat.le_of_ble_eq_true rfl) dJ35_toBigDecimal_17 rfl (fun _ _ h => h.elim) (fun v Ws h => ?_)
      obtain ⟨a1_6, f1_7, rfl, hf1_8, hv1_9, h01_10, rfl⟩ := h
      show SW x [ob (xg x) q 19 [.ref a1_6, .int (jI (↑n)), .int (jI 0)], aN (xg x) 0 a1_6 n f1_7, pl (xg x) M] _ _ _ _ [.ref a1_6]
      refine sw_astore_n (n := 21) F (some a1_6) (L2 := [(3, .ref a1_6), (0, .ref q), (1, .int (jI sg)), (2, .int (jI s))]) rfl rfl (by decide) rfl dJ35_toBigDecimal_20 rfl ?_
      have hf0 : f o ≠ 0 := hw.2 (by omega)
      have hwE : wOK n f1_7 := wOK_nz hf1_8 (by rw [h01_10]; exact hf0)
      have hb0 : f1_7 0 < 4294967296 := hf1_8 0 (by omega)
      have hsa := sgn_abs (m := mw f o n) hsg
      have hmp : mw f o n ≠ 0 := by have h9 := wOK_ge hwE (by omega); have h8 := bw_pos (n - 1); rw [hv1_9] at h9; omega
      have hvE : wv f1_7 n = (sg * ↑(mw f o n)).natAbs := by rw [hsa.1, hv1_9]
      refine sw_aload_n (n := 22) F 0 (some a1_6) rfl rfl rfl dJ35_toBigDecimal_21 rfl ?_
      refine sw_alen (n := 23) F 1 rfl (fun _ => rfl) dJ35_toBigDecimal_22 rfl ?_
      refine sw_istore (n := 25) F (L2 := [(4, .int (jI (↑n))), (3, .ref a1_6), (0, .ref q), (1, .int (jI sg)), (2, .int (jI s))]) rfl (by decide) dJ35_toBigDecimal_23 rfl ?_
      refine sw_aload_n (n := 26) F 1 (some a1_6) rfl rfl rfl dJ35_toBigDecimal_25 rfl ?_
      refine sw_iconst (n := 27) F (0) (by decide) dJ35_toBigDecimal_26 rfl ?_
      refine sw_ialoadN (n := 28) F 1 rfl (fun _ => rfl) 0 rfl (by omega) dJ35_toBigDecimal_27 rfl ?_
      refine sw_istore (n := 30) F (L2 := [(5, .int (jI (↑(f1_7 0)))), (4, .int (jI (↑n))), (3, .ref a1_6), (0, .ref q), (1, .int (jI sg)), (2, .int (jI s))]) rfl (by decide) dJ35_toBigDecimal_28 rfl ?_
      refine sw_iload (n := 32) F 1 rfl dJ35_toBigDecimal_30 rfl ?_
      refine sw_iconst (n := 33) F (2) (by decide) dJ35_toBigDecimal_32 rfl ?_
      refine sw_icmp_gt (n := 36) F (by omega) (by decide) (tgt := 47) dJ35_toBigDecimal_33 (by decide) rfl (fun c_33 => ?_) (fun c_33 => ?_)
      ·
        have hbig : 9223372036854775808 ≤ wv f1_7 n := by rcases Nat.lt_or_ge n 3 with c9 | c9; (exfalso; omega); (have := wv_b3 hwE c9; omega)
        have hnf : ¬ fit (sg * ↑(mw f o n)) := nfit_big (by rw [← hvE]; exact hbig)
        refine sw_new (n := 50) F (ci := 13) (N := 5) RJ8 TJ8 tyJ8 rfl q2673 q252 q112 in_J8 tyJ8_ok (fs := [.null, .int (jI 0), .int (jI 0), .null, .long (jL 0)]) rfl 1 6 ⟨by omega, by omega⟩ dJ35_toBigDecimal_47 rfl (fun q_11 => ?_)
        refine sw_dup (n := 51) F rfl dJ35_toBigDecimal_50 rfl ?_
        refine sw_new (n := 54) F (ci := 16) (N := 6) RJ19 TJ19 tyJ19 rfl q1945 q1065 q127 in_J19 tyJ19_ok (fs := [.int (jI 0), .null, .int (jI 0), .int (jI 0), .int (jI 0), .int (jI 0)]) rfl 0 0 ⟨by omega, by omega⟩ dJ35_toBigDecimal_51 rfl (fun q_12 => ?_)
        refine sw_dup (n := 55) F rfl dJ35_toBigDecimal_54 rfl ?_
        refine sw_aload_n (n := 56) F 2 (some a1_6) rfl rfl rfl dJ35_toBigDecimal_55 rfl ?_
        refine sw_iload_n (n := 57) F 4 rfl rfl dJ35_toBigDecimal_56 rfl ?_
        refine sw_callI (n := 60) F (ct_J19_init_2_o (g := xg x) (l := xl x) q_12 a1_6 n f1_7 sg (by first | omega | assumption)) q1954 q1109 q127 q1110 rfl nd_J19_init_2 rfl (by decide) [0, 3, 1, 2, 4] (perm_ok _ 5 (by decide +kernel) rfl) [ob (xg x) q_11 13 [.null, .int (jI 0), .int (jI 0), .null, .long (jL 0)], ob (xg x) q 19 [.ref a1_6, .int (jI (↑n)), .int (jI 0)], pl (xg x) M] rfl 0 0 ⟨by omega, by omega⟩ [.ref q_12, .ref q_11, .ref q_11] rfl (Nat.le_of_ble_eq_true rfl) dJ35_toBigDecimal_57 rfl (fun _ _ h => h.elim) (fun v Ws h => ?_)
        obtain ⟨rfl, rfl⟩ := h
        show SW x [ob (xg x) q_12 16 [.int (jI sg), .ref a1_6, .int (jI 0), .int (jI 0), .int (jI 0), .int (jI 0)], aN (xg x) 0 a1_6 n f1_7, ob (xg x) q_11 13 [.null, .int (jI 0), .int (jI 0), .null, .long (jL 0)], ob (xg x) q 19 [.ref a1_6, .int (jI (↑n)), .int (jI 0)], pl (xg x) M] _ _ _ _ [.ref q_12, .ref q_11, .ref q_11]
        refine sw_perm [1, 4, 0, 2, 3] (perm_ok _ 5 (by decide +kernel) rfl) [aN (xg x) 0 a1_6 n f1_7, pl (xg x) M, ob (xg x) q_12 16 [.int (jI sg), .ref a1_6, .int (jI 0), .int (jI 0), .int (jI 0), .int (jI 0)], ob (xg x) q_11 13 [.null, .int (jI 0), .int (jI 0), .null, .long (jL 0)], ob (xg x) q 19 [.ref a1_6, .int (jI (↑n)), .int (jI 0)]] rfl ?_
        refine sw_absA F (fun M_13 hle_14 hat_15 => ?_)
        show SW x [pl (xg x) M_13, ob (xg x) q_12 16 [.int (jI sg), .ref a1_6, .int (jI 0), .int (jI 0), .int (jI 0), .int (jI 0)], ob (xg x) q_11 13 [.null, .int (jI 0), .int (jI 0), .null, .long (jL 0)], ob (xg x) q 19 [.ref a1_6, .int (jI (↑n)), .int (jI 0)]] _ _ _ _ [.ref q_12, .ref q_11, .ref q_11]
        refine sw_perm [1, 0, 2, 3] (perm_ok _ 4 (by decide +kernel) rfl) [ob (xg x) q_12 16 [.int (jI sg), .ref a1_6, .int (jI 0), .int (jI 0), .int (jI 0), .int (jI 0)], pl (xg x) M_13, ob (xg x) q_11 13 [.null, .int (jI 0), .int (jI 0), .null, .long (jL 0)], ob (xg x) q 19 [.ref a1_6, .int (jI (↑n)), .int (jI 0)]] rfl ?_
        refine SW.cast (Ps' := ob (xg x) q_12 16 (flI (sg * ↑(mw f o n)) a1_6 0 0 0 0) :: [pl (xg x) M_13, ob (xg x) q_11 13 [.null, .int (jI 0), .int (jI 0), .null, .long (jL 0)], ob (xg x) q 19 [.ref a1_6, .int (jI (↑n)), .int (jI 0)]]) ?_ (by unfold flI; rw [sgI_sg hsg hmp]) rfl rfl
        refine sw_absI F (Or.inr rfl) hat_15 hwE hvE (fun M_16 hle_17 hat_18 => ?_)
        show SW x [pl (xg x) M_16, ob (xg x) q_11 13 [.null, .int (jI 0), .int (jI 0), .null, .long (jL 0)], ob (xg x) q 19 [.ref a1_6, .int (jI (↑n)), .int (jI 0)]] _ _ _ _ [.ref q_12, .ref q_11, .ref q_11]
        refine sw_ldc2 (n := 63) F (-9223372036854775808) q1904 (by decide) dJ35_toBigDecimal_60 rfl ?_
        refine sw_iload_n (n := 64) F 5 rfl rfl dJ35_toBigDecimal_63 rfl ?_
        refine sw_iconst (n := 65) F (0) (by decide) dJ35_toBigDecimal_64 rfl ?_
        refine sw_callI (n := 68) F (ct_J8_init (g := xg x) (l := xl x) q_11 (some q_12) (-9223372036854775808) s 0 ) q2674 q254 q112 q255 rfl nd_J8_init rfl (by decide) [1, 0, 2] rfl [pl (xg x) M_16, ob (xg x) q 19 [.ref a1_6, .int (jI (↑n)), .int (jI 0)]] rfl 0 0 ⟨by omega, by omega⟩ [.ref q_11] rfl (Nat.le_of_ble_eq_true rfl) dJ35_toBigDecimal_65 rfl (fun _ _ h => h.elim) (fun v Ws h => ?_)
        obtain ⟨rfl, rfl⟩ := h
        show SW x [ob (xg x) q_11 13 [va_rf (some q_12), .int (jI s), .int (jI 0), .null, .long (jL (-9223372036854775808))], pl (xg x) M_16, ob (xg x) q 19 [.ref a1_6, .int (jI (↑n)), .int (jI 0)]] _ _ _ _ [.ref q_11]
        refine SW.cast (Ps' := ob (xg x) q_11 13 (flD (sg * ↑(mw f o n)) s (some q_12) 0) :: [pl (xg x) M_16, ob (xg x) q 19 [.ref a1_6, .int (jI (↑n)), .int (jI 0)]]) ?_ (by simp only [flD, cpt_0 hnf] <;> rfl) rfl rfl
        refine sw_absD F (Or.inr rfl) (fun h => by cases h) (fun b h => by cases h; exact ⟨_, hat_18⟩) (fun M_19 hle_20 hat_21 => ?_)
        show SW x [pl (xg x) M_19, ob (xg x) q 19 [.ref a1_6, .int (jI (↑n)), .int (jI 0)]] _ _ _ _ [.ref q_11]
        refine sw_drop [0, 1] 1 rfl [pl (xg x) M_19] rfl ?_
        exact sw_aret F (some q_11) _ rfl rfl (by first | exact Or.inl ⟨_, rfl⟩ | exact Or.inr ⟨_, rfl⟩) dJ35_toBigDecimal_68 (by rw [hPo]; exact ⟨M_19, q_11, some q_12, rfl, (le_.tr (le_.tr hle_14 hle_17) hle_20), hat_21, rfl⟩)
      ·
        refine sw_iload (n := 38) F 0 rfl dJ35_toBigDecimal_36 rfl ?_
        refine sw_top (topIm (show (↑(f1_7 0) : Int) % 4294967296 = (wI ↑(f1_7 0)) % 4294967296 by exact (wI_s _).2.2.symm)) ?_
        refine sw_if_ge (n := 41) F (by exact ⟨(wI_s _).1, (wI_s _).2.1⟩) (tgt := 69) dJ35_toBigDecimal_38 (by decide) rfl (fun c_38 => ?_) (fun c_38 => ?_)
        ·
          have hcase : (n = 1 ∧ mw f o n = f1_7 0) ∨ (n = 2 ∧ mw f o n = f1_7 0 * 4294967296 + f1_7 1 ∧ f1_7 0 < 2147483648 ∧ f1_7 1 < 4294967296) := by
            rcases (show n = 1 ∨ n = 2 by omega) with e | e
            · left; refine ⟨e, ?_⟩; rw [← hv1_9, e, wv_1]
            · right; refine ⟨e, ?_, by exact wI_nn hb0 c_38, hf1_8 1 (by omega)⟩; rw [← hv1_9, e, wv_2]
          refine sw_iload (n := 71) F 1 rfl dJ35_toBigDecimal_69 rfl ?_
          refine sw_iconst (n := 72) F (2) (by decide) dJ35_toBigDecimal_71 rfl ?_
          refine sw_icmp_ne (n := 75) F (by omega) (by decide) (tgt := 97) dJ35_toBigDecimal_72 (by decide) rfl (fun c_72 => ?_) (fun c_72 => ?_)
          ·
            refine sw_iload (n := 99) F 0 rfl dJ35_toBigDecimal_97 rfl ?_
            skip
            have hb_22 : f1_7 0 < 4294967296 := hwE.1 _ (by omega)
            refine sw_i2lr (n := 100) F dJ35_toBigDecimal_99 rfl ?_
            refine sw_ldc2 (n := 103) F (4294967295) q1865 (by decide) dJ35_toBigDecimal_100 rfl ?_
            refine sw_land (n := 104) F (jL (↑(f1_7 0))) (jI_wordE (by omega)) dJ35_toBigDecimal_103 rfl ?_
            refine sw_top (topL (show (↑(f1_7 0) : Int) = ↑(mw f o n) by omega)) ?_
            refine sw_lstore (n := 106) F (L2 := [(6, .long (jL (↑(mw f o n)))), (5, .int (jI (↑(f1_7 0)))), (4, .int (jI (↑n))), (3, .ref a1_6), (0, .ref q), (1, .int (jI sg)), (2, .int (jI s))]) rfl (by decide) dJ35_toBigDecimal_104 rfl ?_
            refine sw_iload_n (n := 107) F 5 rfl rfl dJ35_toBigDecimal_106 rfl ?_
            refine sw_iconst (n := 108) F (-1) (by decide) dJ35_toBigDecimal_107 rfl ?_
            refine sw_icmp_ne (n := 111) F (by omega) (by decide) (tgt := 117) dJ35_toBigDecimal_108 (by decide) rfl (fun c_108 => ?_) (fun c_108 => ?_)
            ·
              refine sw_lload (n := 119) F 0 rfl dJ35_toBigDecimal_117 rfl ?_
              refine sw_top (topL (show (↑(mw f o n) : Int) = sg * ↑(mw f o n) by omega)) ?_
              refine sw_iload_n (n := 120) F 6 rfl rfl dJ35_toBigDecimal_119 rfl ?_
              refine sw_callS (n := 123) F (ct_J8_valueOf_2 (g := xg x) (l := xl x) M (sg * ↑(mw f o n)) s (by first | omega | assumption) hs) q2675 q1044 q112 q1045 nd_J8_valueOf_2 rfl (by decide) [2, 0, 1] rfl [ob (xg x) q 19 [.ref a1_6, .int (jI (↑n)), .int (jI 0)], aN (xg x) 0 a1_6 n f1_7] rfl 1 6 ⟨by omega, by omega⟩ [] rfl (Nat.le_of_ble_eq_true rfl) dJ35_toBigDecimal_120 rfl (fun _ _ h => h.elim) (fun v Ws h => ?_)
              obtain ⟨M1_23, r1_24, o1_25, rfl, hle_26, hat_27, rfl⟩ := h
              show SW x [pl (xg x) M1_23, ob (xg x) q 19 [.ref a1_6, .int (jI (↑n)), .int (jI 0)], aN (xg x) 0 a1_6 n f1_7] _ _ _ _ [.ref r1_24]
              refine sw_drop [0, 1, 2] 1 rfl [pl (xg x) M1_23] rfl ?_
              exact sw_aret F (some r1_24) _ rfl rfl (by first | exact Or.inl ⟨_, rfl⟩ | exact Or.inr ⟨_, rfl⟩) dJ35_toBigDecimal_123 (by rw [hPo]; exact ⟨M1_23, r1_24, o1_25, rfl, hle_26, hat_27, rfl⟩)
            ·
              refine sw_lload (n := 113) F 0 rfl dJ35_toBigDecimal_111 rfl ?_
              refine sw_lneg (n := 114) F dJ35_toBigDecimal_113 rfl ?_
              refine sw_goto F (n := 119) dJ35_toBigDecimal_114 (by decide) ?_
              refine sw_top (topL (show (-(↑(mw f o n)) : Int) = sg * ↑(mw f o n) by omega)) ?_
              refine sw_iload_n (n := 120) F 6 rfl rfl dJ35_toBigDecimal_119 rfl ?_
              refine sw_callS (n := 123) F (ct_J8_valueOf_2 (g := xg x) (l := xl x) M (sg * ↑(mw f o n)) s (by first | omega | assumption) hs) q2675 q1044 q112 q1045 nd_J8_valueOf_2 rfl (by decide) [2, 0, 1] rfl [ob (xg x) q 19 [.ref a1_6, .int (jI (↑n)), .int (jI 0)], aN (xg x) 0 a1_6 n f1_7] rfl 1 6 ⟨by omega, by omega⟩ [] rfl (Nat.le_of_ble_eq_true rfl) dJ35_toBigDecimal_120 rfl (fun _ _ h => h.elim) (fun v Ws h => ?_)
              obtain ⟨M1_28, r1_29, o1_30, rfl, hle_31, hat_32, rfl⟩ := h
              show SW x [pl (xg x) M1_28, ob (xg x) q 19 [.ref a1_6, .int (jI (↑n)), .int (jI 0)], aN (xg x) 0 a1_6 n f1_7] _ _ _ _ [.ref r1_29]
              refine sw_drop [0, 1, 2] 1 rfl [pl (xg x) M1_28] rfl ?_
              exact sw_aret F (some r1_29) _ rfl rfl (by first | exact Or.inl ⟨_, rfl⟩ | exact Or.inr ⟨_, rfl⟩) dJ35_toBigDecimal_123 (by rw [hPo]; exact ⟨M1_28, r1_29, o1_30, rfl, hle_31, hat_32, rfl⟩)
          ·
            refine sw_aload_n (n := 76) F 2 (some a1_6) rfl rfl rfl dJ35_toBigDecimal_75 rfl ?_
            refine sw_iconst (n := 77) F (1) (by decide) dJ35_toBigDecimal_76 rfl ?_
            refine sw_ialoadN (n := 78) F 1 rfl (fun _ => rfl) 1 rfl (by omega) dJ35_toBigDecimal_77 rfl ?_
            have hb_33 : f1_7 1 < 4294967296 := hwE.1 _ (by omega)
            refine sw_i2lr (n := 79) F dJ35_toBigDecimal_78 rfl ?_
            refine sw_ldc2 (n := 82) F (4294967295) q1865 (by decide) dJ35_toBigDecimal_79 rfl ?_
            refine sw_land (n := 83) F (jL (↑(f1_7 1))) (jI_wordE (by omega)) dJ35_toBigDecimal_82 rfl ?_
            refine sw_iload (n := 85) F 0 rfl dJ35_toBigDecimal_83 rfl ?_
            have hb_34 : f1_7 0 < 4294967296 := hwE.1 _ (by omega)
            refine sw_i2lr (n := 86) F dJ35_toBigDecimal_85 rfl ?_
            refine sw_ldc2 (n := 89) F (4294967295) q1865 (by decide) dJ35_toBigDecimal_86 rfl ?_
            refine sw_land (n := 90) F (jL (↑(f1_7 0))) (jI_wordE (by omega)) dJ35_toBigDecimal_89 rfl ?_
            refine sw_bipush (n := 92) F (32) (by decide) dJ35_toBigDecimal_90 rfl ?_
            refine sw_lshl (n := 93) F (jL ((↑(f1_7 0)) * 4294967296)) (by have h7s := jL_shlQ (↑(f1_7 0)) (c := 32) (P := 4294967296) (k := 32) (by decide) (by decide) (by decide); exact h7s) dJ35_toBigDecimal_92 rfl ?_
            refine sw_lor (n := 94) F (jL ((↑(f1_7 0)) * 4294967296 + ↑(f1_7 1))) (by exact jL_or_c 32 (by decide) (by omega) (by omega)) dJ35_toBigDecimal_93 rfl ?_
            refine sw_goto F (n := 104) dJ35_toBigDecimal_94 (by decide) ?_
            refine sw_top (topL (show ((↑(f1_7 0)) * 4294967296 + ↑(f1_7 1) : Int) = ↑(mw f o n) by omega)) ?_
            refine sw_lstore (n := 106) F (L2 := [(6, .long (jL (↑(mw f o n)))), (5, .int (jI (↑(f1_7 0)))), (4, .int (jI (↑n))), (3, .ref a1_6), (0, .ref q), (1, .int (jI sg)), (2, .int (jI s))]) rfl (by decide) dJ35_toBigDecimal_104 rfl ?_
            refine sw_iload_n (n := 107) F 5 rfl rfl dJ35_toBigDecimal_106 rfl ?_
            refine sw_iconst (n := 108) F (-1) (by decide) dJ35_toBigDecimal_107 rfl ?_
            refine sw_icmp_ne (n := 111) F (by omega) (by decide) (tgt := 117) dJ35_toBigDecimal_108 (by decide) rfl (fun c_108 => ?_) (fun c_108 => ?_)
            ·
              refine sw_lload (n := 119) F 0 rfl dJ35_toBigDecimal_117 rfl ?_
              refine sw_top (topL (show (↑(mw f o n) : Int) = sg * ↑(mw f o n) by omega)) ?_
              refine sw_iload_n (n := 120) F 6 rfl rfl dJ35_toBigDecimal_119 rfl ?_
              refine sw_callS (n := 123) F (ct_J8_valueOf_2 (g := xg x) (l := xl x) M (sg * ↑(mw f o n)) s (by first | omega | assumption) hs) q2675 q1044 q112 q1045 nd_J8_valueOf_2 rfl (by decide) [2, 0, 1] rfl [ob (xg x) q 19 [.ref a1_6, .int (jI (↑n)), .int (jI 0)], aN (xg x) 0 a1_6 n f1_7] rfl 1 6 ⟨by omega, by omega⟩ [] rfl (Nat.le_of_ble_eq_true rfl) dJ35_toBigDecimal_120 rfl (fun _ _ h => h.elim) (fun v Ws h => ?_)
              obtain ⟨M1_35, r1_36, o1_37, rfl, hle_38, hat_39, rfl⟩ := h
              show SW x [pl (xg x) M1_35, ob (xg x) q 19 [.ref a1_6, .int (jI (↑n)), .int (jI 0)], aN (xg x) 0 a1_6 n f1_7] _ _ _ _ [.ref r1_36]
              refine sw_drop [0, 1, 2] 1 rfl [pl (xg x) M1_35] rfl ?_
              exact sw_aret F (some r1_36) _ rfl rfl (by first | exact Or.inl ⟨_, rfl⟩ | exact Or.inr ⟨_, rfl⟩) dJ35_toBigDecimal_123 (by rw [hPo]; exact ⟨M1_35, r1_36, o1_37, rfl, hle_38, hat_39, rfl⟩)
            ·
              refine sw_lload (n := 113) F 0 rfl dJ35_toBigDecimal_111 rfl ?_
              refine sw_lneg (n := 114) F dJ35_toBigDecimal_113 rfl ?_
              refine sw_goto F (n := 119) dJ35_toBigDecimal_114 (by decide) ?_
              refine sw_top (topL (show (-(↑(mw f o n)) : Int) = sg * ↑(mw f o n) by omega)) ?_
              refine sw_iload_n (n := 120) F 6 rfl rfl dJ35_toBigDecimal_119 rfl ?_
              refine sw_callS (n := 123) F (ct_J8_valueOf_2 (g := xg x) (l := xl x) M (sg * ↑(mw f o n)) s (by first | omega | assumption) hs) q2675 q1044 q112 q1045 nd_J8_valueOf_2 rfl (by decide) [2, 0, 1] rfl [ob (xg x) q 19 [.ref a1_6, .int (jI (↑n)), .int (jI 0)], aN (xg x) 0 a1_6 n f1_7] rfl 1 6 ⟨by omega, by omega⟩ [] rfl (Nat.le_of_ble_eq_true rfl) dJ35_toBigDecimal_120 rfl (fun _ _ h => h.elim) (fun v Ws h => ?_)
              obtain ⟨M1_40, r1_41, o1_42, rfl, hle_43, hat_44, rfl⟩ := h
              show SW x [pl (xg x) M1_40, ob (xg x) q 19 [.ref a1_6, .int (jI (↑n)), .int (jI 0)], aN (xg x) 0 a1_6 n f1_7] _ _ _ _ [.ref r1_41]
              refine sw_drop [0, 1, 2] 1 rfl [pl (xg x) M1_40] rfl ?_
              exact sw_aret F (some r1_41) _ rfl rfl (by first | exact Or.inl ⟨_, rfl⟩ | exact Or.inr ⟨_, rfl⟩) dJ35_toBigDecimal_123 (by rw [hPo]; exact ⟨M1_40, r1_41, o1_42, rfl, hle_43, hat_44, rfl⟩)
        ·
          refine sw_iload (n := 43) F 1 rfl dJ35_toBigDecimal_41 rfl ?_
          refine sw_iconst (n := 44) F (2) (by decide) dJ35_toBigDecimal_43 rfl ?_
          refine sw_icmp_ne (n := 47) F (by omega) (by decide) (tgt := 69) dJ35_toBigDecimal_44 (by decide) rfl (fun c_44 => ?_) (fun c_44 => ?_)
          ·
            have hcase : (n = 1 ∧ mw f o n = f1_7 0) ∨ (n = 2 ∧ mw f o n = f1_7 0 * 4294967296 + f1_7 1 ∧ f1_7 0 < 2147483648 ∧ f1_7 1 < 4294967296) := by
              rcases (show n = 1 ∨ n = 2 by omega) with e | e
              · left; refine ⟨e, ?_⟩; rw [← hv1_9, e, wv_1]
              · right; refine ⟨e, ?_, by (exfalso; omega), hf1_8 1 (by omega)⟩; rw [← hv1_9, e, wv_2]
            refine sw_iload (n := 71) F 1 rfl dJ35_toBigDecimal_69 rfl ?_
            refine sw_iconst (n := 72) F (2) (by decide) dJ35_toBigDecimal_71 rfl ?_
            refine sw_icmp_ne (n := 75) F (by omega) (by decide) (tgt := 97) dJ35_toBigDecimal_72 (by decide) rfl (fun c_72 => ?_) (fun c_72 => ?_)
            ·
              refine sw_iload (n := 99) F 0 rfl dJ35_toBigDecimal_97 rfl ?_
              skip
              have hb_45 : f1_7 0 < 4294967296 := hwE.1 _ (by omega)
              refine sw_i2lr (n := 100) F dJ35_toBigDecimal_99 rfl ?_
              refine sw_ldc2 (n := 103) F (4294967295) q1865 (by decide) dJ35_toBigDecimal_100 rfl ?_
              refine sw_land (n := 104) F (jL (↑(f1_7 0))) (jI_wordE (by omega)) dJ35_toBigDecimal_103 rfl ?_
              refine sw_top (topL (show (↑(f1_7 0) : Int) = ↑(mw f o n) by omega)) ?_
              refine sw_lstore (n := 106) F (L2 := [(6, .long (jL (↑(mw f o n)))), (5, .int (jI (↑(f1_7 0)))), (4, .int (jI (↑n))), (3, .ref a1_6), (0, .ref q), (1, .int (jI sg)), (2, .int (jI s))]) rfl (by decide) dJ35_toBigDecimal_104 rfl ?_
              refine sw_iload_n (n := 107) F 5 rfl rfl dJ35_toBigDecimal_106 rfl ?_
              refine sw_iconst (n := 108) F (-1) (by decide) dJ35_toBigDecimal_107 rfl ?_
              refine sw_icmp_ne (n := 111) F (by omega) (by decide) (tgt := 117) dJ35_toBigDecimal_108 (by decide) rfl (fun c_108 => ?_) (fun c_108 => ?_)
              ·
                refine sw_lload (n := 119) F 0 rfl dJ35_toBigDecimal_117 rfl ?_
                refine sw_top (topL (show (↑(mw f o n) : Int) = sg * ↑(mw f o n) by omega)) ?_
                refine sw_iload_n (n := 120) F 6 rfl rfl dJ35_toBigDecimal_119 rfl ?_
                refine sw_callS (n := 123) F (ct_J8_valueOf_2 (g := xg x) (l := xl x) M (sg * ↑(mw f o n)) s (by first | omega | assumption) hs) q2675 q1044 q112 q1045 nd_J8_valueOf_2 rfl (by decide) [2, 0, 1] rfl [ob (xg x) q 19 [.ref a1_6, .int (jI (↑n)), .int (jI 0)], aN (xg x) 0 a1_6 n f1_7] rfl 1 6 ⟨by omega, by omega⟩ [] rfl (Nat.le_of_ble_eq_true rfl) dJ35_toBigDecimal_120 rfl (fun _ _ h => h.elim) (fun v Ws h => ?_)
                obtain ⟨M1_46, r1_47, o1_48, rfl, hle_49, hat_50, rfl⟩ := h
                show SW x [pl (xg x) M1_46, ob (xg x) q 19 [.ref a1_6, .int (jI (↑n)), .int (jI 0)], aN (xg x) 0 a1_6 n f1_7] _ _ _ _ [.ref r1_47]
                refine sw_drop [0, 1, 2] 1 rfl [pl (xg x) M1_46] rfl ?_
                exact sw_aret F (some r1_47) _ rfl rfl (by first | exact Or.inl ⟨_, rfl⟩ | exact Or.inr ⟨_, rfl⟩) dJ35_toBigDecimal_123 (by rw [hPo]; exact ⟨M1_46, r1_47, o1_48, rfl, hle_49, hat_50, rfl⟩)
              ·
                refine sw_lload (n := 113) F 0 rfl dJ35_toBigDecimal_111 rfl ?_
                refine sw_lneg (n := 114) F dJ35_toBigDecimal_113 rfl ?_
                refine sw_goto F (n := 119) dJ35_toBigDecimal_114 (by decide) ?_
                refine sw_top (topL (show (-(↑(mw f o n)) : Int) = sg * ↑(mw f o n) by omega)) ?_
                refine sw_iload_n (n := 120) F 6 rfl rfl dJ35_toBigDecimal_119 rfl ?_
                refine sw_callS (n := 123) F (ct_J8_valueOf_2 (g := xg x) (l := xl x) M (sg * ↑(mw f o n)) s (by first | omega | assumption) hs) q2675 q1044 q112 q1045 nd_J8_valueOf_2 rfl (by decide) [2, 0, 1] rfl [ob (xg x) q 19 [.ref a1_6, .int (jI (↑n)), .int (jI 0)], aN (xg x) 0 a1_6 n f1_7] rfl 1 6 ⟨by omega, by omega⟩ [] rfl (Nat.le_of_ble_eq_true rfl) dJ35_toBigDecimal_120 rfl (fun _ _ h => h.elim) (fun v Ws h => ?_)
                obtain ⟨M1_51, r1_52, o1_53, rfl, hle_54, hat_55, rfl⟩ := h
                show SW x [pl (xg x) M1_51, ob (xg x) q 19 [.ref a1_6, .int (jI (↑n)), .int (jI 0)], aN (xg x) 0 a1_6 n f1_7] _ _ _ _ [.ref r1_52]
                refine sw_drop [0, 1, 2] 1 rfl [pl (xg x) M1_51] rfl ?_
                exact sw_aret F (some r1_52) _ rfl rfl (by first | exact Or.inl ⟨_, rfl⟩ | exact Or.inr ⟨_, rfl⟩) dJ35_toBigDecimal_123 (by rw [hPo]; exact ⟨M1_51, r1_52, o1_53, rfl, hle_54, hat_55, rfl⟩)
            ·
              refine sw_aload_n (n := 76) F 2 (some a1_6) rfl rfl rfl dJ35_toBigDecimal_75 rfl ?_
              refine sw_iconst (n := 77) F (1) (by decide) dJ35_toBigDecimal_76 rfl ?_
              refine sw_ialoadN (n := 78) F 1 rfl (fun _ => rfl) 1 rfl (by omega) dJ35_toBigDecimal_77 rfl ?_
              have hb_56 : f1_7 1 < 4294967296 := hwE.1 _ (by omega)
              refine sw_i2lr (n := 79) F dJ35_toBigDecimal_78 rfl ?_
              refine sw_ldc2 (n := 82) F (4294967295) q1865 (by decide) dJ35_toBigDecimal_79 rfl ?_
              refine sw_land (n := 83) F (jL (↑(f1_7 1))) (jI_wordE (by omega)) dJ35_toBigDecimal_82 rfl ?_
              refine sw_iload (n := 85) F 0 rfl dJ35_toBigDecimal_83 rfl ?_
              have hb_57 : f1_7 0 < 4294967296 := hwE.1 _ (by omega)
              refine sw_i2lr (n := 86) F dJ35_toBigDecimal_85 rfl ?_
              refine sw_ldc2 (n := 89) F (4294967295) q1865 (by decide) dJ35_toBigDecimal_86 rfl ?_
              refine sw_land (n := 90) F (jL (↑(f1_7 0))) (jI_wordE (by omega)) dJ35_toBigDecimal_89 rfl ?_
              refine sw_bipush (n := 92) F (32) (by decide) dJ35_toBigDecimal_90 rfl ?_
              refine sw_lshl (n := 93) F (jL ((↑(f1_7 0)) * 4294967296)) (by have h7s := jL_shlQ (↑(f1_7 0)) (c := 32) (P := 4294967296) (k := 32) (by decide) (by decide) (by decide); exact h7s) dJ35_toBigDecimal_92 rfl ?_
              refine sw_lor (n := 94) F (jL ((↑(f1_7 0)) * 4294967296 + ↑(f1_7 1))) (by exact jL_or_c 32 (by decide) (by omega) (by omega)) dJ35_toBigDecimal_93 rfl ?_
              refine sw_goto F (n := 104) dJ35_toBigDecimal_94 (by decide) ?_
              refine sw_top (topL (show ((↑(f1_7 0)) * 4294967296 + ↑(f1_7 1) : Int) = ↑(mw f o n) by omega)) ?_
              refine sw_lstore (n := 106) F (L2 := [(6, .long (jL (↑(mw f o n)))), (5, .int (jI (↑(f1_7 0)))), (4, .int (jI (↑n))), (3, .ref a1_6), (0, .ref q), (1, .int (jI sg)), (2, .int (jI s))]) rfl (by decide) dJ35_toBigDecimal_104 rfl ?_
              refine sw_iload_n (n := 107) F 5 rfl rfl dJ35_toBigDecimal_106 rfl ?_
              refine sw_iconst (n := 108) F (-1) (by decide) dJ35_toBigDecimal_107 rfl ?_
              refine sw_icmp_ne (n := 111) F (by omega) (by decide) (tgt := 117) dJ35_toBigDecimal_108 (by decide) rfl (fun c_108 => ?_) (fun c_108 => ?_)
              ·
                refine sw_lload (n := 119) F 0 rfl dJ35_toBigDecimal_117 rfl ?_
                refine sw_top (topL (show (↑(mw f o n) : Int) = sg * ↑(mw f o n) by omega)) ?_
                refine sw_iload_n (n := 120) F 6 rfl rfl dJ35_toBigDecimal_119 rfl ?_
                refine sw_callS (n := 123) F (ct_J8_valueOf_2 (g := xg x) (l := xl x) M (sg * ↑(mw f o n)) s (by first | omega | assumption) hs) q2675 q1044 q112 q1045 nd_J8_valueOf_2 rfl (by decide) [2, 0, 1] rfl [ob (xg x) q 19 [.ref a1_6, .int (jI (↑n)), .int (jI 0)], aN (xg x) 0 a1_6 n f1_7] rfl 1 6 ⟨by omega, by omega⟩ [] rfl (Nat.le_of_ble_eq_true rfl) dJ35_toBigDecimal_120 rfl (fun _ _ h => h.elim) (fun v Ws h => ?_)
                obtain ⟨M1_58, r1_59, o1_60, rfl, hle_61, hat_62, rfl⟩ := h
                show SW x [pl (xg x) M1_58, ob (xg x) q 19 [.ref a1_6, .int (jI (↑n)), .int (jI 0)], aN (xg x) 0 a1_6 n f1_7] _ _ _ _ [.ref r1_59]
                refine sw_drop [0, 1, 2] 1 rfl [pl (xg x) M1_58] rfl ?_
                exact sw_aret F (some r1_59) _ rfl rfl (by first | exact Or.inl ⟨_, rfl⟩ | exact Or.inr ⟨_, rfl⟩) dJ35_toBigDecimal_123 (by rw [hPo]; exact ⟨M1_58, r1_59, o1_60, rfl, hle_61, hat_62, rfl⟩)
              ·
                refine sw_lload (n := 113) F 0 rfl dJ35_toBigDecimal_111 rfl ?_
                refine sw_lneg (n := 114) F dJ35_toBigDecimal_113 rfl ?_
                refine sw_goto F (n := 119) dJ35_toBigDecimal_114 (by decide) ?_
                refine sw_top (topL (show (-(↑(mw f o n)) : Int) = sg * ↑(mw f o n) by omega)) ?_
                refine sw_iload_n (n := 120) F 6 rfl rfl dJ35_toBigDecimal_119 rfl ?_
                refine sw_callS (n := 123) F (ct_J8_valueOf_2 (g := xg x) (l := xl x) M (sg * ↑(mw f o n)) s (by first | omega | assumption) hs) q2675 q1044 q112 q1045 nd_J8_valueOf_2 rfl (by decide) [2, 0, 1] rfl [ob (xg x) q 19 [.ref a1_6, .int (jI (↑n)), .int (jI 0)], aN (xg x) 0 a1_6 n f1_7] rfl 1 6 ⟨by omega, by omega⟩ [] rfl (Nat.le_of_ble_eq_true rfl) dJ35_toBigDecimal_120 rfl (fun _ _ h => h.elim) (fun v Ws h => ?_)
                obtain ⟨M1_63, r1_64, o1_65, rfl, hle_66, hat_67, rfl⟩ := h
                show SW x [pl (xg x) M1_63, ob (xg x) q 19 [.ref a1_6, .int (jI (↑n)), .int (jI 0)], aN (xg x) 0 a1_6 n f1_7] _ _ _ _ [.ref r1_64]
                refine sw_drop [0, 1, 2] 1 rfl [pl (xg x) M1_63] rfl ?_
                exact sw_aret F (some r1_64) _ rfl rfl (by first | exact Or.inl ⟨_, rfl⟩ | exact Or.inr ⟨_, rfl⟩) dJ35_toBigDecimal_123 (by rw [hPo]; exact ⟨M1_63, r1_64, o1_65, rfl, hle_66, hat_67, rfl⟩)
          ·
            have hbig : 9223372036854775808 ≤ wv f1_7 n := by rcases Nat.lt_or_ge n 3 with c9 | c9; (have h9 := wI_neg hb0 c_38; rw [show n = 2 by omega, wv_2]; omega); (have := wv_b3 hwE c9; omega)
            have hnf : ¬ fit (sg * ↑(mw f o n)) := nfit_big (by rw [← hvE]; exact hbig)
            refine sw_new (n := 50) F (ci := 13) (N := 5) RJ8 TJ8 tyJ8 rfl q2673 q252 q112 in_J8 tyJ8_ok (fs := [.null, .int (jI 0), .int (jI 0), .null, .long (jL 0)]) rfl 1 6 ⟨by omega, by omega⟩ dJ35_toBigDecimal_47 rfl (fun q_68 => ?_)
            refine sw_dup (n := 51) F rfl dJ35_toBigDecimal_50 rfl ?_
            refine sw_new (n := 54) F (ci := 16) (N := 6) RJ19 TJ19 tyJ19 rfl q1945 q1065 q127 in_J19 tyJ19_ok (fs := [.int (jI 0), .null, .int (jI 0), .int (jI 0), .int (jI 0), .int (jI 0)]) rfl 0 0 ⟨by omega, by omega⟩ dJ35_toBigDecimal_51 rfl (fun q_69 => ?_)
            refine sw_dup (n := 55) F rfl dJ35_toBigDecimal_54 rfl ?_
            refine sw_aload_n (n := 56) F 2 (some a1_6) rfl rfl rfl dJ35_toBigDecimal_55 rfl ?_
            refine sw_iload_n (n := 57) F 4 rfl rfl dJ35_toBigDecimal_56 rfl ?_
            refine sw_callI (n := 60) F (ct_J19_init_2_o (g := xg x) (l := xl x) q_69 a1_6 n f1_7 sg (by first | omega | assumption)) q1954 q1109 q127 q1110 rfl nd_J19_init_2 rfl (by decide) [0, 3, 1, 2, 4] (perm_ok _ 5 (by decide +kernel) rfl) [ob (xg x) q_68 13 [.null, .int (jI 0), .int (jI 0), .null, .long (jL 0)], ob (xg x) q 19 [.ref a1_6, .int (jI (↑n)), .int (jI 0)], pl (xg x) M] rfl 0 0 ⟨by omega, by omega⟩ [.ref q_69, .ref q_68, .ref q_68] rfl (Nat.le_of_ble_eq_true rfl) dJ35_toBigDecimal_57 rfl (fun _ _ h => h.elim) (fun v Ws h => ?_)
            obtain ⟨rfl, rfl⟩ := h
            show SW x [ob (xg x) q_69 16 [.int (jI sg), .ref a1_6, .int (jI 0), .int (jI 0), .int (jI 0), .int (jI 0)], aN (xg x) 0 a1_6 n f1_7, ob (xg x) q_68 13 [.null, .int (jI 0), .int (jI 0), .null, .long (jL 0)], ob (xg x) q 19 [.ref a1_6, .int (jI (↑n)), .int (jI 0)], pl (xg x) M] _ _ _ _ [.ref q_69, .ref q_68, .ref q_68]
            refine sw_perm [1, 4, 0, 2, 3] (perm_ok _ 5 (by decide +kernel) rfl) [aN (xg x) 0 a1_6 n f1_7, pl (xg x) M, ob (xg x) q_69 16 [.int (jI sg), .ref a1_6, .int (jI 0), .int (jI 0), .int (jI 0), .int (jI 0)], ob (xg x) q_68 13 [.null, .int (jI 0), .int (jI 0), .null, .long (jL 0)], ob (xg x) q 19 [.ref a1_6, .int (jI (↑n)), .int (jI 0)]] rfl ?_
            refine sw_absA F (fun M_70 hle_71 hat_72 => ?_)
            show SW x [pl (xg x) M_70, ob (xg x) q_69 16 [.int (jI sg), .ref a1_6, .int (jI 0), .int (jI 0), .int (jI 0), .int (jI 0)], ob (xg x) q_68 13 [.null, .int (jI 0), .int (jI 0), .null, .long (jL 0)], ob (xg x) q 19 [.ref a1_6, .int (jI (↑n)), .int (jI 0)]] _ _ _ _ [.ref q_69, .ref q_68, .ref q_68]
            refine sw_perm [1, 0, 2, 3] (perm_ok _ 4 (by decide +kernel) rfl) [ob (xg x) q_69 16 [.int (jI sg), .ref a1_6, .int (jI 0), .int (jI 0), .int (jI 0), .int (jI 0)], pl (xg x) M_70, ob (xg x) q_68 13 [.null, .int (jI 0), .int (jI 0), .null, .long (jL 0)], ob (xg x) q 19 [.ref a1_6, .int (jI (↑n)), .int (jI 0)]] rfl ?_
            refine SW.cast (Ps' := ob (xg x) q_69 16 (flI (sg * ↑(mw f o n)) a1_6 0 0 0 0) :: [pl (xg x) M_70, ob (xg x) q_68 13 [.null, .int (jI 0), .int (jI 0), .null, .long (jL 0)], ob (xg x) q 19 [.ref a1_6, .int (jI (↑n)), .int (jI 0)]]) ?_ (by unfold flI; rw [sgI_sg hsg hmp]) rfl rfl
            refine sw_absI F (Or.inr rfl) hat_72 hwE hvE (fun M_73 hle_74 hat_75 => ?_)
            show SW x [pl (xg x) M_73, ob (xg x) q_68 13 [.null, .int (jI 0), .int (jI 0), .null, .long (jL 0)], ob (xg x) q 19 [.ref a1_6, .int (jI (↑n)), .int (jI 0)]] _ _ _ _ [.ref q_69, .ref q_68, .ref q_68]
            refine sw_ldc2 (n := 63) F (-9223372036854775808) q1904 (by decide) dJ35_toBigDecimal_60 rfl ?_
            refine sw_iload_n (n := 64) F 5 rfl rfl dJ35_toBigDecimal_63 rfl ?_
            refine sw_iconst (n := 65) F (0) (by decide) dJ35_toBigDecimal_64 rfl ?_
            refine sw_callI (n := 68) F (ct_J8_init (g := xg x) (l := xl x) q_68 (some q_69) (-9223372036854775808) s 0 ) q2674 q254 q112 q255 rfl nd_J8_init rfl (by decide) [1, 0, 2] rfl [pl (xg x) M_73, ob (xg x) q 19 [.ref a1_6, .int (jI (↑n)), .int (jI 0)]] rfl 0 0 ⟨by omega, by omega⟩ [.ref q_68] rfl (Nat.le_of_ble_eq_true rfl) dJ35_toBigDecimal_65 rfl (fun _ _ h => h.elim) (fun v Ws h => ?_)
            obtain ⟨rfl, rfl⟩ := h
            show SW x [ob (xg x) q_68 13 [va_rf (some q_69), .int (jI s), .int (jI 0), .null, .long (jL (-9223372036854775808))], pl (xg x) M_73, ob (xg x) q 19 [.ref a1_6, .int (jI (↑n)), .int (jI 0)]] _ _ _ _ [.ref q_68]
            refine SW.cast (Ps' := ob (xg x) q_68 13 (flD (sg * ↑(mw f o n)) s (some q_69) 0) :: [pl (xg x) M_73, ob (xg x) q 19 [.ref a1_6, .int (jI (↑n)), .int (jI 0)]]) ?_ (by simp only [flD, cpt_0 hnf] <;> rfl) rfl rfl
            refine sw_absD F (Or.inr rfl) (fun h => by cases h) (fun b h => by cases h; exact ⟨_, hat_75⟩) (fun M_76 hle_77 hat_78 => ?_)
            show SW x [pl (xg x) M_76, ob (xg x) q 19 [.ref a1_6, .int (jI (↑n)), .int (jI 0)]] _ _ _ _ [.ref q_68]
            refine sw_drop [0, 1] 1 rfl [pl (xg x) M_76] rfl ?_
            exact sw_aret F (some q_68) _ rfl rfl (by first | exact Or.inl ⟨_, rfl⟩ | exact Or.inr ⟨_, rfl⟩) dJ35_toBigDecimal_68 (by rw [hPo]; exact ⟨M_76, q_68, some q_69, rfl, (le_.tr (le_.tr hle_71 hle_74) hle_77), hat_78, rfl⟩)
    ·
      refine sw_iload_n (n := 12) F 2 rfl rfl dJ35_toBigDecimal_11 rfl ?_
      refine sw_callS (n := 15) F (ct_J8_zeroValueOf (g := xg x) (l := xl x) M s hs) q2672 q1048 q112 q1049 nd_J8_zeroValueOf rfl (by decide) [2, 0, 1] rfl [ob (xg x) q 19 [.ref a, .int (jI (↑n)), .int (jI (↑o))], aN (xg x) 0 a N f] rfl 2 14 ⟨by omega, by omega⟩ [] rfl (Nat.le_of_ble_eq_true rfl) dJ35_toBigDecimal_12 rfl (fun _ _ h => h.elim) (fun v Ws h => ?_)
      obtain ⟨M1_79, r1_80, o1_81, rfl, hle_82, hat_83, rfl⟩ := h
      show SW x [pl (xg x) M1_79, ob (xg x) q 19 [.ref a, .int (jI (↑n)), .int (jI (↑o))], aN (xg x) 0 a N f] _ _ _ _ [.ref r1_80]
      refine sw_drop [0, 1, 2] 1 rfl [pl (xg x) M1_79] rfl ?_
      exact sw_aret F (some r1_80) _ rfl rfl (by first | exact Or.inl ⟨_, rfl⟩ | exact Or.inr ⟨_, rfl⟩) dJ35_toBigDecimal_15 (by rw [hPo]; exact ⟨M1_79, r1_80, o1_81, rfl, hle_82, (by rw [show (sg * ↑(mw f o n) : Int) = 0 by rw [show n = 0 by omega]; exact Int.mul_zero _]; assumption), rfl⟩)
