theorem gcd_tm (x y : Int) : Int.gcd y (x.tmod y) = Int.gcd x y := by
  rw [Int.gcd, Int.gcd, Int.natAbs_tmod, Nat.gcd_comm x.natAbs, Nat.gcd_rec y.natAbs x.natAbs, Nat.gcd_comm]
theorem tm_rng {x y : Int} (h : y ≠ 0) : (x.tmod y).natAbs < y.natAbs := by rw [Int.natAbs_tmod]; exact Nat.mod_lt _ (by omega)
theorem gcd_z {x y : Int} {n : Nat} (h : Int.gcd x y = n) (h0 : y = 0) : (n : Int) = x.natAbs := by subst h0; rw [Int.gcd_zero_right] at h; omega
theorem nd_X4_common : yX4_common.cls ≠ "java/lang/invoke/MethodHandle" ∧ yX4_common.cls ≠ "java/lang/invoke/VarHandle" ∧ (parseMethodDescriptor yX4_common.desc).map (fun d => d.parameters.length) = some 2 := by decide +kernel
set_option maxRecDepth 100000 in
set_option maxHeartbeats 1000000 in
theorem ct_X4_common {g : GG} {l : Launch} (p : Int) (q : Int) (hp : -999999999999999999 ≤ p ∧ p ≤ 999999999999999999) (hq : -999999999999999999 ≤ q ∧ q ≤ 999999999999999999) : Ct g l yX4_common (ws_ yX4_common cX4_common 10 (Option.some Jvm.ClassFile.FieldType.long)) 1 12 0 0 [.long (jL p), .long (jL q)] [] (fun v9 Ws9 => v9 = some (.long (jL (↑(Int.gcd p q)))) ∧ Ws9 = []) (nox) := by
  refine Ct.of (cc := cX4_common) (nL := 10) (ret := (Option.some Jvm.ClassFile.FieldType.long)) (by decide) rfl (Nat.le_of_ble_eq_true rfl) ?_
  intro x hg hl hPo hPx hmc hms F
  subst hg; subst hl
  refine SW.cast (L' := [(0, .long (jL p)), (2, .long (jL q))]) ?_ rfl rfl rfl
  refine sw_lload_n (n := 1) F 0 rfl rfl dX4_common_0 rfl ?_
  refine sw_lstore (n := 3) F (L2 := [(4, .long (jL p)), (0, .long (jL p)), (2, .long (jL q))]) rfl (by decide) dX4_common_1 rfl ?_
  refine sw_lload_n (n := 4) F 2 rfl rfl dX4_common_3 rfl ?_
  refine sw_lstore (n := 6) F (L2 := [(6, .long (jL q)), (4, .long (jL p)), (0, .long (jL p)), (2, .long (jL q))]) rfl (by decide) dX4_common_4 rfl ?_
  have K6 : ∀ N6 : Nat, ∀ (u : Int) (v : Int), (-999999999999999999 ≤ u ∧ u ≤ 999999999999999999) → (-999999999999999999 ≤ v ∧ v ≤ 999999999999999999) → (Int.gcd u v = Int.gcd p q) → ((v.natAbs) < N6) → SW x [] 0 0 6 [(0, .long (jL p)), (2, .long (jL q)), (4, .long (jL u)), (6, .long (jL v))] [] := by
    intro N6; induction N6 with
    | zero => intro u v hu hv hg hmu6; omega
    | succ N6 ih6 =>
      intro u v hu hv hg hmu6
      refine sw_lload (n := 8) F 3 rfl dX4_common_6 rfl ?_
      refine sw_lconst (n := 9) F 0 (by decide) dX4_common_8 rfl ?_
      refine sw_lcmp (n := 10) F (by omega) (by decide) dX4_common_9 rfl ?_
      refine sw_if_eq (n := 13) F (by omega) (tgt := 31) dX4_common_10 (by decide) rfl (fun c_10 => ?_) (fun c_10 => ?_)
      ·
        have c_10 : v = 0 := by revert c_10; (repeat' split) <;> omega
        refine sw_lload (n := 33) F 2 rfl dX4_common_31 rfl ?_
        refine sw_lconst (n := 34) F 0 (by decide) dX4_common_33 rfl ?_
        refine sw_lcmp (n := 35) F (by omega) (by decide) dX4_common_34 rfl ?_
        refine sw_if_ge (n := 38) F (by omega) (tgt := 44) dX4_common_35 (by decide) rfl (fun c_35 => ?_) (fun c_35 => ?_)
        ·
          have c_35 : u ≥ 0 := by revert c_35; (repeat' split) <;> omega
          refine sw_lload (n := 46) F 2 rfl dX4_common_44 rfl ?_
          exact sw_lret F rfl dX4_common_46 (by rw [hPo]; exact ⟨(by have hz := gcd_z hg (by omega); congr 3; omega), rfl⟩)
        ·
          have c_35 : u < 0 := by revert c_35; (repeat' split) <;> omega
          refine sw_lload (n := 40) F 2 rfl dX4_common_38 rfl ?_
          refine sw_lneg (n := 41) F dX4_common_40 rfl ?_
          refine sw_goto F (n := 46) dX4_common_41 (by decide) ?_
          exact sw_lret F rfl dX4_common_46 (by rw [hPo]; exact ⟨(by have hz := gcd_z hg (by omega); congr 3; omega), rfl⟩)
      ·
        have c_10 : v ≠ 0 := by revert c_10; (repeat' split) <;> omega
        refine sw_lload (n := 15) F 2 rfl dX4_common_13 rfl ?_
        refine sw_lload (n := 17) F 3 rfl dX4_common_15 rfl ?_
        have htm := tm_rng (x := u) (by omega)
        have hgt := gcd_tm u v
        refine sw_lrem (n := 18) F (by omega) (by omega) (by omega) dX4_common_17 rfl ?_
        refine sw_lstore (n := 20) F (L2 := [(8, .long (jL (u.tmod v))), (0, .long (jL p)), (2, .long (jL q)), (4, .long (jL u)), (6, .long (jL v))]) rfl (by decide) dX4_common_18 rfl ?_
        refine sw_lload (n := 22) F 4 rfl dX4_common_20 rfl ?_
        refine sw_lstore (n := 24) F (L2 := [(4, .long (jL v)), (8, .long (jL (u.tmod v))), (0, .long (jL p)), (2, .long (jL q)), (6, .long (jL v))]) rfl (by decide) dX4_common_22 rfl ?_
        refine sw_lload (n := 26) F 1 rfl dX4_common_24 rfl ?_
        refine sw_lstore (n := 28) F (L2 := [(6, .long (jL (u.tmod v))), (4, .long (jL v)), (8, .long (jL (u.tmod v))), (0, .long (jL p)), (2, .long (jL q))]) rfl (by decide) dX4_common_26 rfl ?_
        refine sw_goto F (n := 6) dX4_common_28 (by decide) ?_
        refine sw_loc [3, 4, 1, 0] (L2 := [(0, .long (jL p)), (2, .long (jL q)), (4, .long (jL v)), (6, .long (jL (u.tmod v)))]) rfl ?_
        exact ih6 v (u.tmod v) hv (by first | assumption | omega) (by first | rfl | (rw [hgt]; exact hg)) (by omega)
  refine sw_loc [2, 3, 1, 0] (L2 := [(0, .long (jL p)), (2, .long (jL q)), (4, .long (jL p)), (6, .long (jL q))]) rfl ?_
  exact K6 _ p q hp hq (by first | rfl | (rw [hgt]; exact hg)) (Nat.lt_succ_self _)
