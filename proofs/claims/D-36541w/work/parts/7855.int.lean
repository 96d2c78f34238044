/-! java.lang.Integer: its cache, boxes -/
abbrev sIC : Term := (Jvm.Term.static "java/lang/Integer$IntegerCache" "cache" "[Ljava/lang/Integer;")
abbrev eIC (j : Nat) : Term := .elem sIC (.int (Int32.ofNat j))
set_option maxRecDepth 100000 in
theorem kICh {g : GG} {l : Launch} (h : ST g l) : zS g "java/lang/Integer$IntegerCache" "high" "I" (.int (jI 127)) ∧ True := ⟨zS_of (h.2.1 _ q2886) (h.2.1 _ (lw_all_tbl q150)) ((va_eqi (nw h [true, true, false, false, false, false, true, true, true, true, false, false] rfl)).trans (by rfl)), trivial⟩
set_option maxRecDepth 100000 in
theorem kIC {g : GG} {l : Launch} (h : ST g l) : zS g "java/lang/Integer$IntegerCache" "cache" "[Ljava/lang/Integer;" (.ref (tR g sIC)) ∧ cA g (.object "java/lang/Integer") (tR g sIC) 256 (fun j => .ref (tR g (eIC j))) ∧ ∀ j : Nat, j < 256 → cAt g (tR g (eIC j)) (vN ((j : Int) - 128)) := by
  have hlen : tE g (.length sIC) = some (.int (Int32.ofNat 256)) := (va_eqt (nw h [true, true, false, false, false, false, true, true, true, true, true, false, false] rfl)).trans (by rfl)
  obtain ⟨ad, ⟨hO, hF⟩, hE⟩ := vb_Cof (A := fun q => gB g ≤ q) (st := sIC) rfl hlen (nw h [true, true, false, false, false, false, true, true, true, true, true, false, true] rfl) (gA g)
  have hE2 : ∀ j : Nat, j < 256 → tE g (eIC j) = some (.ref (tR g (eIC j))) ∧ ad j = tR g (eIC j) := fun j hj => ⟨by have e := hE j hj; rw [show tR g (eIC j) = ad j from tR_of e]; exact e, (tR_of (hE j hj)).symm⟩
  obtain ⟨a1, a2⟩ := cA_of (g := g) (tm := sIC) (ty := .object "java/lang/Integer") (N := 256) (f := fun j => .ref (tR g (eIC j))) (by decide) (nw h [true, true, false, false, false, false, true, true, true, true, false, true, true] rfl) hlen (fun j hj => (hE2 j hj).1)
  refine ⟨zS_of (h.2.1 _ q2888) (h.2.1 _ (lw_all_tbl q150)) a1, a2, fun j hj => ?_⟩
  rw [← (hE2 j hj).2]
  obtain ⟨cell, h1, h2, h3, -⟩ := hO j hj
  obtain ⟨cf, kf, fi, f, cell2, g1, g2, g3, g4, g5, -⟩ := hF j hj
  cases h1.symm.trans g3
  have hc : vwCl[17]? = some (RJ22, TJ22, 1) := rfl
  obtain ⟨hS, hfc, -⟩ := h.1.1 17 _ hc
  obtain ⟨cf2, kf2, fi2, f2, hi, hsl⟩ := hS 0 (by decide)
  have hlt := (Array.getElem?_eq_some_iff.mp h1).1
  refine ⟨hlt, hlt, cell, h1, (RJ22, TJ22, 1), hc, Option.some.inj (h3.symm.trans hfc), g4, h2, fun k hk => ?_⟩
  have hk0 : k = 0 := Nat.lt_one_iff.mp hk
  subst hk0
  have e : f2 = f := by
    have e9 := Option.some.inj (hi.symm.trans g1)
    exact congrArg (fun z => z.2.2.2) e9
  rw [← hsl, e, g5]
  show some (Value.int (Int32.ofNat j - 128)) = some (.int (jI ((j : Int) - 128)))
  rw [← jI_sub, ← jI_nat]
  rfl
set_option maxRecDepth 100000
def dkwJ22_compare_0 : List UInt8 := [26, 27, 162, 0, 7, 2, 167, 0, 13, 26, 27, 160, 0, 7, 3, 167, 0, 4, 4, 172]
abbrev dktJ22_compare_0 : List UInt8 := dkwJ22_compare_0 ++ []
theorem dksJ22_compare_0 : cJ22_compare.data.toList.drop 0 = dktJ22_compare_0 := by decide +kernel
theorem dJ22_compare_0 : decode cJ22_compare 0 = .ok (.iload_n 0, 1) := dk_26 (dk_at dksJ22_compare_0 0 rfl rfl)
theorem dJ22_compare_1 : decode cJ22_compare 1 = .ok (.iload_n 1, 1) := dk_27 (dk_at dksJ22_compare_0 1 rfl rfl)
theorem dJ22_compare_2 : decode cJ22_compare 2 = .ok (.if_icmp .ge 7, 3) := dk_162 0 7 (dk_at dksJ22_compare_0 2 rfl rfl)
theorem dJ22_compare_5 : decode cJ22_compare 5 = .ok (.iconst (-1), 1) := dk_2 (dk_at dksJ22_compare_0 5 rfl rfl)
theorem dJ22_compare_6 : decode cJ22_compare 6 = .ok (.goto 13, 3) := dk_167 0 13 (dk_at dksJ22_compare_0 6 rfl rfl)
theorem dJ22_compare_9 : decode cJ22_compare 9 = .ok (.iload_n 0, 1) := dk_26 (dk_at dksJ22_compare_0 9 rfl rfl)
theorem dJ22_compare_10 : decode cJ22_compare 10 = .ok (.iload_n 1, 1) := dk_27 (dk_at dksJ22_compare_0 10 rfl rfl)
theorem dJ22_compare_11 : decode cJ22_compare 11 = .ok (.if_icmp .ne 7, 3) := dk_160 0 7 (dk_at dksJ22_compare_0 11 rfl rfl)
theorem dJ22_compare_14 : decode cJ22_compare 14 = .ok (.iconst 0, 1) := dk_3 (dk_at dksJ22_compare_0 14 rfl rfl)
theorem dJ22_compare_15 : decode cJ22_compare 15 = .ok (.goto 4, 3) := dk_167 0 4 (dk_at dksJ22_compare_0 15 rfl rfl)
theorem dJ22_compare_18 : decode cJ22_compare 18 = .ok (.iconst 1, 1) := dk_4 (dk_at dksJ22_compare_0 18 rfl rfl)
theorem dJ22_compare_19 : decode cJ22_compare 19 = .ok (.ireturn, 1) := dk_172 (dk_at dksJ22_compare_0 19 rfl rfl)
def dkwJ22_valueOf_1 : List UInt8 := [187, 0, 1, 89, 26, 183, 0, 199, 176]
abbrev dktJ22_valueOf_1 : List UInt8 := dkwJ22_valueOf_1 ++ []
def dkwJ22_valueOf_0 : List UInt8 := [26, 16, 128, 161, 0, 20, 26, 178, 0, 191, 163, 0, 13, 178, 0, 195, 26, 17, 0, 128, 96, 50, 176]
abbrev dktJ22_valueOf_0 : List UInt8 := dkwJ22_valueOf_0 ++ dktJ22_valueOf_1
theorem dksJ22_valueOf_0 : cJ22_valueOf.data.toList.drop 0 = dktJ22_valueOf_0 := by decide +kernel
theorem dksJ22_valueOf_1 : cJ22_valueOf.data.toList.drop 23 = dktJ22_valueOf_1 := dk_seg dksJ22_valueOf_0 23 rfl rfl
theorem dJ22_valueOf_0 : decode cJ22_valueOf 0 = .ok (.iload_n 0, 1) := dk_26 (dk_at dksJ22_valueOf_0 0 rfl rfl)
theorem dJ22_valueOf_1 : decode cJ22_valueOf 1 = .ok (.bipush (-128), 2) := dk_16 128 (dk_at dksJ22_valueOf_0 1 rfl rfl)
theorem dJ22_valueOf_3 : decode cJ22_valueOf 3 = .ok (.if_icmp .lt 20, 3) := dk_161 0 20 (dk_at dksJ22_valueOf_0 3 rfl rfl)
theorem dJ22_valueOf_6 : decode cJ22_valueOf 6 = .ok (.iload_n 0, 1) := dk_26 (dk_at dksJ22_valueOf_0 6 rfl rfl)
theorem dJ22_valueOf_7 : decode cJ22_valueOf 7 = .ok (.getstatic 191, 3) := dk_178 0 191 (dk_at dksJ22_valueOf_0 7 rfl rfl)
theorem dJ22_valueOf_10 : decode cJ22_valueOf 10 = .ok (.if_icmp .gt 13, 3) := dk_163 0 13 (dk_at dksJ22_valueOf_0 10 rfl rfl)
theorem dJ22_valueOf_13 : decode cJ22_valueOf 13 = .ok (.getstatic 195, 3) := dk_178 0 195 (dk_at dksJ22_valueOf_0 13 rfl rfl)
theorem dJ22_valueOf_16 : decode cJ22_valueOf 16 = .ok (.iload_n 0, 1) := dk_26 (dk_at dksJ22_valueOf_0 16 rfl rfl)
theorem dJ22_valueOf_17 : decode cJ22_valueOf 17 = .ok (.sipush 128, 3) := dk_17 0 128 (dk_at dksJ22_valueOf_0 17 rfl rfl)
theorem dJ22_valueOf_20 : decode cJ22_valueOf 20 = .ok (.iadd, 1) := dk_96 (dk_at dksJ22_valueOf_0 20 rfl rfl)
theorem dJ22_valueOf_21 : decode cJ22_valueOf 21 = .ok (.aaload, 1) := dk_50 (dk_at dksJ22_valueOf_0 21 rfl rfl)
theorem dJ22_valueOf_22 : decode cJ22_valueOf 22 = .ok (.areturn, 1) := dk_176 (dk_at dksJ22_valueOf_0 22 rfl rfl)
theorem dJ22_valueOf_23 : decode cJ22_valueOf 23 = .ok (.new 1, 3) := dk_187 0 1 (dk_at dksJ22_valueOf_1 0 rfl rfl)
theorem dJ22_valueOf_26 : decode cJ22_valueOf 26 = .ok (.dup, 1) := dk_89 (dk_at dksJ22_valueOf_1 3 rfl rfl)
theorem dJ22_valueOf_27 : decode cJ22_valueOf 27 = .ok (.iload_n 0, 1) := dk_26 (dk_at dksJ22_valueOf_1 4 rfl rfl)
theorem dJ22_valueOf_28 : decode cJ22_valueOf 28 = .ok (.invokespecial 199, 3) := dk_183 0 199 (dk_at dksJ22_valueOf_1 5 rfl rfl)
theorem dJ22_valueOf_31 : decode cJ22_valueOf 31 = .ok (.areturn, 1) := dk_176 (dk_at dksJ22_valueOf_1 8 rfl rfl)
def dkwJ22_init_0 : List UInt8 := [42, 183, 0, 202, 42, 27, 181, 0, 205, 177]
abbrev dktJ22_init_0 : List UInt8 := dkwJ22_init_0 ++ []
theorem dksJ22_init_0 : cJ22_init.data.toList.drop 0 = dktJ22_init_0 := by decide +kernel
theorem dJ22_init_0 : decode cJ22_init 0 = .ok (.aload_n 0, 1) := dk_42 (dk_at dksJ22_init_0 0 rfl rfl)
theorem dJ22_init_1 : decode cJ22_init 1 = .ok (.invokespecial 202, 3) := dk_183 0 202 (dk_at dksJ22_init_0 1 rfl rfl)
theorem dJ22_init_4 : decode cJ22_init 4 = .ok (.aload_n 0, 1) := dk_42 (dk_at dksJ22_init_0 4 rfl rfl)
theorem dJ22_init_5 : decode cJ22_init 5 = .ok (.iload_n 1, 1) := dk_27 (dk_at dksJ22_init_0 5 rfl rfl)
theorem dJ22_init_6 : decode cJ22_init 6 = .ok (.putfield 205, 3) := dk_181 0 205 (dk_at dksJ22_init_0 6 rfl rfl)
theorem dJ22_init_9 : decode cJ22_init 9 = .ok (.return_, 1) := dk_177 (dk_at dksJ22_init_0 9 rfl rfl)
def dkwJ22_compareTo_0 : List UInt8 := [42, 43, 192, 0, 1, 182, 1, 28, 172]
abbrev dktJ22_compareTo_0 : List UInt8 := dkwJ22_compareTo_0 ++ []
theorem dksJ22_compareTo_0 : cJ22_compareTo.data.toList.drop 0 = dktJ22_compareTo_0 := by decide +kernel
theorem dJ22_compareTo_0 : decode cJ22_compareTo 0 = .ok (.aload_n 0, 1) := dk_42 (dk_at dksJ22_compareTo_0 0 rfl rfl)
theorem dJ22_compareTo_1 : decode cJ22_compareTo 1 = .ok (.aload_n 1, 1) := dk_43 (dk_at dksJ22_compareTo_0 1 rfl rfl)
theorem dJ22_compareTo_2 : decode cJ22_compareTo 2 = .ok (.checkcast 1, 3) := dk_192 0 1 (dk_at dksJ22_compareTo_0 2 rfl rfl)
theorem dJ22_compareTo_5 : decode cJ22_compareTo 5 = .ok (.invokevirtual 284, 3) := dk_182 1 28 (dk_at dksJ22_compareTo_0 5 rfl rfl)
theorem dJ22_compareTo_8 : decode cJ22_compareTo 8 = .ok (.ireturn, 1) := dk_172 (dk_at dksJ22_compareTo_0 8 rfl rfl)
def dkwJ22_compareTo_2_0 : List UInt8 := [42, 180, 0, 205, 43, 180, 0, 205, 184, 1, 3, 172]
abbrev dktJ22_compareTo_2_0 : List UInt8 := dkwJ22_compareTo_2_0 ++ []
theorem dksJ22_compareTo_2_0 : cJ22_compareTo_2.data.toList.drop 0 = dktJ22_compareTo_2_0 := by decide +kernel
theorem dJ22_compareTo_2_0 : decode cJ22_compareTo_2 0 = .ok (.aload_n 0, 1) := dk_42 (dk_at dksJ22_compareTo_2_0 0 rfl rfl)
theorem dJ22_compareTo_2_1 : decode cJ22_compareTo_2 1 = .ok (.getfield 205, 3) := dk_180 0 205 (dk_at dksJ22_compareTo_2_0 1 rfl rfl)
theorem dJ22_compareTo_2_4 : decode cJ22_compareTo_2 4 = .ok (.aload_n 1, 1) := dk_43 (dk_at dksJ22_compareTo_2_0 4 rfl rfl)
theorem dJ22_compareTo_2_5 : decode cJ22_compareTo_2 5 = .ok (.getfield 205, 3) := dk_180 0 205 (dk_at dksJ22_compareTo_2_0 5 rfl rfl)
theorem dJ22_compareTo_2_8 : decode cJ22_compareTo_2 8 = .ok (.invokestatic 259, 3) := dk_184 1 3 (dk_at dksJ22_compareTo_2_0 8 rfl rfl)
theorem dJ22_compareTo_2_11 : decode cJ22_compareTo_2 11 = .ok (.ireturn, 1) := dk_172 (dk_at dksJ22_compareTo_2_0 11 rfl rfl)
theorem dJ22_intValue_0 : decode cJ22_intValue 0 = .ok (.aload_n 0, 1) := by decide +kernel
theorem dJ22_intValue_1 : decode cJ22_intValue 1 = .ok (.getfield 205, 3) := by decide +kernel
theorem dJ22_intValue_4 : decode cJ22_intValue 4 = .ok (.ireturn, 1) := by decide +kernel
theorem nd_J22_init : yJ22_init.cls ≠ "java/lang/invoke/MethodHandle" ∧ yJ22_init.cls ≠ "java/lang/invoke/VarHandle" ∧ (parseMethodDescriptor yJ22_init.desc).map (fun d => d.parameters.length) = some 1 := by decide +kernel
set_option maxRecDepth 100000 in
set_option maxHeartbeats 16000000 in
theorem ct_J22_init {g : GG} {l : Launch} (q : Nat) (z : Int)  : Ct g l yJ22_init (ws_ yJ22_init cJ22_init 2 (Option.none : Option Jvm.ClassFile.FieldType)) 2 32 0 0 [.ref q, .int (jI z)] [ob g q 17 [.int (jI 0)]] (fun v9 Ws9 => v9 = none ∧ Ws9 = [ob g q 17 [.int (jI z)]]) (nox) := by
  refine Ct.of (cc := cJ22_init) (nL := 2) (ret := (Option.none : Option Jvm.ClassFile.FieldType)) (by decide) rfl (Nat.le_of_ble_eq_true rfl) ?_
  intro x hg hl hPo hPx hmc hms F
  subst hg; subst hl
  refine SW.cast (L' := [(0, .ref q), (1, .int (jI z))]) ?_ rfl rfl rfl
  refine sw_aload_n (n := 1) F 0 (some q) rfl rfl rfl dJ22_init_0 rfl ?_
  refine sw_callI (n := 4) F (ct_J7_init (g := xg x) (l := xl x) q ) q2894 q257 q111 q258 rfl nd_J7_init rfl (by decide) [0] rfl [ob (xg x) q 17 [.int (jI 0)]] rfl 0 0 ⟨by omega, by omega⟩ [] rfl (Nat.le_of_ble_eq_true rfl) dJ22_init_1 rfl (fun _ _ h => h.elim) (fun v Ws h => ?_)
  obtain ⟨rfl, rfl⟩ := h
  show SW x [ob (xg x) q 17 [.int (jI 0)]] _ _ _ _ []
  refine sw_aload_n (n := 5) F 0 (some q) rfl rfl rfl dJ22_init_4 rfl ?_
  refine sw_iload_n (n := 6) F 1 rfl rfl dJ22_init_5 rfl ?_
  refine sw_putF (n := 9) F rfl 0 rfl (k := 0) ⟨(RJ22, TJ22, 1), rfl, by decide, q2895, in_J22, Or.inl rfl⟩ .int ⟨(RJ22, TJ22, 1), rfl, rfl, rfl, tyJ22_ok 0 (by decide), nmJ22, tyJ22, tyJ22_ok⟩ rfl rfl (Nat.le_of_ble_eq_true rfl) rfl [ob (xg x) q 17 [.int (jI z)]] rfl dJ22_init_6 rfl ?_
  exact sw_vret F rfl dJ22_init_9 (by rw [hPo]; exact ⟨rfl, rfl⟩)
theorem nd_J22_valueOf : yJ22_valueOf.cls ≠ "java/lang/invoke/MethodHandle" ∧ yJ22_valueOf.cls ≠ "java/lang/invoke/VarHandle" ∧ (parseMethodDescriptor yJ22_valueOf.desc).map (fun d => d.parameters.length) = some 1 := by decide +kernel
set_option maxRecDepth 100000 in
set_option maxHeartbeats 16000000 in
theorem ct_J22_valueOf {g : GG} {l : Launch} (M : Nat → Option PV) (z : Int) (hz : -2147483648 ≤ z ∧ z ≤ 2147483647) : Ct g l yJ22_valueOf (ws_ yJ22_valueOf cJ22_valueOf 1 (Option.some (Jvm.ClassFile.FieldType.object "java/lang/Integer"))) 3 53 1 1 [.int (jI z)] [pl g M] (fun v9 Ws9 => ∃ M1 : Nat → Option PV, ∃ r1 : Nat, v9 = some (.ref r1) ∧ (le_ M M1) ∧ (at_ g M1 r1 (vN z)) ∧ Ws9 = [pl g M1]) (nox) := by
  refine Ct.of (cc := cJ22_valueOf) (nL := 1) (ret := (Option.some (Jvm.ClassFile.FieldType.object "java/lang/Integer"))) (by decide) rfl (Nat.le_of_ble_eq_true rfl) ?_
  intro x hg hl hPo hPx hmc hms F
  subst hg; subst hl
  refine SW.cast (L' := [(0, .int (jI z))]) ?_ rfl rfl rfl
  refine sw_iload_n (n := 1) F 0 rfl rfl dJ22_valueOf_0 rfl ?_
  refine sw_bipush (n := 3) F (-128) (by decide) dJ22_valueOf_1 rfl ?_
  refine sw_icmp_lt (n := 6) F (by omega) (by decide) (tgt := 23) dJ22_valueOf_3 (by decide) rfl (fun c_3 => ?_) (fun c_3 => ?_)
  ·
    refine sw_new (n := 26) F (ci := 17) (N := 1) RJ22 TJ22 tyJ22 rfl q2889 q2890 q130 in_J22 tyJ22_ok (fs := [.int (jI 0)]) rfl 0 0 ⟨by omega, by omega⟩ dJ22_valueOf_23 rfl (fun q_1 => ?_)
    refine sw_dup (n := 27) F rfl dJ22_valueOf_26 rfl ?_
    refine sw_iload_n (n := 28) F 0 rfl rfl dJ22_valueOf_27 rfl ?_
    refine sw_callI (n := 31) F (ct_J22_init (g := xg x) (l := xl x) q_1 z ) q2891 q2892 q130 q2893 rfl nd_J22_init rfl (by decide) [0, 1] rfl [pl (xg x) M] rfl 0 0 ⟨by omega, by omega⟩ [.ref q_1] rfl (Nat.le_of_ble_eq_true rfl) dJ22_valueOf_28 rfl (fun _ _ h => h.elim) (fun v Ws h => ?_)
    obtain ⟨rfl, rfl⟩ := h
    show SW x [ob (xg x) q_1 17 [.int (jI z)], pl (xg x) M] _ _ _ _ [.ref q_1]
    refine sw_absN F (fun M_2 hle_3 hat_4 => ?_)
    show SW x [pl (xg x) M_2] _ _ _ _ [.ref q_1]
    exact sw_aret F (some q_1) _ rfl rfl (by first | exact Or.inl ⟨_, rfl⟩ | exact Or.inr ⟨_, rfl⟩) dJ22_valueOf_31 (by rw [hPo]; exact ⟨M_2, q_1, rfl, hle_3, hat_4, rfl⟩)
  ·
    refine sw_iload_n (n := 7) F 0 rfl rfl dJ22_valueOf_6 rfl ?_
    refine sw_gets (n := 10) F (kICh F.gx.1).1 q2885 (Or.inl rfl) dJ22_valueOf_7 rfl ?_
    refine sw_icmp_gt (n := 13) F (by omega) (by decide) (tgt := 23) dJ22_valueOf_10 (by decide) rfl (fun c_10 => ?_) (fun c_10 => ?_)
    ·
      refine sw_new (n := 26) F (ci := 17) (N := 1) RJ22 TJ22 tyJ22 rfl q2889 q2890 q130 in_J22 tyJ22_ok (fs := [.int (jI 0)]) rfl 0 0 ⟨by omega, by omega⟩ dJ22_valueOf_23 rfl (fun q_5 => ?_)
      refine sw_dup (n := 27) F rfl dJ22_valueOf_26 rfl ?_
      refine sw_iload_n (n := 28) F 0 rfl rfl dJ22_valueOf_27 rfl ?_
      refine sw_callI (n := 31) F (ct_J22_init (g := xg x) (l := xl x) q_5 z ) q2891 q2892 q130 q2893 rfl nd_J22_init rfl (by decide) [0, 1] rfl [pl (xg x) M] rfl 0 0 ⟨by omega, by omega⟩ [.ref q_5] rfl (Nat.le_of_ble_eq_true rfl) dJ22_valueOf_28 rfl (fun _ _ h => h.elim) (fun v Ws h => ?_)
      obtain ⟨rfl, rfl⟩ := h
      show SW x [ob (xg x) q_5 17 [.int (jI z)], pl (xg x) M] _ _ _ _ [.ref q_5]
      refine sw_absN F (fun M_6 hle_7 hat_8 => ?_)
      show SW x [pl (xg x) M_6] _ _ _ _ [.ref q_5]
      exact sw_aret F (some q_5) _ rfl rfl (by first | exact Or.inl ⟨_, rfl⟩ | exact Or.inr ⟨_, rfl⟩) dJ22_valueOf_31 (by rw [hPo]; exact ⟨M_6, q_5, rfl, hle_7, hat_8, rfl⟩)
    ·
      refine sw_gets (n := 16) F (kIC F.gx.1).1 q2887 (Or.inl rfl) dJ22_valueOf_13 rfl ?_
      refine sw_iload_n (n := 17) F 0 rfl rfl dJ22_valueOf_16 rfl ?_
      refine sw_sipush (n := 20) F (128) (by decide) dJ22_valueOf_17 rfl ?_
      refine sw_iadd (n := 21) F dJ22_valueOf_20 rfl ?_
      refine sw_aaloadK (n := 22) F rfl ((kIC F.gx.1).2.1.A F) ((z + 128 : Int).toNat) (by omega) (by omega) dJ22_valueOf_21 rfl ?_
      show SW x _ _ _ _ _ [.ref (tR (xg x) (eIC ((z + 128 : Int).toNat)))]
      have hk_9 : at_ (xg x) M (tR (xg x) (eIC ((z + 128 : Int).toNat))) (vN (z + 128 - 128)) := by have h9 : at_ (xg x) M (tR (xg x) (eIC ((z + 128 : Int).toNat))) (vN (↑((z + 128 : Int).toNat) - 128)) := Or.inr ((kIC F.gx.1).2.2 ((z + 128 : Int).toNat) (by omega)); rw [show (((z + 128 : Int).toNat : Nat) : Int) = z + 128 by omega] at h9; exact h9
      have hkz : at_ (xg x) M (tR (xg x) (eIC ((z + 128 : Int).toNat))) (vN z) := by have h9 := hk_9; rw [show z + 128 - 128 = z by omega] at h9; exact h9
      exact sw_aret F (some (tR (xg x) (eIC ((z + 128 : Int).toNat)))) _ rfl rfl (by first | exact Or.inl ⟨_, rfl⟩ | exact Or.inr ⟨_, rfl⟩) dJ22_valueOf_22 (by rw [hPo]; exact ⟨M, tR (xg x) (eIC ((z + 128 : Int).toNat)), rfl, le_.rf, hkz, rfl⟩)
theorem nd_J22_intValue : yJ22_intValue.cls ≠ "java/lang/invoke/MethodHandle" ∧ yJ22_intValue.cls ≠ "java/lang/invoke/VarHandle" ∧ (parseMethodDescriptor yJ22_intValue.desc).map (fun d => d.parameters.length) = some 0 := by decide +kernel
set_option maxRecDepth 100000 in
set_option maxHeartbeats 16000000 in
theorem ct_J22_intValue {g : GG} {l : Launch} (M : Nat → Option PV) (q : Nat) (z : Int) (hx : at_ g M q (vN z)) : Ct g l yJ22_intValue (ws_ yJ22_intValue cJ22_intValue 1 (Option.some Jvm.ClassFile.FieldType.int)) 1 12 0 0 [.ref q] [pl g M] (fun v9 Ws9 => v9 = some (.int (jI z)) ∧ Ws9 = [pl g M]) (nox) := by
  refine Ct.of (cc := cJ22_intValue) (nL := 1) (ret := (Option.some Jvm.ClassFile.FieldType.int)) (by decide) rfl (Nat.le_of_ble_eq_true rfl) ?_
  intro x hg hl hPo hPx hmc hms F
  subst hg; subst hl
  refine SW.cast (L' := [(0, .ref q)]) ?_ rfl rfl rfl
  refine sw_aload_n (n := 1) F 0 (some q) rfl rfl rfl dJ22_intValue_0 rfl ?_
  refine sw_getK (n := 4) F (plN F 0 rfl hx) (k := 0) ⟨(RJ22, TJ22, 1), rfl, by decide, q2895, in_J22, Or.inl rfl⟩ rfl dJ22_intValue_1 rfl ?_
  exact sw_iret F _ rfl (by first | rfl | exact jI_nz (by omega) | exact jI_nc (by omega)) dJ22_intValue_4 (by rw [hPo]; exact ⟨rfl, rfl⟩)
theorem nd_J22_compare : yJ22_compare.cls ≠ "java/lang/invoke/MethodHandle" ∧ yJ22_compare.cls ≠ "java/lang/invoke/VarHandle" ∧ (parseMethodDescriptor yJ22_compare.desc).map (fun d => d.parameters.length) = some 2 := by decide +kernel
set_option maxRecDepth 100000 in
set_option maxHeartbeats 16000000 in
theorem ct_J22_compare {g : GG} {l : Launch} (a : Int) (b : Int) (ha : -2147483648 ≤ a ∧ a ≤ 2147483647) (hb : -2147483648 ≤ b ∧ b ≤ 2147483647) : Ct g l yJ22_compare (ws_ yJ22_compare cJ22_compare 2 (Option.some Jvm.ClassFile.FieldType.int)) 1 12 0 0 [.int (jI a), .int (jI b)] [] (fun v9 Ws9 => v9 = some (.int (jI (ciI a b))) ∧ Ws9 = []) (nox) := by
  refine Ct.of (cc := cJ22_compare) (nL := 2) (ret := (Option.some Jvm.ClassFile.FieldType.int)) (by decide) rfl (Nat.le_of_ble_eq_true rfl) ?_
  intro x hg hl hPo hPx hmc hms F
  subst hg; subst hl
  refine SW.cast (L' := [(0, .int (jI a)), (1, .int (jI b))]) ?_ rfl rfl rfl
  have hci := ciI_cases a b
  refine sw_iload_n (n := 1) F 0 rfl rfl dJ22_compare_0 rfl ?_
  refine sw_iload_n (n := 2) F 1 rfl rfl dJ22_compare_1 rfl ?_
  refine sw_icmp_ge (n := 5) F (by omega) (by omega) (tgt := 9) dJ22_compare_2 (by decide) rfl (fun c_2 => ?_) (fun c_2 => ?_)
  ·
    refine sw_iload_n (n := 10) F 0 rfl rfl dJ22_compare_9 rfl ?_
    refine sw_iload_n (n := 11) F 1 rfl rfl dJ22_compare_10 rfl ?_
    refine sw_icmp_ne (n := 14) F (by omega) (by omega) (tgt := 18) dJ22_compare_11 (by decide) rfl (fun c_11 => ?_) (fun c_11 => ?_)
    ·
      refine sw_iconst (n := 19) F (1) (by decide) dJ22_compare_18 rfl ?_
      exact sw_iret F _ rfl (by first | rfl | exact jI_nz (by omega) | exact jI_nc (by omega)) dJ22_compare_19 (by rw [hPo]; exact ⟨(by first | (congr 3; omega) | (congr 2; omega) | rfl), rfl⟩)
    ·
      refine sw_iconst (n := 15) F (0) (by decide) dJ22_compare_14 rfl ?_
      refine sw_goto F (n := 19) dJ22_compare_15 (by decide) ?_
      exact sw_iret F _ rfl (by first | rfl | exact jI_nz (by omega) | exact jI_nc (by omega)) dJ22_compare_19 (by rw [hPo]; exact ⟨(by first | (congr 3; omega) | (congr 2; omega) | rfl), rfl⟩)
  ·
    refine sw_iconst (n := 6) F (-1) (by decide) dJ22_compare_5 rfl ?_
    refine sw_goto F (n := 19) dJ22_compare_6 (by decide) ?_
    exact sw_iret F _ rfl (by first | rfl | exact jI_nz (by omega) | exact jI_nc (by omega)) dJ22_compare_19 (by rw [hPo]; exact ⟨(by first | (congr 3; omega) | (congr 2; omega) | rfl), rfl⟩)
theorem nd_J22_compareTo_2 : yJ22_compareTo_2.cls ≠ "java/lang/invoke/MethodHandle" ∧ yJ22_compareTo_2.cls ≠ "java/lang/invoke/VarHandle" ∧ (parseMethodDescriptor yJ22_compareTo_2.desc).map (fun d => d.parameters.length) = some 1 := by decide +kernel
set_option maxRecDepth 100000 in
set_option maxHeartbeats 16000000 in
theorem ct_J22_compareTo_2 {g : GG} {l : Launch} (M : Nat → Option PV) (q : Nat) (z : Int) (q2 : Nat) (z2 : Int) (hx : at_ g M q (vN z)) (hy : at_ g M q2 (vN z2)) (hz : -2147483648 ≤ z ∧ z ≤ 2147483647) (hz2 : -2147483648 ≤ z2 ∧ z2 ≤ 2147483647) : Ct g l yJ22_compareTo_2 (ws_ yJ22_compareTo_2 cJ22_compareTo_2 2 (Option.some Jvm.ClassFile.FieldType.int)) 2 33 0 0 [.ref q, .ref q2] [pl g M] (fun v9 Ws9 => v9 = some (.int (jI (ciI z z2))) ∧ Ws9 = [pl g M]) (nox) := by
  refine Ct.of (cc := cJ22_compareTo_2) (nL := 2) (ret := (Option.some Jvm.ClassFile.FieldType.int)) (by decide) rfl (Nat.le_of_ble_eq_true rfl) ?_
  intro x hg hl hPo hPx hmc hms F
  subst hg; subst hl
  refine SW.cast (L' := [(0, .ref q), (1, .ref q2)]) ?_ rfl rfl rfl
  refine sw_aload_n (n := 1) F 0 (some q) rfl rfl rfl dJ22_compareTo_2_0 rfl ?_
  refine sw_getK (n := 4) F (plN F 0 rfl hx) (k := 0) ⟨(RJ22, TJ22, 1), rfl, by decide, q2895, in_J22, Or.inl rfl⟩ rfl dJ22_compareTo_2_1 rfl ?_
  refine sw_aload_n (n := 5) F 1 (some q2) rfl rfl rfl dJ22_compareTo_2_4 rfl ?_
  refine sw_getK (n := 8) F (plN F 0 rfl hy) (k := 0) ⟨(RJ22, TJ22, 1), rfl, by decide, q2895, in_J22, Or.inl rfl⟩ rfl dJ22_compareTo_2_5 rfl ?_
  refine sw_callS (n := 11) F (ct_J22_compare (g := xg x) (l := xl x) z z2 hz hz2) q2930 q2589 q130 q2590 nd_J22_compare rfl (by decide) [0] rfl [pl (xg x) M] rfl 0 0 ⟨by omega, by omega⟩ [] rfl (Nat.le_of_ble_eq_true rfl) dJ22_compareTo_2_8 rfl (fun _ _ h => h.elim) (fun v Ws h => ?_)
  obtain ⟨rfl, rfl⟩ := h
  show SW x [pl (xg x) M] _ _ _ _ [.int (jI (ciI z z2))]
  exact sw_iret F _ rfl (by first | rfl | exact jI_nz (by omega) | exact jI_nc (by omega)) dJ22_compareTo_2_11 (by rw [hPo]; exact ⟨rfl, rfl⟩)
theorem nd_J22_compareTo : yJ22_compareTo.cls ≠ "java/lang/invoke/MethodHandle" ∧ yJ22_compareTo.cls ≠ "java/lang/invoke/VarHandle" ∧ (parseMethodDescriptor yJ22_compareTo.desc).map (fun d => d.parameters.length) = some 1 := by decide +kernel
set_option maxRecDepth 100000 in
set_option maxHeartbeats 16000000 in
theorem ct_J22_compareTo {g : GG} {l : Launch} (M : Nat → Option PV) (q : Nat) (z : Int) (q2 : Nat) (z2 : Int) (hx : at_ g M q (vN z)) (hy : at_ g M q2 (vN z2)) (hz : -2147483648 ≤ z ∧ z ≤ 2147483647) (hz2 : -2147483648 ≤ z2 ∧ z2 ≤ 2147483647) : Ct g l yJ22_compareTo (ws_ yJ22_compareTo cJ22_compareTo 2 (Option.some Jvm.ClassFile.FieldType.int)) 3 54 0 0 [.ref q, .ref q2] [pl g M] (fun v9 Ws9 => v9 = some (.int (jI (ciI z z2))) ∧ Ws9 = [pl g M]) (nox) := by
  refine Ct.of (cc := cJ22_compareTo) (nL := 2) (ret := (Option.some Jvm.ClassFile.FieldType.int)) (by decide) rfl (Nat.le_of_ble_eq_true rfl) ?_
  intro x hg hl hPo hPx hmc hms F
  subst hg; subst hl
  refine SW.cast (L' := [(0, .ref q), (1, .ref q2)]) ?_ rfl rfl rfl
  refine sw_aload_n (n := 1) F 0 (some q) rfl rfl rfl dJ22_compareTo_0 rfl ?_
  refine sw_aload_n (n := 2) F 1 (some q2) rfl rfl rfl dJ22_compareTo_1 rfl ?_
  refine sw_castO (n := 5) F (kn_rcv F 0 rfl (kn_plN hy) rfl) q2889 dJ22_compareTo_2 rfl ?_
  refine sw_callV (n := 8) F (ct_J22_compareTo_2 (g := xg x) (l := xl x) M q z q2 z2 hx hy hz hz2) (kn_rcv F 0 rfl (kn_plN hx) rfl) q2926 q2927 q2928 q130 q2929 nd_J22_compareTo_2 rfl (by decide) [0] rfl [] rfl 0 0 ⟨by omega, by omega⟩ [] rfl (Nat.le_of_ble_eq_true rfl) dJ22_compareTo_5 rfl (fun _ _ h => h.elim) (fun v Ws h => ?_)
  obtain ⟨rfl, rfl⟩ := h
  show SW x [pl (xg x) M] _ _ _ _ [.int (jI (ciI z z2))]
  exact sw_iret F _ rfl (by first | rfl | exact jI_nz (by omega) | exact jI_nc (by omega)) dJ22_compareTo_8 (by rw [hPo]; exact ⟨rfl, rfl⟩)
