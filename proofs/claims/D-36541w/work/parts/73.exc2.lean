/-! what the start says of Throwable's statics -/
theorem q_lU : Cond.laysStatic Bundle.tN "UNASSIGNED_STACK" Bundle.steD ∈ lw_tbl := q675
theorem q_lN : Cond.laysStatic Bundle.tN "SUPPRESSED_SENTINEL" Bundle.listD ∈ lw_tbl := q677
theorem q_iT : Cond.initialized Bundle.tN ∈ lw_tbl := (lw_all_tbl q121)
set_option maxRecDepth 100000 in
theorem q_rU {g : GG} {l : Launch} (h : ST g l) : (Cond.isRef (.static Bundle.tN "UNASSIGNED_STACK" Bundle.steD)).before #[Value.ref g.2.2.2] (gS g) = true := (nw h [true, false, false, false, true, true, true, true, true, true, true, true, true] rfl)
set_option maxRecDepth 100000 in
theorem q_rN {g : GG} {l : Launch} (h : ST g l) : (Cond.isRef (.static Bundle.tN "SUPPRESSED_SENTINEL" Bundle.listD)).before #[Value.ref g.2.2.2] (gS g) = true := (nw h [true, false, false, true, false, false, false, false, false, false, false, false, false] rfl)
/-! a thrown exception: what leaves the method -/
section EXC2
variable {x : EX} {y : MethodName} {cc : ByteArray} {ret : Option FieldType} {nL fr lo : Nat} {tab : List ExceptionTableEntry} {Ps : List HP} {bc bs pc n : Nat} {L : List (Nat × Value)} {st : List Value}
theorem x_at (F : Fx x y cc ret nL fr lo tab) {W R : List Cond} (ps : List Nat) (h1 : W.filter goodWord = ps.filterMap (fun i => lw_tbl[i]?)) (h2 : W.all (fun w => goodWord w || R.any (fun v => decide (v = w))) = true) (h3 : ∀ w ∈ R, w.before (xa x) (xs x) = true) : ∀ w ∈ W, w.before (xa x) (xs x) = true := by
  intro w hw
  by_cases g : goodWord w = true
  · have hm : w ∈ W.filter goodWord := List.mem_filter.mpr ⟨hw, g⟩
    have hm2 := hm
    rw [h1] at hm2
    obtain ⟨i, -, hi⟩ := List.mem_filterMap.mp hm2
    exact F.wd _ (lw_w i hi g)
  · have h := List.all_eq_true.mp h2 w hw
    rw [Bool.or_eq_true] at h
    obtain ⟨v, hv, e⟩ := List.any_eq_true.mp (h.resolve_left g)
    have e := of_decide_eq_true e
    subst e
    exact h3 _ hv
theorem x_decl (F : Fx x y cc ret nL fr lo tab) {z : MethodName} (h : Cond.declares z ∈ lw_tbl) : (Cond.declares z).before (xa x) (xs x) = true := va_Nw.use rfl (va_Nw.warmD F.gx.2.1 (va_Nw.of rfl (F.gx.1.2.1 _ h)))
theorem x_cast (F : Fx x y cc ret nL fr lo tab) {C D : String} (h : Cond.castable C D ∈ lw_tbl) : (Cond.castable C D).before (xa x) (xs x) = true := va_Nw.use rfl (va_Nw.warmC F.gx.2.1 (va_Nw.of rfl (F.gx.1.2.1 _ h)))
theorem x_Zq (F : Fx x y cc ret nL fr lo tab) {C n d : String} (hl : Cond.laysStatic C n d ∈ lw_tbl) (hi : Cond.initialized C ∈ lw_tbl) (h : (Cond.isRef (.static C n d)).before #[Value.ref (xg x).2.2.2] (gS (xg x)) = true) : vx_Zq C n d (xA x) (xs x) (xs x).heap := by
  have h0 : vx_Zq C n d (fun q => gB (xg x) ≤ q) (gS (xg x)) (gS (xg x)).heap := vx_Zqof (F.gx.1.2.1 _ hl) (F.gx.1.2.1 _ hi) h (gA (xg x))
  exact ((vx_Zq.moved F.gx.2.1.alike h0).narrow F.A0).kept (fun a h1 h2 => by
    rcases Nat.lt_or_ge a (gB (xg x)) with q | q
    · exact F.gx.2.2.2 a q
    · exact absurd h1 (Nat.not_lt.mpr q))
theorem x_ctX (F : Fx x y cc ret nL fr lo tab) {H : Heap} {locs : List Loc} {h : PH} {uc us : Nat} (I : xI x Ps bc bs H locs h uc us) {E : String} (hpx : xPx x E Ps) : ∀ t : State, (xs x).vm.Alike t.vm → H.size ≤ t.heap.size → (∀ q : Nat, q < H.size → t.heap[q]? = H[q]?) → ctX (xh x) (xs x).heap.size (xPx x) E (xs x) t := by
  obtain ⟨hs, hS, hA, hV, i1, i2⟩ := I
  intro t _ h1 h2
  exact ⟨⟨Ps, h, hpx, hs, ph_S_keep hS fun q hq => h2 q (ph_S_lt hS hq), hA⟩, Nat.le_trans hV.1 h1, fun q g1 g2 => (h2 q (Nat.lt_of_lt_of_le g1 hV.1)).trans (hV.2.1 q g1 g2)⟩
theorem sw_throw0 (F : Fx x y cc ret nL fr lo []) {cls : String} {names : List String} {ik ic : Nat} (hcls : Bundle.fit cls = true) (hnames : ∀ n ∈ names, Bundle.fit n = true) (hk : Cond.classLink y.cls ik cls ∈ lw_all) (hini : Cond.initialized cls ∈ lw_all) (hat : ∀ w ∈ vx_at0 y.cls ic cls names, w.before (xa x) (xs x) = true)
    (hgood : ∀ w ∈ Cond.classLink y.cls ik cls :: Cond.initialized cls :: vx_at0 y.cls ic cls names, vx_ot w = true) (d0 : decode cc pc = .ok (.new ik, 3)) (d3 : decode cc (pc + 3) = .ok (.dup, 1)) (d4 : decode cc (pc + 4) = .ok (.invokespecial ic, 3)) (d7 : decode cc (pc + 7) = .ok (.athrow, 1))
    (hR : names.length + 3 < fr ∧ (st.map fun v => v.category).sum + (13 * (names.length + 1) + 42) ≤ lo) (hb : 1 ≤ bc ∧ 6 ≤ bs) (hpx : xPx x cls Ps) : SW x Ps bc bs pc L st := by
  intro H locs h uc us ls I hL
  have i1 := I.2.2.2.2.1
  have i2 := I.2.2.2.2.2
  exact vx_throw0 (A := xA x) F.exec F.code F.gx.1.2.2.2 F.own hcls hnames (F.wd _ hk) (F.wd _ hini) hat hgood (x_Zq F q_lU q_iT (q_rU F.gx.1)) (x_Zq F q_lN q_iT (q_rN F.gx.1)) I.2.2.2.1 ((hL.1.trans F.nl).trans F.mL.symm) d0 d3 d4 d7 (by rw [F.tb]; simp)
    (by show _ < (xn x).1; rw [F.fR]; exact hR.1) (by show _ ≤ (xn x).2.1; rw [F.lO]; exact hR.2) (by show uc + 1 ≤ (xn x).2.2.1; omega) (by show us + 6 ≤ (xn x).2.2.2.1; omega) F.lk (x_ctX F I hpx) I.2.2.2.1.2.2 (by omega) (by omega)
theorem sw_throwSW (F : Fx x y cc ret nL fr lo []) {cls text : String} {names : List String} {ik is ic sa : Nat} (hcls : Bundle.fit cls = true) (hnames : ∀ n ∈ names, Bundle.fit n = true) (hk : Cond.classLink y.cls ik cls ∈ lw_all) (hini : Cond.initialized cls ∈ lw_all) (hstr : vk_R y.cls is text sa (xs x)) (hat : ∀ w ∈ vx_atS y.cls ic cls names, w.before (xa x) (xs x) = true)
    (hgood : ∀ w ∈ Cond.classLink y.cls ik cls :: Cond.initialized cls :: vx_atS y.cls ic cls names, vx_ot w = true) (d0 : decode cc pc = .ok (.new ik, 3)) (d3 : decode cc (pc + 3) = .ok (.dup, 1)) (d4 : decode cc (pc + 4) = .ok (.ldc_w is, 3)) (d7 : decode cc (pc + 7) = .ok (.invokespecial ic, 3)) (d10 : decode cc (pc + 10) = .ok (.athrow, 1))
    (hR : names.length + 3 < fr ∧ (st.map fun v => v.category).sum + (13 * (names.length + 1) + 43) ≤ lo) (hb : 1 ≤ bc ∧ 6 ≤ bs) (hpx : xPx x cls Ps) : SW x Ps bc bs pc L st := by
  intro H locs h uc us ls I hL
  have i1 := I.2.2.2.2.1
  have i2 := I.2.2.2.2.2
  exact vx_throwSW (A := xA x) F.exec F.code F.gx.1.2.2.2 F.own hcls hnames (F.wd _ hk) (F.wd _ hini) hstr hat hgood (x_Zq F q_lU q_iT (q_rU F.gx.1)) (x_Zq F q_lN q_iT (q_rN F.gx.1)) I.2.2.2.1 ((hL.1.trans F.nl).trans F.mL.symm) d0 d3 d4 d7 d10 (by rw [F.tb]; simp)
    (by show _ < (xn x).1; rw [F.fR]; exact hR.1) (by show _ ≤ (xn x).2.1; rw [F.lO]; exact hR.2) (by show uc + 1 ≤ (xn x).2.2.1; omega) (by show us + 6 ≤ (xn x).2.2.2.1; omega) F.lk (x_ctX F I hpx) I.2.2.2.1.2.2 (by omega) (by omega)
theorem xt_X1_IndexOutOfBoundsException (F : Fx x y cc ret nL fr lo tab) : ∀ w ∈ vx_at0 "Tillhouse" 90 "java/lang/IndexOutOfBoundsException" ["java/lang/RuntimeException", "java/lang/Exception"], w.before (xa x) (xs x) = true := x_at F (R := [Cond.declares ⟨"java/lang/RuntimeException", "<init>", "()V"⟩, Cond.declares ⟨"java/lang/Exception", "<init>", "()V"⟩, Cond.declares ⟨"java/lang/Throwable", "<init>", "()V"⟩, Cond.castable "java/lang/IndexOutOfBoundsException" "java/lang/IndexOutOfBoundsException"]) [121, 670, 679, 689, 692, 694, 671, 672, 175, 176, 673, 678, 690, 715, 660, 716, 662, 717, 664, 674, 676, 666, 1594, 1595, 1596, 976, 976, 977, 978, 979, 979, 980, 981, 671, 1593, 1585, 1587, 684, 1588, 1589, 1590, 1591, 713, 668, 1592] (by decide +kernel) (by decide +kernel) (by
  intro w hw
  simp only [List.mem_cons, List.not_mem_nil, or_false] at hw
  rcases hw with rfl | rfl | rfl | rfl
  · exact x_decl F q651
  · exact x_decl F q653
  · exact x_decl F q655
  · exact x_cast F q1586)
theorem xt_X1_IndexOutOfBoundsException_g : ∀ w ∈ Cond.classLink "Tillhouse" 88 "java/lang/IndexOutOfBoundsException" :: Cond.initialized "java/lang/IndexOutOfBoundsException" :: vx_at0 "Tillhouse" 90 "java/lang/IndexOutOfBoundsException" ["java/lang/RuntimeException", "java/lang/Exception"], vx_ot w = true := List.all_eq_true.mp (by decide +kernel)
theorem xt_X1_IllegalArgumentException (F : Fx x y cc ret nL fr lo tab) : ∀ w ∈ vx_at0 "Tillhouse" 93 "java/lang/IllegalArgumentException" ["java/lang/RuntimeException", "java/lang/Exception"], w.before (xa x) (xs x) = true := x_at F (R := [Cond.declares ⟨"java/lang/RuntimeException", "<init>", "()V"⟩, Cond.declares ⟨"java/lang/Exception", "<init>", "()V"⟩, Cond.declares ⟨"java/lang/Throwable", "<init>", "()V"⟩, Cond.castable "java/lang/IllegalArgumentException" "java/lang/IllegalArgumentException"]) [121, 670, 679, 689, 692, 694, 671, 672, 175, 176, 673, 678, 690, 715, 660, 716, 662, 717, 664, 674, 676, 666, 1606, 1607, 1608, 976, 976, 977, 978, 979, 979, 980, 981, 671, 1605, 649, 657, 658, 659, 661, 663, 665, 713, 668, 667] (by decide +kernel) (by decide +kernel) (by
  intro w hw
  simp only [List.mem_cons, List.not_mem_nil, or_false] at hw
  rcases hw with rfl | rfl | rfl | rfl
  · exact x_decl F q651
  · exact x_decl F q653
  · exact x_decl F q655
  · exact x_cast F q650)
theorem xt_X1_IllegalArgumentException_g : ∀ w ∈ Cond.classLink "Tillhouse" 91 "java/lang/IllegalArgumentException" :: Cond.initialized "java/lang/IllegalArgumentException" :: vx_at0 "Tillhouse" 93 "java/lang/IllegalArgumentException" ["java/lang/RuntimeException", "java/lang/Exception"], vx_ot w = true := List.all_eq_true.mp (by decide +kernel)
theorem xt_X1_NoSuchElementException (F : Fx x y cc ret nL fr lo tab) : ∀ w ∈ vx_at0 "Tillhouse" 96 "java/util/NoSuchElementException" ["java/lang/RuntimeException", "java/lang/Exception"], w.before (xa x) (xs x) = true := x_at F (R := [Cond.declares ⟨"java/lang/RuntimeException", "<init>", "()V"⟩, Cond.declares ⟨"java/lang/Exception", "<init>", "()V"⟩, Cond.declares ⟨"java/lang/Throwable", "<init>", "()V"⟩, Cond.castable "java/util/NoSuchElementException" "java/util/NoSuchElementException"]) [121, 670, 679, 689, 692, 694, 671, 672, 175, 176, 673, 678, 690, 715, 660, 716, 662, 717, 664, 674, 676, 666, 973, 974, 975, 976, 976, 977, 978, 979, 979, 980, 981, 671, 2526, 964, 966, 688, 967, 968, 969, 970, 713, 668, 971] (by decide +kernel) (by decide +kernel) (by
  intro w hw
  simp only [List.mem_cons, List.not_mem_nil, or_false] at hw
  rcases hw with rfl | rfl | rfl | rfl
  · exact x_decl F q651
  · exact x_decl F q653
  · exact x_decl F q655
  · exact x_cast F q965)
theorem xt_X1_NoSuchElementException_g : ∀ w ∈ Cond.classLink "Tillhouse" 94 "java/util/NoSuchElementException" :: Cond.initialized "java/util/NoSuchElementException" :: vx_at0 "Tillhouse" 96 "java/util/NoSuchElementException" ["java/lang/RuntimeException", "java/lang/Exception"], vx_ot w = true := List.all_eq_true.mp (by decide +kernel)
theorem xt_X1_UnsupportedOperationException (F : Fx x y cc ret nL fr lo tab) : ∀ w ∈ vx_at0 "Tillhouse" 99 "java/lang/UnsupportedOperationException" ["java/lang/RuntimeException", "java/lang/Exception"], w.before (xa x) (xs x) = true := x_at F (R := [Cond.declares ⟨"java/lang/RuntimeException", "<init>", "()V"⟩, Cond.declares ⟨"java/lang/Exception", "<init>", "()V"⟩, Cond.declares ⟨"java/lang/Throwable", "<init>", "()V"⟩, Cond.castable "java/lang/UnsupportedOperationException" "java/lang/UnsupportedOperationException"]) [121, 670, 679, 689, 692, 694, 671, 672, 175, 176, 673, 678, 690, 715, 660, 716, 662, 717, 664, 674, 676, 666, 3400, 3401, 3402, 976, 976, 977, 978, 979, 979, 980, 981, 671, 3399, 3391, 3393, 687, 3394, 3395, 3396, 3397, 713, 668, 3398] (by decide +kernel) (by decide +kernel) (by
  intro w hw
  simp only [List.mem_cons, List.not_mem_nil, or_false] at hw
  rcases hw with rfl | rfl | rfl | rfl
  · exact x_decl F q651
  · exact x_decl F q653
  · exact x_decl F q655
  · exact x_cast F q3392)
theorem xt_X1_UnsupportedOperationException_g : ∀ w ∈ Cond.classLink "Tillhouse" 97 "java/lang/UnsupportedOperationException" :: Cond.initialized "java/lang/UnsupportedOperationException" :: vx_at0 "Tillhouse" 99 "java/lang/UnsupportedOperationException" ["java/lang/RuntimeException", "java/lang/Exception"], vx_ot w = true := List.all_eq_true.mp (by decide +kernel)
theorem xt_X1_IllegalStateException (F : Fx x y cc ret nL fr lo tab) : ∀ w ∈ vx_at0 "Tillhouse" 102 "java/lang/IllegalStateException" ["java/lang/RuntimeException", "java/lang/Exception"], w.before (xa x) (xs x) = true := x_at F (R := [Cond.declares ⟨"java/lang/RuntimeException", "<init>", "()V"⟩, Cond.declares ⟨"java/lang/Exception", "<init>", "()V"⟩, Cond.declares ⟨"java/lang/Throwable", "<init>", "()V"⟩, Cond.castable "java/lang/IllegalStateException" "java/lang/IllegalStateException"]) [121, 670, 679, 689, 692, 694, 671, 672, 175, 176, 673, 678, 690, 715, 660, 716, 662, 717, 664, 674, 676, 666, 1646, 1647, 1648, 976, 976, 977, 978, 979, 979, 980, 981, 671, 1645, 1637, 1639, 683, 1640, 1641, 1642, 1643, 713, 668, 1644] (by decide +kernel) (by decide +kernel) (by
  intro w hw
  simp only [List.mem_cons, List.not_mem_nil, or_false] at hw
  rcases hw with rfl | rfl | rfl | rfl
  · exact x_decl F q651
  · exact x_decl F q653
  · exact x_decl F q655
  · exact x_cast F q1638)
theorem xt_X1_IllegalStateException_g : ∀ w ∈ Cond.classLink "Tillhouse" 100 "java/lang/IllegalStateException" :: Cond.initialized "java/lang/IllegalStateException" :: vx_at0 "Tillhouse" 102 "java/lang/IllegalStateException" ["java/lang/RuntimeException", "java/lang/Exception"], vx_ot w = true := List.all_eq_true.mp (by decide +kernel)
theorem xt_X1_ArithmeticException (F : Fx x y cc ret nL fr lo tab) : ∀ w ∈ vx_at0 "Tillhouse" 105 "java/lang/ArithmeticException" ["java/lang/RuntimeException", "java/lang/Exception"], w.before (xa x) (xs x) = true := x_at F (R := [Cond.declares ⟨"java/lang/RuntimeException", "<init>", "()V"⟩, Cond.declares ⟨"java/lang/Exception", "<init>", "()V"⟩, Cond.declares ⟨"java/lang/Throwable", "<init>", "()V"⟩, Cond.castable "java/lang/ArithmeticException" "java/lang/ArithmeticException"]) [121, 670, 679, 689, 692, 694, 671, 672, 175, 176, 673, 678, 690, 715, 660, 716, 662, 717, 664, 674, 676, 666, 1686, 1687, 1688, 976, 976, 977, 978, 979, 979, 980, 981, 671, 1685, 1120, 1122, 681, 1123, 1124, 1125, 1126, 713, 668, 1127] (by decide +kernel) (by decide +kernel) (by
  intro w hw
  simp only [List.mem_cons, List.not_mem_nil, or_false] at hw
  rcases hw with rfl | rfl | rfl | rfl
  · exact x_decl F q651
  · exact x_decl F q653
  · exact x_decl F q655
  · exact x_cast F q1121)
theorem xt_X1_ArithmeticException_g : ∀ w ∈ Cond.classLink "Tillhouse" 103 "java/lang/ArithmeticException" :: Cond.initialized "java/lang/ArithmeticException" :: vx_at0 "Tillhouse" 105 "java/lang/ArithmeticException" ["java/lang/RuntimeException", "java/lang/Exception"], vx_ot w = true := List.all_eq_true.mp (by decide +kernel)
theorem xt_J8_ArithmeticExceptionS (F : Fx x y cc ret nL fr lo tab) : ∀ w ∈ vx_atS "java/math/BigDecimal" 388 "java/lang/ArithmeticException" ["java/lang/RuntimeException", "java/lang/Exception"], w.before (xa x) (xs x) = true := x_at F (R := [Cond.declares ⟨"java/lang/RuntimeException", "<init>", "(Ljava/lang/String;)V"⟩, Cond.declares ⟨"java/lang/Exception", "<init>", "(Ljava/lang/String;)V"⟩, Cond.declares ⟨"java/lang/Throwable", "<init>", "(Ljava/lang/String;)V"⟩, Cond.castable "java/lang/ArithmeticException" "java/lang/ArithmeticException"]) [121, 670, 679, 689, 692, 694, 671, 672, 175, 176, 673, 678, 690, 715, 660, 716, 662, 717, 664, 674, 676, 666, 711, 712, 714, 666, 1130, 1131, 1132, 705, 705, 706, 707, 708, 708, 709, 710, 711, 1295, 1120, 1122, 681, 1123, 1124, 1125, 1126, 713, 668, 1127] (by decide +kernel) (by decide +kernel) (by
  intro w hw
  simp only [List.mem_cons, List.not_mem_nil, or_false] at hw
  rcases hw with rfl | rfl | rfl | rfl
  · exact x_decl F q652
  · exact x_decl F q654
  · exact x_decl F q656
  · exact x_cast F q1121)
theorem xt_J8_ArithmeticExceptionS_g : ∀ w ∈ Cond.classLink "java/math/BigDecimal" 384 "java/lang/ArithmeticException" :: Cond.initialized "java/lang/ArithmeticException" :: vx_atS "java/math/BigDecimal" 388 "java/lang/ArithmeticException" ["java/lang/RuntimeException", "java/lang/Exception"], vx_ot w = true := List.all_eq_true.mp (by decide +kernel)
theorem x_str (F : Fx x y cc ret nL fr lo tab) {text : String} {is : Nat} (h : Cond.stringRef y.cls is text ∈ lw_tbl) : ∃ sa, vk_R y.cls is text sa (xs x) := by
  have h1 := F.gx.1.2.1 _ h
  have hc : (gS (xg x)).vm.findClass y.cls = some (xm x).cls := by rw [← F.gx.2.1.alike.findClass]; exact F.own
  obtain ⟨k, cf, i, a, -, -, -, -, -, e⟩ := Cond.stringRef_spec hc h1
  exact ⟨a, vk_R.warm F.gx.2.1 (vk_R.of h1 e)⟩
end EXC2
