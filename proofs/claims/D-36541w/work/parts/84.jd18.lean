set_option maxRecDepth 100000

def qtV (u w r m : Int) : Int := if 0 ≤ r then rdV (u * tn r) w m else rdV u (w * tn (-r)) m
def qtF (u w r m : Int) : Bool := if 0 ≤ r then rdF (u * tn r) w m else rdF u (w * tn (-r)) m
theorem qt_p {u w r m : Int} (h : 0 ≤ r) : qtV u w r m = rdV (u * tn r) w m ∧ qtF u w r m = rdF (u * tn r) w m := by unfold qtV qtF; rw [if_pos h, if_pos h]; exact ⟨rfl, rfl⟩
theorem qt_n {u w r m : Int} (h : r ≤ 0) : qtV u w r m = rdV u (w * tn (-r)) m ∧ qtF u w r m = rdF u (w * tn (-r)) m := by
  rcases Int.lt_or_le r 0 with c | c
  · unfold qtV qtF; rw [if_neg (by omega), if_neg (by omega)]; exact ⟨rfl, rfl⟩
  · rw [(qt_p c).1, (qt_p c).2, tn_0 (by omega), tn_0 (show -r ≤ 0 by omega), Int.mul_one, Int.mul_one]; exact ⟨rfl, rfl⟩
theorem mul_n0 {a k : Int} (h : a ≠ 0) : a * tn k ≠ 0 := Int.mul_ne_zero h (by have := tn_pos k; omega)
theorem nofit_lt {x z : Int} (hx : -9223372036854775807 ≤ x ∧ x ≤ 9223372036854775807) (h : ¬ fit z) : x.natAbs < z.natAbs := by unfold fit at h; omega
theorem nd_J8_divide_3 : yJ8_divide_3.cls ≠ "java/lang/invoke/MethodHandle" ∧ yJ8_divide_3.cls ≠ "java/lang/invoke/VarHandle" ∧ (parseMethodDescriptor yJ8_divide_3.desc).map (fun d => d.parameters.length) = some 6 := by decide +kernel
set_option maxRecDepth 100000 in
set_option maxHeartbeats 16000000 in
theorem ct_J8_divide_3 {g : GG} {l : Launch} (M : Nat → Option PV) (x_ : Int) (s0 : Int) (y_ : Int) (t : Int) (n : Int) (m : Int) (hx : -9223372036854775807 ≤ x_ ∧ x_ ≤ 9223372036854775807) (hx0 : x_ ≠ 0 ∨ 0 ≤ n + t - s0) (hn : -1000 ≤ n ∧ n ≤ 1000) (hs : -1000 ≤ s0 ∧ s0 ≤ 1000) (ht : -1000 ≤ t ∧ t ≤ 1000) (hr18 : -18 ≤ n + t - s0 ∧ n + t - s0 ≤ 18) (hy : -4611686018427387904 ≤ y_ ∧ y_ ≤ 4611686018427387904) (hy0 : y_ ≠ 0) (hm : 0 ≤ m ∧ m ≤ 7) : Ct g l yJ8_divide_3 (ws_ yJ8_divide_3 cJ8_divide_3 13 (Option.some (Jvm.ClassFile.FieldType.object "java/math/BigDecimal"))) 10 237 16 86 [.long (jL x_), .int (jI s0), .long (jL y_), .int (jI t), .int (jI n), .int (jI m)] [pl g M] (fun v9 Ws9 => ∃ M1 : Nat → Option PV, ∃ r1 : Nat, ∃ o1 : Option Nat, ∃ V : Int, v9 = some (.ref r1) ∧ (le_ M M1) ∧ (at_ g M1 r1 (vD V n o1)) ∧ (V = qtV x_ y_ (n + t - s0) m ∨ (qtV x_ y_ (n + t - s0) m = 9223372036854775808 ∧ V = -9223372036854775808)) ∧ (qtF x_ y_ (n + t - s0) m = false) ∧ Ws9 = [pl g M1]) (fun E9 Ws9 => (∃ M1 : Nat → Option PV, E9 = "java/lang/ArithmeticException" ∧ (le_ M M1) ∧ (qtF x_ y_ (n + t - s0) m = true) ∧ Ws9 = [pl g M1])) := by
  refine Ct.of (cc := cJ8_divide_3) (nL := 13) (ret := (Option.some (Jvm.ClassFile.FieldType.object "java/math/BigDecimal"))) (by decide) rfl (Nat.le_of_ble_eq_true rfl) ?_
  intro x hg hl hPo hPx hmc hms F
  subst hg; subst hl
  refine SW.cast (L' := [(0, .long (jL x_)), (2, .int (jI s0)), (3, .long (jL y_)), (5, .int (jI t)), (6, .int (jI n)), (7, .int (jI m))]) ?_ rfl rfl rfl
  obtain ⟨r, hr⟩ : ∃ z : Int, n + t - s0 = z := ⟨_, rfl⟩
  have htp := tn_pos r
  have htn := tn_pos (-r)
  refine sw_lload_n (n := 1) F 0 rfl rfl dJ8_divide_3_0 rfl ?_
  refine sw_iload (n := 3) F 4 rfl dJ8_divide_3_1 rfl ?_
  refine sw_i2l (n := 4) F (by omega) dJ8_divide_3_3 rfl ?_
  refine sw_iload (n := 6) F 3 rfl dJ8_divide_3_4 rfl ?_
  refine sw_i2l (n := 7) F (by omega) dJ8_divide_3_6 rfl ?_
  refine sw_ladd (n := 8) F dJ8_divide_3_7 rfl ?_
  refine sw_callS (n := 11) F (ct_J8_checkScale (g := xg x) (l := xl x) x_ (n + t) (by first | omega | assumption) (by first | omega | assumption)) q1286 q1287 q112 q1288 nd_J8_checkScale rfl (by decide) [0] rfl [pl (xg x) M] rfl 16 86 ⟨by omega, by omega⟩ [] rfl (Nat.le_of_ble_eq_true rfl) dJ8_divide_3_8 rfl (fun _ _ h => h.elim) (fun v Ws h => ?_)
  obtain ⟨rfl, rfl⟩ := h
  show SW x [pl (xg x) M] _ _ _ _ [.int (jI (n + t))]
  refine sw_iload_n (n := 12) F 1 rfl rfl dJ8_divide_3_11 rfl ?_
  refine sw_icmp_le (n := 15) F (by omega) (by omega) (tgt := 118) dJ8_divide_3_12 (by decide) rfl (fun c_12 => ?_) (fun c_12 => ?_)
  ·
    refine sw_lload_n (n := 119) F 2 rfl rfl dJ8_divide_3_118 rfl ?_
    refine sw_iload_n (n := 120) F 1 rfl rfl dJ8_divide_3_119 rfl ?_
    refine sw_i2l (n := 121) F (by omega) dJ8_divide_3_120 rfl ?_
    refine sw_iload (n := 123) F 4 rfl dJ8_divide_3_121 rfl ?_
    refine sw_i2l (n := 124) F (by omega) dJ8_divide_3_123 rfl ?_
    refine sw_lsub (n := 125) F dJ8_divide_3_124 rfl ?_
    refine sw_callS (n := 128) F (ct_J8_checkScale (g := xg x) (l := xl x) y_ (s0 - n) (by first | omega | assumption) (by first | omega | assumption)) q1286 q1287 q112 q1288 nd_J8_checkScale rfl (by decide) [0] rfl [pl (xg x) M] rfl 16 86 ⟨by omega, by omega⟩ [] rfl (Nat.le_of_ble_eq_true rfl) dJ8_divide_3_125 rfl (fun _ _ h => h.elim) (fun v Ws h => ?_)
    obtain ⟨rfl, rfl⟩ := h
    show SW x [pl (xg x) M] _ _ _ _ [.int (jI (s0 - n))]
    refine sw_istore (n := 130) F (L2 := [(8, .int (jI (s0 - n))), (0, .long (jL x_)), (2, .int (jI s0)), (3, .long (jL y_)), (5, .int (jI t)), (6, .int (jI n)), (7, .int (jI m))]) rfl (by decide) dJ8_divide_3_128 rfl ?_
    refine sw_iload (n := 132) F 0 rfl dJ8_divide_3_130 rfl ?_
    refine sw_iload (n := 134) F 4 rfl dJ8_divide_3_132 rfl ?_
    refine sw_isub (n := 135) F dJ8_divide_3_134 rfl ?_
    refine sw_istore (n := 137) F (L2 := [(9, .int (jI ((s0 - n) - t))), (8, .int (jI (s0 - n))), (0, .long (jL x_)), (2, .int (jI s0)), (3, .long (jL y_)), (5, .int (jI t)), (6, .int (jI n)), (7, .int (jI m))]) rfl (by decide) dJ8_divide_3_135 rfl ?_
    refine SW.cast (L' := [(9, .int (jI (-r))), (8, .int (jI (s0 - n))), (0, .long (jL x_)), (2, .int (jI s0)), (3, .long (jL y_)), (5, .int (jI t)), (6, .int (jI n)), (7, .int (jI m))]) ?_ rfl (by rw [show Value.int (jI ((s0 - n) - t)) = Value.int (jI (-r)) from topI (by omega)]) rfl
    have hqn := qt_n (u := x_) (w := y_) (m := m) (show r ≤ 0 by omega)
    refine sw_iload (n := 139) F 0 rfl dJ8_divide_3_137 rfl ?_
    refine sw_gets (n := 142) F (kLTP F.gx.1).1 q1299 (Or.inl rfl) dJ8_divide_3_139 rfl ?_
    refine sw_alenK (n := 143) F ((kLTP F.gx.1).2.A F) dJ8_divide_3_142 rfl ?_
    show SW x _ _ _ _ _ [.int (jI 19), .int (jI (-r))]
    refine sw_icmp_ge (n := 146) F (by omega) (by decide) (tgt := 179) dJ8_divide_3_143 (by decide) rfl (fun c_143 => ?_) (fun c_143 => ?_)
    · exfalso; omega
    ·
      refine sw_lload_n (n := 147) F 4 rfl rfl dJ8_divide_3_146 rfl ?_
      refine sw_lstore (n := 149) F (L2 := [(10, .long (jL y_)), (9, .int (jI (-r))), (8, .int (jI (s0 - n))), (0, .long (jL x_)), (2, .int (jI s0)), (3, .long (jL y_)), (5, .int (jI t)), (6, .int (jI n)), (7, .int (jI m))]) rfl (by decide) dJ8_divide_3_147 rfl ?_
      refine sw_lload (n := 151) F 0 rfl dJ8_divide_3_149 rfl ?_
      refine sw_iload (n := 153) F 1 rfl dJ8_divide_3_151 rfl ?_
      refine sw_callS (n := 156) F (ct_J8_longMultiplyPowerTen (g := xg x) (l := xl x) y_ (-r) (by first | omega | assumption) (by first | omega | assumption)) q1296 q1297 q112 q1298 nd_J8_longMultiplyPowerTen rfl (by decide) [0] rfl [pl (xg x) M] rfl 16 86 ⟨by omega, by omega⟩ [] rfl (Nat.le_of_ble_eq_true rfl) dJ8_divide_3_153 rfl (fun _ _ h => h.elim) (fun v Ws h => ?_)
      obtain ⟨rfl, rfl⟩ := h
      show SW x [pl (xg x) M] _ _ _ _ [.long (jL (cpt (y_ * ((10 ^ (-r).toNat : Nat) : Int))))]
      have hcc := cpt_cases (y_ * tn (-r))
      refine sw_top (topL (show (cpt (y_ * ((10 ^ (-r).toNat : Nat) : Int)) : Int) = cpt (y_ * tn (-r)) by rfl)) ?_
      have hyn := mul_n0 (k := -r) hy0
      refine sw_dup2 (n := 157) F rfl dJ8_divide_3_156 rfl ?_
      refine sw_lstore (n := 159) F (L2 := [(10, .long (jL (cpt (y_ * tn (-r))))), (9, .int (jI (-r))), (8, .int (jI (s0 - n))), (0, .long (jL x_)), (2, .int (jI s0)), (3, .long (jL y_)), (5, .int (jI t)), (6, .int (jI n)), (7, .int (jI m))]) rfl (by decide) dJ8_divide_3_157 rfl ?_
      refine sw_ldc2 (n := 162) F (-9223372036854775808) q250 (by decide) dJ8_divide_3_159 rfl ?_
      refine sw_lcmp (n := 163) F (by omega) (by decide) dJ8_divide_3_162 rfl ?_
      refine sw_if_eq (n := 166) F (lc_rng _ _) (tgt := 179) dJ8_divide_3_163 (by decide) rfl (fun c_163 => ?_) (fun c_163 => ?_)
      ·
        have c_163 := lc_eq c_163
        have hnf := cpt_y c_163
        have hx9 : x_ ≠ 0 := by rcases hx0 with h9 | h9; exact h9; (exfalso; rw [tn_0 (show -r ≤ 0 by omega), Int.mul_one] at hnf; exact hnf ⟨by omega, by omega⟩)
        refine sw_lload_n (n := 180) F 5 rfl rfl dJ8_divide_3_179 rfl ?_
        refine sw_iload (n := 182) F 1 rfl dJ8_divide_3_180 rfl ?_
        refine sw_callS (n := 185) F (ct_J8_bigMultiplyPowerTen (g := xg x) (l := xl x) M y_ (-r) (by first | omega | assumption) (by first | omega | assumption)) q1304 q1305 q112 q1306 nd_J8_bigMultiplyPowerTen rfl (by decide) [0] rfl [] rfl 13 66 ⟨by omega, by omega⟩ [] rfl (Nat.le_of_ble_eq_true rfl) dJ8_divide_3_182 rfl (fun _ _ h => h.elim) (fun v Ws h => ?_)
        obtain ⟨M1_1, r1_2, a1_3, rfl, hle_4, hat_5, rfl⟩ := h
        show SW x [pl (xg x) M1_1] _ _ _ _ [.ref r1_2]
        refine sw_astore (n := 187) F (some r1_2) (L2 := [(10, .ref r1_2), (9, .int (jI (-r))), (8, .int (jI (s0 - n))), (0, .long (jL x_)), (2, .int (jI s0)), (3, .long (jL y_)), (5, .int (jI t)), (6, .int (jI n)), (7, .int (jI m))]) rfl rfl (by decide) dJ8_divide_3_185 rfl ?_
        refine sw_lload_n (n := 188) F 3 rfl rfl dJ8_divide_3_187 rfl ?_
        refine sw_callS (n := 191) F (ct_J19_valueOf (g := xg x) (l := xl x) M1_1 x_ (by first | omega | assumption)) q1054 q1055 q127 q1056 nd_J19_valueOf rfl (by decide) [0] rfl [] rfl 11 58 ⟨by omega, by omega⟩ [] rfl (Nat.le_of_ble_eq_true rfl) dJ8_divide_3_188 rfl (fun _ _ h => h.elim) (fun v Ws h => ?_)
        obtain ⟨M1_6, r1_7, a1_8, rfl, hle_9, hat_10, rfl⟩ := h
        show SW x [pl (xg x) M1_6] _ _ _ _ [.ref r1_7]
        refine sw_aload (n := 193) F 0 (some r1_2) rfl rfl dJ8_divide_3_191 rfl ?_
        refine sw_iload (n := 195) F 7 rfl dJ8_divide_3_193 rfl ?_
        refine sw_iload (n := 197) F 8 rfl dJ8_divide_3_195 rfl ?_
        refine sw_iload (n := 199) F 7 rfl dJ8_divide_3_197 rfl ?_
        refine sw_callS (n := 202) F (ct_J8_divideAndRound_5 (g := xg x) (l := xl x) M1_6 r1_7 x_ a1_8 r1_2 (y_ * tn (-r)) a1_3 n m hat_10 (at_.up hat_5 hle_9) hx9 (by exact nA_63 (by omega) (by decide)) (by exact Nat.lt_of_lt_of_le (mulT_bw (nA_63 (by omega) (Nat.le_refl 2)) (by omega)) (bw_mono (by decide))) (by exact nofit_lt hx hnf) hm (by first | omega | assumption)) q2665 q2666 q112 q2667 nd_J8_divideAndRound_5 rfl (by decide) [0] rfl [] rfl 0 4 ⟨by omega, by omega⟩ [] rfl (Nat.le_of_ble_eq_true rfl) dJ8_divide_3_199 rfl (fun E Ws h => ?_) (fun v Ws h => ?_)
        ·
          obtain ⟨rfl, hrf_17, rfl⟩ := h
          show SX x [pl (xg x) M1_6] _ _ _ _ _
          exact sx_out F (by rw [hPx]; exact ⟨M1_6, rfl, (le_.tr hle_4 hle_9), (by first | (rw [hr, hqp.2]; assumption) | (rw [hr, hqn.2]; assumption) | (rw [hr, hqp.2, Int.mul_comm]; assumption)), rfl⟩)
        ·
          obtain ⟨M1_11, r1_12, o1_13, rfl, hle_14, hat_15, hrf_16, rfl⟩ := h
          show SW x [pl (xg x) M1_11] _ _ _ _ [.ref r1_12]
          exact sw_aret F (some r1_12) _ rfl rfl (by first | exact Or.inl ⟨_, rfl⟩ | exact Or.inr ⟨_, rfl⟩) dJ8_divide_3_202 (by rw [hPo]; exact ⟨M1_11, r1_12, o1_13, rdV x_ (y_ * tn (-r)) m, rfl, (le_.tr (le_.tr hle_4 hle_9) hle_14), hat_15, (by first | (left; rw [hr, hqp.1]; done) | (left; rw [hr, hqn.1]; done) | (rw [hr, hqp.1, Int.mul_comm]; assumption)), (by first | (rw [hr, hqp.2]; assumption) | (rw [hr, hqn.2]; assumption) | (rw [hr, hqp.2, Int.mul_comm]; assumption)), rfl⟩)
      ·
        have c_163 := lc_ne c_163
        refine SW.cast (L' := [(10, .long (jL (y_ * tn (-r)))), (9, .int (jI (-r))), (8, .int (jI (s0 - n))), (0, .long (jL x_)), (2, .int (jI s0)), (3, .long (jL y_)), (5, .int (jI t)), (6, .int (jI n)), (7, .int (jI m))]) ?_ rfl (by rw [show Value.long (jL (cpt (y_ * tn (-r)))) = Value.long (jL (y_ * tn (-r))) from topL (by omega)]) rfl
        refine sw_lload_n (n := 167) F 3 rfl rfl dJ8_divide_3_166 rfl ?_
        refine sw_lload (n := 169) F 0 rfl dJ8_divide_3_167 rfl ?_
        refine sw_iload (n := 171) F 7 rfl dJ8_divide_3_169 rfl ?_
        refine sw_iload (n := 173) F 8 rfl dJ8_divide_3_171 rfl ?_
        refine sw_iload (n := 175) F 7 rfl dJ8_divide_3_173 rfl ?_
        refine sw_callS (n := 178) F (ct_J8_divideAndRound_4 (g := xg x) (l := xl x) M x_ (y_ * tn (-r)) n m hx (by first | omega | assumption) (by first | omega | assumption) hm (by first | omega | assumption)) q2662 q2663 q112 q2664 nd_J8_divideAndRound_4 rfl (by decide) [0] rfl [] rfl 14 75 ⟨by omega, by omega⟩ [] rfl (Nat.le_of_ble_eq_true rfl) dJ8_divide_3_175 rfl (fun E Ws h => ?_) (fun v Ws h => ?_)
        ·
          obtain ⟨rfl, hrf_24, rfl⟩ := h
          show SX x [pl (xg x) M] _ _ _ _ _
          exact sx_out F (by rw [hPx]; exact ⟨M, rfl, le_.rf, (by first | (rw [hr, hqp.2]; assumption) | (rw [hr, hqn.2]; assumption) | (rw [hr, hqp.2, Int.mul_comm]; assumption)), rfl⟩)
        ·
          obtain ⟨M1_18, r1_19, o1_20, rfl, hle_21, hat_22, hrf_23, rfl⟩ := h
          show SW x [pl (xg x) M1_18] _ _ _ _ [.ref r1_19]
          exact sw_aret F (some r1_19) _ rfl rfl (by first | exact Or.inl ⟨_, rfl⟩ | exact Or.inr ⟨_, rfl⟩) dJ8_divide_3_178 (by rw [hPo]; exact ⟨M1_18, r1_19, o1_20, rdV x_ (y_ * tn (-r)) m, rfl, hle_21, hat_22, (by first | (left; rw [hr, hqp.1]; done) | (left; rw [hr, hqn.1]; done) | (rw [hr, hqp.1, Int.mul_comm]; assumption)), (by first | (rw [hr, hqp.2]; assumption) | (rw [hr, hqn.2]; assumption) | (rw [hr, hqp.2, Int.mul_comm]; assumption)), rfl⟩)
  ·
    refine sw_iload (n := 17) F 4 rfl dJ8_divide_3_15 rfl ?_
    refine sw_iload (n := 19) F 3 rfl dJ8_divide_3_17 rfl ?_
    refine sw_iadd (n := 20) F dJ8_divide_3_19 rfl ?_
    refine sw_istore (n := 22) F (L2 := [(8, .int (jI (n + t))), (0, .long (jL x_)), (2, .int (jI s0)), (3, .long (jL y_)), (5, .int (jI t)), (6, .int (jI n)), (7, .int (jI m))]) rfl (by decide) dJ8_divide_3_20 rfl ?_
    refine sw_iload (n := 24) F 0 rfl dJ8_divide_3_22 rfl ?_
    refine sw_iload_n (n := 25) F 2 rfl rfl dJ8_divide_3_24 rfl ?_
    refine sw_isub (n := 26) F dJ8_divide_3_25 rfl ?_
    refine sw_istore (n := 28) F (L2 := [(9, .int (jI ((n + t) - s0))), (8, .int (jI (n + t))), (0, .long (jL x_)), (2, .int (jI s0)), (3, .long (jL y_)), (5, .int (jI t)), (6, .int (jI n)), (7, .int (jI m))]) rfl (by decide) dJ8_divide_3_26 rfl ?_
    refine SW.cast (L' := [(9, .int (jI r)), (8, .int (jI (n + t))), (0, .long (jL x_)), (2, .int (jI s0)), (3, .long (jL y_)), (5, .int (jI t)), (6, .int (jI n)), (7, .int (jI m))]) ?_ rfl (by rw [show Value.int (jI ((n + t) - s0)) = Value.int (jI r) from topI (by omega)]) rfl
    have hqp := qt_p (u := x_) (w := y_) (m := m) (show 0 ≤ r by omega)
    have ht18 := tn_18 (k := r) (by omega)
    refine sw_iload (n := 30) F 0 rfl dJ8_divide_3_28 rfl ?_
    refine sw_gets (n := 33) F (kLTP F.gx.1).1 q1299 (Or.inl rfl) dJ8_divide_3_30 rfl ?_
    refine sw_alenK (n := 34) F ((kLTP F.gx.1).2.A F) dJ8_divide_3_33 rfl ?_
    show SW x _ _ _ _ _ [.int (jI 19), .int (jI r)]
    refine sw_icmp_ge (n := 37) F (by omega) (by decide) (tgt := 97) dJ8_divide_3_34 (by decide) rfl (fun c_34 => ?_) (fun c_34 => ?_)
    · exfalso; omega
    ·
      refine sw_lload_n (n := 38) F 2 rfl rfl dJ8_divide_3_37 rfl ?_
      refine sw_lstore (n := 40) F (L2 := [(10, .long (jL x_)), (9, .int (jI r)), (8, .int (jI (n + t))), (0, .long (jL x_)), (2, .int (jI s0)), (3, .long (jL y_)), (5, .int (jI t)), (6, .int (jI n)), (7, .int (jI m))]) rfl (by decide) dJ8_divide_3_38 rfl ?_
      refine sw_lload (n := 42) F 0 rfl dJ8_divide_3_40 rfl ?_
      refine sw_iload (n := 44) F 1 rfl dJ8_divide_3_42 rfl ?_
      refine sw_callS (n := 47) F (ct_J8_longMultiplyPowerTen (g := xg x) (l := xl x) x_ r hx (by first | omega | assumption)) q1296 q1297 q112 q1298 nd_J8_longMultiplyPowerTen rfl (by decide) [0] rfl [pl (xg x) M] rfl 16 86 ⟨by omega, by omega⟩ [] rfl (Nat.le_of_ble_eq_true rfl) dJ8_divide_3_44 rfl (fun _ _ h => h.elim) (fun v Ws h => ?_)
      obtain ⟨rfl, rfl⟩ := h
      show SW x [pl (xg x) M] _ _ _ _ [.long (jL (cpt (x_ * ((10 ^ r.toNat : Nat) : Int))))]
      have hcc := cpt_cases (x_ * tn r)
      refine sw_top (topL (show (cpt (x_ * ((10 ^ r.toNat : Nat) : Int)) : Int) = cpt (x_ * tn r) by rfl)) ?_
      refine sw_dup2 (n := 48) F rfl dJ8_divide_3_47 rfl ?_
      refine sw_lstore (n := 50) F (L2 := [(10, .long (jL (cpt (x_ * tn r)))), (9, .int (jI r)), (8, .int (jI (n + t))), (0, .long (jL x_)), (2, .int (jI s0)), (3, .long (jL y_)), (5, .int (jI t)), (6, .int (jI n)), (7, .int (jI m))]) rfl (by decide) dJ8_divide_3_48 rfl ?_
      refine sw_ldc2 (n := 53) F (-9223372036854775808) q250 (by decide) dJ8_divide_3_50 rfl ?_
      refine sw_lcmp (n := 54) F (by omega) (by decide) dJ8_divide_3_53 rfl ?_
      refine sw_if_eq (n := 57) F (lc_rng _ _) (tgt := 70) dJ8_divide_3_54 (by decide) rfl (fun c_54 => ?_) (fun c_54 => ?_)
      ·
        have c_54 := lc_eq c_54
        have hnf := cpt_y c_54
        have hx9 : x_ ≠ 0 := fun e9 => hnf (by rw [e9, Int.zero_mul]; exact ⟨by decide, by decide⟩)
        refine sw_gets (n := 73) F (kLTP F.gx.1).1 q1299 (Or.inl rfl) dJ8_divide_3_70 rfl ?_
        refine sw_iload (n := 75) F 1 rfl dJ8_divide_3_73 rfl ?_
        refine sw_laloadK (n := 76) F ((kLTP F.gx.1).2.A F) ((r : Int).toNat) (by omega) (by omega) dJ8_divide_3_75 rfl ?_
        show SW x _ _ _ _ _ [.long (jL ((10 ^ ((r : Int).toNat) : Nat) : Int))]
        refine sw_top (topL (show (((10 ^ ((r : Int).toNat) : Nat) : Int) : Int) = tn r by rfl)) ?_
        refine sw_lload_n (n := 77) F 3 rfl rfl dJ8_divide_3_76 rfl ?_
        refine sw_lload_n (n := 78) F 5 rfl rfl dJ8_divide_3_77 rfl ?_
        refine sw_iload (n := 80) F 7 rfl dJ8_divide_3_78 rfl ?_
        refine sw_iload (n := 82) F 8 rfl dJ8_divide_3_80 rfl ?_
        refine sw_iload (n := 84) F 7 rfl dJ8_divide_3_82 rfl ?_
        rcases Nat.lt_or_ge ((tn r).natAbs * x_.natAbs) (y_.natAbs * 18446744073709551616) with hsz | hsz
        ·
          refine sw_callS (n := 87) F (ct_J8_multiplyDivideAndRound (g := xg x) (l := xl x) M (tn r) x_ y_ n m (by first | omega | assumption) hx (by first | omega | assumption) hx9 hy hy0 hm (by first | omega | assumption) (by exact hsz)) q2776 q2777 q112 q2778 nd_J8_multiplyDivideAndRound rfl (by decide) [0] rfl [] rfl 7 44 ⟨by omega, by omega⟩ [] rfl (Nat.le_of_ble_eq_true rfl) dJ8_divide_3_84 rfl (fun E Ws h => ?_) (fun v Ws h => ?_)
          ·
            obtain ⟨rfl, hrf_33, rfl⟩ := h
            show SX x [pl (xg x) M] _ _ _ _ _
            exact sx_out F (by rw [hPx]; exact ⟨M, rfl, le_.rf, (by first | (rw [hr, hqp.2]; assumption) | (rw [hr, hqn.2]; assumption) | (rw [hr, hqp.2, Int.mul_comm]; assumption)), rfl⟩)
          ·
            obtain ⟨M1_25, r1_26, o1_27, V_28, rfl, hle_29, hat_30, hV_31, hrf_32, rfl⟩ := h
            show SW x [pl (xg x) M1_25] _ _ _ _ [.ref r1_26]
            refine sw_astore (n := 89) F (some r1_26) (L2 := [(12, .ref r1_26), (10, .long (jL (cpt (x_ * tn r)))), (9, .int (jI r)), (8, .int (jI (n + t))), (0, .long (jL x_)), (2, .int (jI s0)), (3, .long (jL y_)), (5, .int (jI t)), (6, .int (jI n)), (7, .int (jI m))]) rfl rfl (by decide) dJ8_divide_3_87 rfl ?_
            refine sw_aload (n := 91) F 0 (some r1_26) rfl rfl dJ8_divide_3_89 rfl ?_
            refine sw_ifnull (n := 94) F (o := (some r1_26)) rfl (tgt := 97) dJ8_divide_3_91 (by decide) rfl (fun c_91 => ?_) (fun _ _ => ?_)
            · cases c_91
            ·
              refine sw_aload (n := 96) F 0 (some r1_26) rfl rfl dJ8_divide_3_94 rfl ?_
              exact sw_aret F (some r1_26) _ rfl rfl (by first | exact Or.inl ⟨_, rfl⟩ | exact Or.inr ⟨_, rfl⟩) dJ8_divide_3_96 (by rw [hPo]; exact ⟨M1_25, r1_26, o1_27, V_28, rfl, hle_29, hat_30, (by first | (left; rw [hr, hqp.1]; done) | (left; rw [hr, hqn.1]; done) | (rw [hr, hqp.1, Int.mul_comm]; assumption)), (by first | (rw [hr, hqp.2]; assumption) | (rw [hr, hqn.2]; assumption) | (rw [hr, hqp.2, Int.mul_comm]; assumption)), rfl⟩)
        ·
          refine sw_callS (n := 87) F (ct_J8_multiplyDivideAndRound_n (g := xg x) (l := xl x) M (tn r) x_ y_ n m (by first | omega | assumption) hx (by first | omega | assumption) hx9 hy hy0 hm (by first | omega | assumption) (by exact hsz)) q2776 q2777 q112 q2778 nd_J8_multiplyDivideAndRound rfl (by decide) [0] rfl [] rfl 16 86 ⟨by omega, by omega⟩ [] rfl (Nat.le_of_ble_eq_true rfl) dJ8_divide_3_84 rfl (fun _ _ h => h.elim) (fun v Ws h => ?_)
          obtain ⟨rfl, rfl⟩ := h
          show SW x [pl (xg x) M] _ _ _ _ [.null]
          refine sw_astore (n := 89) F none (L2 := [(12, .null), (10, .long (jL (cpt (x_ * tn r)))), (9, .int (jI r)), (8, .int (jI (n + t))), (0, .long (jL x_)), (2, .int (jI s0)), (3, .long (jL y_)), (5, .int (jI t)), (6, .int (jI n)), (7, .int (jI m))]) rfl rfl (by decide) dJ8_divide_3_87 rfl ?_
          refine sw_aload (n := 91) F 0 none rfl rfl dJ8_divide_3_89 rfl ?_
          refine sw_ifnull (n := 94) F (o := none) rfl (tgt := 97) dJ8_divide_3_91 (by decide) rfl (fun c_91 => ?_) (fun _ _ => ?_)
          ·
            refine sw_lload_n (n := 98) F 4 rfl rfl dJ8_divide_3_97 rfl ?_
            refine sw_iload (n := 100) F 2 rfl dJ8_divide_3_98 rfl ?_
            refine sw_callS (n := 103) F (ct_J8_bigMultiplyPowerTen (g := xg x) (l := xl x) M x_ r hx (by first | omega | assumption)) q1304 q1305 q112 q1306 nd_J8_bigMultiplyPowerTen rfl (by decide) [0] rfl [] rfl 13 66 ⟨by omega, by omega⟩ [] rfl (Nat.le_of_ble_eq_true rfl) dJ8_divide_3_100 rfl (fun _ _ h => h.elim) (fun v Ws h => ?_)
            obtain ⟨M1_34, r1_35, a1_36, rfl, hle_37, hat_38, rfl⟩ := h
            show SW x [pl (xg x) M1_34] _ _ _ _ [.ref r1_35]
            refine sw_astore (n := 105) F (some r1_35) (L2 := [(10, .ref r1_35), (12, .null), (9, .int (jI r)), (8, .int (jI (n + t))), (0, .long (jL x_)), (2, .int (jI s0)), (3, .long (jL y_)), (5, .int (jI t)), (6, .int (jI n)), (7, .int (jI m))]) rfl rfl (by decide) dJ8_divide_3_103 rfl ?_
            refine sw_aload (n := 107) F 0 (some r1_35) rfl rfl dJ8_divide_3_105 rfl ?_
            refine sw_lload_n (n := 108) F 6 rfl rfl dJ8_divide_3_107 rfl ?_
            refine sw_iload (n := 110) F 8 rfl dJ8_divide_3_108 rfl ?_
            refine sw_iload (n := 112) F 9 rfl dJ8_divide_3_110 rfl ?_
            refine sw_iload (n := 114) F 8 rfl dJ8_divide_3_112 rfl ?_
            refine sw_callS (n := 117) F (ct_J8_divideAndRound_6 (g := xg x) (l := xl x) M1_34 r1_35 (x_ * tn r) a1_36 y_ n m hat_38 (by exact hnf) (by exact Nat.lt_of_lt_of_le (mulT_bw (nA_63 (by omega) (Nat.le_refl 2)) (by omega)) (bw_mono (by decide))) (by first | omega | assumption) hy0 hm (by first | omega | assumption)) q2680 q2681 q112 q2682 nd_J8_divideAndRound_6 rfl (by decide) [0] rfl [] rfl 1 0 ⟨by omega, by omega⟩ [] rfl (Nat.le_of_ble_eq_true rfl) dJ8_divide_3_114 rfl (fun E Ws h => ?_) (fun v Ws h => ?_)
            ·
              obtain ⟨rfl, hrf_45, rfl⟩ := h
              show SX x [pl (xg x) M1_34] _ _ _ _ _
              exact sx_out F (by rw [hPx]; exact ⟨M1_34, rfl, hle_37, (by first | (rw [hr, hqp.2]; assumption) | (rw [hr, hqn.2]; assumption) | (rw [hr, hqp.2, Int.mul_comm]; assumption)), rfl⟩)
            ·
              obtain ⟨M1_39, r1_40, o1_41, rfl, hle_42, hat_43, hrf_44, rfl⟩ := h
              show SW x [pl (xg x) M1_39] _ _ _ _ [.ref r1_40]
              exact sw_aret F (some r1_40) _ rfl rfl (by first | exact Or.inl ⟨_, rfl⟩ | exact Or.inr ⟨_, rfl⟩) dJ8_divide_3_117 (by rw [hPo]; exact ⟨M1_39, r1_40, o1_41, rdV (x_ * tn r) y_ m, rfl, (le_.tr hle_37 hle_42), hat_43, (by first | (left; rw [hr, hqp.1]; done) | (left; rw [hr, hqn.1]; done) | (rw [hr, hqp.1, Int.mul_comm]; assumption)), (by first | (rw [hr, hqp.2]; assumption) | (rw [hr, hqn.2]; assumption) | (rw [hr, hqp.2, Int.mul_comm]; assumption)), rfl⟩)
          · rename_i hq; cases hq
      ·
        have c_54 := lc_ne c_54
        refine SW.cast (L' := [(10, .long (jL (x_ * tn r))), (9, .int (jI r)), (8, .int (jI (n + t))), (0, .long (jL x_)), (2, .int (jI s0)), (3, .long (jL y_)), (5, .int (jI t)), (6, .int (jI n)), (7, .int (jI m))]) ?_ rfl (by rw [show Value.long (jL (cpt (x_ * tn r))) = Value.long (jL (x_ * tn r)) from topL (by omega)]) rfl
        refine sw_lload (n := 59) F 0 rfl dJ8_divide_3_57 rfl ?_
        refine sw_lload_n (n := 60) F 5 rfl rfl dJ8_divide_3_59 rfl ?_
        refine sw_iload (n := 62) F 7 rfl dJ8_divide_3_60 rfl ?_
        refine sw_iload (n := 64) F 8 rfl dJ8_divide_3_62 rfl ?_
        refine sw_iload (n := 66) F 7 rfl dJ8_divide_3_64 rfl ?_
        refine sw_callS (n := 69) F (ct_J8_divideAndRound_4 (g := xg x) (l := xl x) M (x_ * tn r) y_ n m (by first | omega | assumption) (by first | omega | assumption) hy0 hm (by first | omega | assumption)) q2662 q2663 q112 q2664 nd_J8_divideAndRound_4 rfl (by decide) [0] rfl [] rfl 14 75 ⟨by omega, by omega⟩ [] rfl (Nat.le_of_ble_eq_true rfl) dJ8_divide_3_66 rfl (fun E Ws h => ?_) (fun v Ws h => ?_)
        ·
          obtain ⟨rfl, hrf_52, rfl⟩ := h
          show SX x [pl (xg x) M] _ _ _ _ _
          exact sx_out F (by rw [hPx]; exact ⟨M, rfl, le_.rf, (by first | (rw [hr, hqp.2]; assumption) | (rw [hr, hqn.2]; assumption) | (rw [hr, hqp.2, Int.mul_comm]; assumption)), rfl⟩)
        ·
          obtain ⟨M1_46, r1_47, o1_48, rfl, hle_49, hat_50, hrf_51, rfl⟩ := h
          show SW x [pl (xg x) M1_46] _ _ _ _ [.ref r1_47]
          exact sw_aret F (some r1_47) _ rfl rfl (by first | exact Or.inl ⟨_, rfl⟩ | exact Or.inr ⟨_, rfl⟩) dJ8_divide_3_69 (by rw [hPo]; exact ⟨M1_46, r1_47, o1_48, rdV (x_ * tn r) y_ m, rfl, hle_49, hat_50, (by first | (left; rw [hr, hqp.1]; done) | (left; rw [hr, hqn.1]; done) | (rw [hr, hqp.1, Int.mul_comm]; assumption)), (by first | (rw [hr, hqp.2]; assumption) | (rw [hr, hqn.2]; assumption) | (rw [hr, hqp.2, Int.mul_comm]; assumption)), rfl⟩)
theorem nd_J8_divide_5 : yJ8_divide_5.cls ≠ "java/lang/invoke/MethodHandle" ∧ yJ8_divide_5.cls ≠ "java/lang/invoke/VarHandle" ∧ (parseMethodDescriptor yJ8_divide_5.desc).map (fun d => d.parameters.length) = some 6 := by decide +kernel
set_option maxRecDepth 100000 in
set_option maxHeartbeats 16000000 in
theorem ct_J8_divide_5 {g : GG} {l : Launch} (M : Nat → Option PV) (q : Nat) (v : Int) (a : Nat) (s0 : Int) (y_ : Int) (t : Int) (n : Int) (m : Int) (hx : at_ g M q (vI v a)) (hnf : ¬ fit v) (hbv : v.natAbs < bw 4) (hn : -1000 ≤ n ∧ n ≤ 1000) (hs : -1000 ≤ s0 ∧ s0 ≤ 1000) (ht : -1000 ≤ t ∧ t ≤ 1000) (hr18 : -18 ≤ n + t - s0 ∧ n + t - s0 ≤ 18) (hy : -4611686018427387904 ≤ y_ ∧ y_ ≤ 4611686018427387904) (hy0 : y_ ≠ 0) (hm : 0 ≤ m ∧ m ≤ 7) (hr0 : 0 ≤ n + t - s0) : Ct g l yJ8_divide_5 (ws_ yJ8_divide_5 cJ8_divide_5 11 (Option.some (Jvm.ClassFile.FieldType.object "java/math/BigDecimal"))) 9 183 15 86 [.ref q, .int (jI s0), .long (jL y_), .int (jI t), .int (jI n), .int (jI m)] [pl g M] (fun v9 Ws9 => ∃ M1 : Nat → Option PV, ∃ r1 : Nat, ∃ o1 : Option Nat, ∃ V : Int, v9 = some (.ref r1) ∧ (le_ M M1) ∧ (at_ g M1 r1 (vD V n o1)) ∧ (V = qtV v y_ (n + t - s0) m ∨ (qtV v y_ (n + t - s0) m = 9223372036854775808 ∧ V = -9223372036854775808)) ∧ (qtF v y_ (n + t - s0) m = false) ∧ Ws9 = [pl g M1]) (fun E9 Ws9 => (∃ M1 : Nat → Option PV, E9 = "java/lang/ArithmeticException" ∧ (le_ M M1) ∧ (qtF v y_ (n + t - s0) m = true) ∧ Ws9 = [pl g M1])) := by
  refine Ct.of (cc := cJ8_divide_5) (nL := 11) (ret := (Option.some (Jvm.ClassFile.FieldType.object "java/math/BigDecimal"))) (by decide) rfl (Nat.le_of_ble_eq_true rfl) ?_
  intro x hg hl hPo hPx hmc hms F
  subst hg; subst hl
  refine SW.cast (L' := [(0, .ref q), (1, .int (jI s0)), (2, .long (jL y_)), (4, .int (jI t)), (5, .int (jI n)), (6, .int (jI m))]) ?_ rfl rfl rfl
  obtain ⟨r, hr⟩ : ∃ z : Int, n + t - s0 = z := ⟨_, rfl⟩
  have hqp := qt_p (u := v) (w := y_) (m := m) (show 0 ≤ r by omega)
  have hb6 := Nat.lt_of_lt_of_le hbv (bw_mono (show 4 ≤ 6 by decide))
  refine sw_aload_n (n := 1) F 0 (some q) rfl rfl rfl dJ8_divide_5_0 rfl ?_
  refine sw_iload (n := 3) F 4 rfl dJ8_divide_5_1 rfl ?_
  refine sw_i2l (n := 4) F (by omega) dJ8_divide_5_3 rfl ?_
  refine sw_iload (n := 6) F 3 rfl dJ8_divide_5_4 rfl ?_
  refine sw_i2l (n := 7) F (by omega) dJ8_divide_5_6 rfl ?_
  refine sw_ladd (n := 8) F dJ8_divide_5_7 rfl ?_
  refine sw_callS (n := 11) F (ct_J8_checkScale_2 (g := xg x) (l := xl x) q (n + t) (by first | omega | assumption)) q1493 q1494 q112 q1495 nd_J8_checkScale_2 rfl (by decide) [0] rfl [pl (xg x) M] rfl 15 86 ⟨by omega, by omega⟩ [] rfl (Nat.le_of_ble_eq_true rfl) dJ8_divide_5_8 rfl (fun _ _ h => h.elim) (fun v Ws h => ?_)
  obtain ⟨rfl, rfl⟩ := h
  show SW x [pl (xg x) M] _ _ _ _ [.int (jI (n + t))]
  refine sw_iload_n (n := 12) F 1 rfl rfl dJ8_divide_5_11 rfl ?_
  refine sw_icmp_le (n := 15) F (by omega) (by omega) (tgt := 49) dJ8_divide_5_12 (by decide) rfl (fun c_12 => ?_) (fun c_12 => ?_)
  ·
    refine sw_lload_n (n := 50) F 2 rfl rfl dJ8_divide_5_49 rfl ?_
    refine sw_iload_n (n := 51) F 1 rfl rfl dJ8_divide_5_50 rfl ?_
    refine sw_i2l (n := 52) F (by omega) dJ8_divide_5_51 rfl ?_
    refine sw_iload (n := 54) F 4 rfl dJ8_divide_5_52 rfl ?_
    refine sw_i2l (n := 55) F (by omega) dJ8_divide_5_54 rfl ?_
    refine sw_lsub (n := 56) F dJ8_divide_5_55 rfl ?_
    refine sw_callS (n := 59) F (ct_J8_checkScale (g := xg x) (l := xl x) y_ (s0 - n) (by first | omega | assumption) (by first | omega | assumption)) q1286 q1287 q112 q1288 nd_J8_checkScale rfl (by decide) [0] rfl [pl (xg x) M] rfl 15 86 ⟨by omega, by omega⟩ [] rfl (Nat.le_of_ble_eq_true rfl) dJ8_divide_5_56 rfl (fun _ _ h => h.elim) (fun v Ws h => ?_)
    obtain ⟨rfl, rfl⟩ := h
    show SW x [pl (xg x) M] _ _ _ _ [.int (jI (s0 - n))]
    refine sw_istore (n := 61) F (L2 := [(7, .int (jI (s0 - n))), (0, .ref q), (1, .int (jI s0)), (2, .long (jL y_)), (4, .int (jI t)), (5, .int (jI n)), (6, .int (jI m))]) rfl (by decide) dJ8_divide_5_59 rfl ?_
    refine sw_iload (n := 63) F 0 rfl dJ8_divide_5_61 rfl ?_
    refine sw_iload (n := 65) F 4 rfl dJ8_divide_5_63 rfl ?_
    refine sw_isub (n := 66) F dJ8_divide_5_65 rfl ?_
    refine sw_istore (n := 68) F (L2 := [(8, .int (jI ((s0 - n) - t))), (7, .int (jI (s0 - n))), (0, .ref q), (1, .int (jI s0)), (2, .long (jL y_)), (4, .int (jI t)), (5, .int (jI n)), (6, .int (jI m))]) rfl (by decide) dJ8_divide_5_66 rfl ?_
    refine SW.cast (L' := [(8, .int (jI 0)), (7, .int (jI (s0 - n))), (0, .ref q), (1, .int (jI s0)), (2, .long (jL y_)), (4, .int (jI t)), (5, .int (jI n)), (6, .int (jI m))]) ?_ rfl (by rw [show Value.int (jI ((s0 - n) - t)) = Value.int (jI 0) from topI (by omega)]) rfl
    have hqe : v * tn r = v := by rw [tn_0 (by omega), Int.mul_one]
    refine sw_iload (n := 70) F 0 rfl dJ8_divide_5_68 rfl ?_
    refine sw_gets (n := 73) F (kLTP F.gx.1).1 q1299 (Or.inl rfl) dJ8_divide_5_70 rfl ?_
    refine sw_alenK (n := 74) F ((kLTP F.gx.1).2.A F) dJ8_divide_5_73 rfl ?_
    show SW x _ _ _ _ _ [.int (jI 19), .int (jI 0)]
    refine sw_icmp_ge (n := 77) F (by decide) (by decide) (tgt := 110) dJ8_divide_5_74 (by decide) rfl (fun c_74 => ?_) (fun c_74 => ?_)
    · exfalso; exact absurd c_74 (by decide)
    ·
      refine sw_lload_n (n := 78) F 4 rfl rfl dJ8_divide_5_77 rfl ?_
      refine sw_lstore (n := 80) F (L2 := [(9, .long (jL y_)), (8, .int (jI 0)), (7, .int (jI (s0 - n))), (0, .ref q), (1, .int (jI s0)), (2, .long (jL y_)), (4, .int (jI t)), (5, .int (jI n)), (6, .int (jI m))]) rfl (by decide) dJ8_divide_5_78 rfl ?_
      refine sw_lload (n := 82) F 0 rfl dJ8_divide_5_80 rfl ?_
      refine sw_iload (n := 84) F 1 rfl dJ8_divide_5_82 rfl ?_
      refine sw_callS (n := 87) F (ct_J8_longMultiplyPowerTen (g := xg x) (l := xl x) y_ 0 (by first | omega | assumption) (by first | omega | assumption)) q1296 q1297 q112 q1298 nd_J8_longMultiplyPowerTen rfl (by decide) [0] rfl [pl (xg x) M] rfl 15 86 ⟨by omega, by omega⟩ [] rfl (Nat.le_of_ble_eq_true rfl) dJ8_divide_5_84 rfl (fun _ _ h => h.elim) (fun v Ws h => ?_)
      obtain ⟨rfl, rfl⟩ := h
      show SW x [pl (xg x) M] _ _ _ _ [.long (jL (cpt (y_ * ((10 ^ (0 : Int).toNat : Nat) : Int))))]
      refine sw_top (topL (show (cpt (y_ * ((10 ^ (0 : Int).toNat : Nat) : Int)) : Int) = y_ by have e9 : ((10 ^ (0 : Int).toNat : Nat) : Int) = 1 := rfl; rw [e9, Int.mul_one]; exact cpt_1 ⟨by omega, by omega⟩)) ?_
      refine sw_dup2 (n := 88) F rfl dJ8_divide_5_87 rfl ?_
      refine sw_lstore (n := 90) F (L2 := [(9, .long (jL y_)), (8, .int (jI 0)), (7, .int (jI (s0 - n))), (0, .ref q), (1, .int (jI s0)), (2, .long (jL y_)), (4, .int (jI t)), (5, .int (jI n)), (6, .int (jI m))]) rfl (by decide) dJ8_divide_5_88 rfl ?_
      refine sw_ldc2 (n := 93) F (-9223372036854775808) q250 (by decide) dJ8_divide_5_90 rfl ?_
      refine sw_lcmp (n := 94) F (by omega) (by decide) dJ8_divide_5_93 rfl ?_
      refine sw_if_eq (n := 97) F (lc_rng _ _) (tgt := 110) dJ8_divide_5_94 (by decide) rfl (fun c_94 => ?_) (fun c_94 => ?_)
      · exfalso; revert c_94; (repeat' split) <;> omega
      ·
        have c_94 := lc_ne c_94
        refine sw_aload_n (n := 98) F 3 (some q) rfl rfl rfl dJ8_divide_5_97 rfl ?_
        refine sw_lload (n := 100) F 0 rfl dJ8_divide_5_98 rfl ?_
        refine sw_iload (n := 102) F 7 rfl dJ8_divide_5_100 rfl ?_
        refine sw_iload (n := 104) F 8 rfl dJ8_divide_5_102 rfl ?_
        refine sw_iload (n := 106) F 7 rfl dJ8_divide_5_104 rfl ?_
        refine sw_callS (n := 109) F (ct_J8_divideAndRound_6 (g := xg x) (l := xl x) M q v a y_ n m hx hnf (by exact hb6) (by first | omega | assumption) hy0 hm (by first | omega | assumption)) q2680 q2681 q112 q2682 nd_J8_divideAndRound_6 rfl (by decide) [0] rfl [] rfl 3 20 ⟨by omega, by omega⟩ [] rfl (Nat.le_of_ble_eq_true rfl) dJ8_divide_5_106 rfl (fun E Ws h => ?_) (fun v Ws h => ?_)
        ·
          obtain ⟨rfl, hrf_7, rfl⟩ := h
          show SX x [pl (xg x) M] _ _ _ _ _
          exact sx_out F (by rw [hPx]; exact ⟨M, rfl, le_.rf, (by first | (rw [hr, hqp.2]; assumption) | (rw [hr, hqp.2, hqe]; assumption)), rfl⟩)
        ·
          obtain ⟨M1_1, r1_2, o1_3, rfl, hle_4, hat_5, hrf_6, rfl⟩ := h
          show SW x [pl (xg x) M1_1] _ _ _ _ [.ref r1_2]
          exact sw_aret F (some r1_2) _ rfl rfl (by first | exact Or.inl ⟨_, rfl⟩ | exact Or.inr ⟨_, rfl⟩) dJ8_divide_5_109 (by rw [hPo]; exact ⟨M1_1, r1_2, o1_3, rdV v y_ m, rfl, hle_4, hat_5, (by first | (left; rw [hr, hqp.1]; done) | (left; rw [hr, hqp.1, hqe]; done)), (by first | (rw [hr, hqp.2]; assumption) | (rw [hr, hqp.2, hqe]; assumption)), rfl⟩)
  ·
    refine sw_iload (n := 17) F 4 rfl dJ8_divide_5_15 rfl ?_
    refine sw_iload (n := 19) F 3 rfl dJ8_divide_5_17 rfl ?_
    refine sw_iadd (n := 20) F dJ8_divide_5_19 rfl ?_
    refine sw_istore (n := 22) F (L2 := [(7, .int (jI (n + t))), (0, .ref q), (1, .int (jI s0)), (2, .long (jL y_)), (4, .int (jI t)), (5, .int (jI n)), (6, .int (jI m))]) rfl (by decide) dJ8_divide_5_20 rfl ?_
    refine sw_iload (n := 24) F 0 rfl dJ8_divide_5_22 rfl ?_
    refine sw_iload_n (n := 25) F 2 rfl rfl dJ8_divide_5_24 rfl ?_
    refine sw_isub (n := 26) F dJ8_divide_5_25 rfl ?_
    refine sw_istore (n := 28) F (L2 := [(8, .int (jI ((n + t) - s0))), (7, .int (jI (n + t))), (0, .ref q), (1, .int (jI s0)), (2, .long (jL y_)), (4, .int (jI t)), (5, .int (jI n)), (6, .int (jI m))]) rfl (by decide) dJ8_divide_5_26 rfl ?_
    refine SW.cast (L' := [(8, .int (jI r)), (7, .int (jI (n + t))), (0, .ref q), (1, .int (jI s0)), (2, .long (jL y_)), (4, .int (jI t)), (5, .int (jI n)), (6, .int (jI m))]) ?_ rfl (by rw [show Value.int (jI ((n + t) - s0)) = Value.int (jI r) from topI (by omega)]) rfl
    refine sw_aload_n (n := 29) F 2 (some q) rfl rfl rfl dJ8_divide_5_28 rfl ?_
    refine sw_iload (n := 31) F 0 rfl dJ8_divide_5_29 rfl ?_
    refine sw_callS (n := 34) F (ct_J8_bigMultiplyPowerTen_2 (g := xg x) (l := xl x) M q v a r hx hbv (by first | omega | assumption)) q1500 q1501 q112 q1502 nd_J8_bigMultiplyPowerTen_2 rfl (by decide) [0] rfl [] rfl 12 66 ⟨by omega, by omega⟩ [] rfl (Nat.le_of_ble_eq_true rfl) dJ8_divide_5_31 rfl (fun _ _ h => h.elim) (fun v Ws h => ?_)
    obtain ⟨M1_8, r1_9, a1_10, rfl, hle_11, hat_12, rfl⟩ := h
    show SW x [pl (xg x) M1_8] _ _ _ _ [.ref r1_9]
    refine sw_astore (n := 36) F (some r1_9) (L2 := [(9, .ref r1_9), (8, .int (jI r)), (7, .int (jI (n + t))), (0, .ref q), (1, .int (jI s0)), (2, .long (jL y_)), (4, .int (jI t)), (5, .int (jI n)), (6, .int (jI m))]) rfl rfl (by decide) dJ8_divide_5_34 rfl ?_
    have hnm := nofit_mul (k := r) hnf
    refine sw_aload (n := 38) F 0 (some r1_9) rfl rfl dJ8_divide_5_36 rfl ?_
    refine sw_lload_n (n := 39) F 5 rfl rfl dJ8_divide_5_38 rfl ?_
    refine sw_iload (n := 41) F 7 rfl dJ8_divide_5_39 rfl ?_
    refine sw_iload (n := 43) F 8 rfl dJ8_divide_5_41 rfl ?_
    refine sw_iload (n := 45) F 7 rfl dJ8_divide_5_43 rfl ?_
    refine sw_callS (n := 48) F (ct_J8_divideAndRound_6 (g := xg x) (l := xl x) M1_8 r1_9 (v * tn r) a1_10 y_ n m hat_12 (by first | assumption | omega) (by exact mulT_bw hbv (by omega)) (by first | omega | assumption) hy0 hm (by first | omega | assumption)) q2680 q2681 q112 q2682 nd_J8_divideAndRound_6 rfl (by decide) [0] rfl [] rfl 0 0 ⟨by omega, by omega⟩ [] rfl (Nat.le_of_ble_eq_true rfl) dJ8_divide_5_45 rfl (fun E Ws h => ?_) (fun v Ws h => ?_)
    ·
      obtain ⟨rfl, hrf_19, rfl⟩ := h
      show SX x [pl (xg x) M1_8] _ _ _ _ _
      exact sx_out F (by rw [hPx]; exact ⟨M1_8, rfl, hle_11, (by first | (rw [hr, hqp.2]; assumption) | (rw [hr, hqp.2, hqe]; assumption)), rfl⟩)
    ·
      obtain ⟨M1_13, r1_14, o1_15, rfl, hle_16, hat_17, hrf_18, rfl⟩ := h
      show SW x [pl (xg x) M1_13] _ _ _ _ [.ref r1_14]
      exact sw_aret F (some r1_14) _ rfl rfl (by first | exact Or.inl ⟨_, rfl⟩ | exact Or.inr ⟨_, rfl⟩) dJ8_divide_5_48 (by rw [hPo]; exact ⟨M1_13, r1_14, o1_15, rdV (v * tn r) y_ m, rfl, (le_.tr hle_11 hle_16), hat_17, (by first | (left; rw [hr, hqp.1]; done) | (left; rw [hr, hqp.1, hqe]; done)), (by first | (rw [hr, hqp.2]; assumption) | (rw [hr, hqp.2, hqe]; assumption)), rfl⟩)
theorem nd_J8_divide_2 : yJ8_divide_2.cls ≠ "java/lang/invoke/MethodHandle" ∧ yJ8_divide_2.cls ≠ "java/lang/invoke/VarHandle" ∧ (parseMethodDescriptor yJ8_divide_2.desc).map (fun d => d.parameters.length) = some 3 := by decide +kernel
set_option maxRecDepth 100000 in
set_option maxHeartbeats 16000000 in
theorem ct_J8_divide_2 {g : GG} {l : Launch} (M : Nat → Option PV) (q : Nat) (u : Int) (s : Int) (o : Option Nat) (q2 : Nat) (w : Int) (t : Int) (o2 : Option Nat) (n : Int) (m : Int) (hx : at_ g M q (vD u s o)) (hy : at_ g M q2 (vD w t o2)) (hbv : u.natAbs < bw 4) (hu0 : u ≠ 0 ∨ 0 ≤ n + t - s) (hf2 : -4611686018427387904 ≤ w ∧ w ≤ 4611686018427387904) (hw0 : w ≠ 0) (hn : -1000 ≤ n ∧ n ≤ 1000) (hs : -1000 ≤ s ∧ s ≤ 1000) (ht : -1000 ≤ t ∧ t ≤ 1000) (hr18 : -18 ≤ n + t - s ∧ n + t - s ≤ 18) (hup : ¬ fit u → 0 ≤ n + t - s) (hm : 0 ≤ m ∧ m ≤ 7) : Ct g l yJ8_divide_2 (ws_ yJ8_divide_2 cJ8_divide_2 4 (Option.some (Jvm.ClassFile.FieldType.object "java/math/BigDecimal"))) 11 269 16 86 [.ref q, .ref q2, .int (jI n), .int (jI m)] [pl g M] (fun v9 Ws9 => ∃ M1 : Nat → Option PV, ∃ r1 : Nat, ∃ o1 : Option Nat, ∃ V : Int, v9 = some (.ref r1) ∧ (le_ M M1) ∧ (at_ g M1 r1 (vD V n o1)) ∧ (V = qtV u w (n + t - s) m ∨ (qtV u w (n + t - s) m = 9223372036854775808 ∧ V = -9223372036854775808)) ∧ (qtF u w (n + t - s) m = false) ∧ Ws9 = [pl g M1]) (fun E9 Ws9 => (∃ M1 : Nat → Option PV, E9 = "java/lang/ArithmeticException" ∧ (le_ M M1) ∧ (qtF u w (n + t - s) m = true) ∧ Ws9 = [pl g M1])) := by
  refine Ct.of (cc := cJ8_divide_2) (nL := 4) (ret := (Option.some (Jvm.ClassFile.FieldType.object "java/math/BigDecimal"))) (by decide) rfl (Nat.le_of_ble_eq_true rfl) ?_
  intro x hg hl hPo hPx hmc hms F
  subst hg; subst hl
  refine SW.cast (L' := [(0, .ref q), (1, .ref q2), (2, .int (jI n)), (3, .int (jI m))]) ?_ rfl rfl rfl
  refine sw_factD 0 rfl hx (fun hfo hfb => ?_)
  have hcr_u := cpt_rng u
  have hcc_u := cpt_cases u
  refine sw_factD 0 rfl hy (fun hfo2 hfb2 => ?_)
  have hcr_w := cpt_rng w
  have hcc_w := cpt_cases w
  have hfit_w : fit w := ⟨by omega, by omega⟩
  have hcw := cpt_1 hfit_w
  refine sw_iload_n (n := 1) F 3 rfl rfl dJ8_divide_2_0 rfl ?_
  refine sw_if_lt (n := 4) F (by omega) (tgt := 10) dJ8_divide_2_1 (by decide) rfl (fun c_1 => ?_) (fun c_1 => ?_)
  · exfalso; omega
  ·
    refine sw_iload_n (n := 5) F 3 rfl rfl dJ8_divide_2_4 rfl ?_
    refine sw_bipush (n := 7) F (7) (by decide) dJ8_divide_2_5 rfl ?_
    refine sw_icmp_le (n := 10) F (by omega) (by decide) (tgt := 21) dJ8_divide_2_7 (by decide) rfl (fun c_7 => ?_) (fun c_7 => ?_)
    ·
      refine sw_aload_n (n := 22) F 0 (some q) rfl rfl rfl dJ8_divide_2_21 rfl ?_
      refine sw_getD (n := 25) F 0 rfl hx (k := 4) ⟨(RJ8, TJ8, 5), rfl, by decide, q264, in_J8, Or.inl rfl⟩ (.long (jL (cpt u))) (fun _ => rfl) dJ8_divide_2_22 rfl ?_
      refine sw_ldc2 (n := 28) F (-9223372036854775808) q250 (by decide) dJ8_divide_2_25 rfl ?_
      refine sw_lcmp (n := 29) F (by omega) (by decide) dJ8_divide_2_28 rfl ?_
      refine sw_if_eq (n := 32) F (lc_rng _ _) (tgt := 87) dJ8_divide_2_29 (by decide) rfl (fun c_29 => ?_) (fun c_29 => ?_)
      ·
        have c_29 := lc_eq c_29
        have hnf_u : ¬ fit u := cpt_y c_29
        obtain ⟨b9, hb9⟩ : ∃ b, o = some b := by cases o9_ : o with | none => exact absurd (hfo o9_) hnf_u | some b => exact ⟨b, rfl⟩
        obtain ⟨a9, ha9⟩ := hfb b9 hb9
        subst hb9
        refine sw_aload_n (n := 88) F 1 (some q2) rfl rfl rfl dJ8_divide_2_87 rfl ?_
        refine sw_getD (n := 91) F 0 rfl hy (k := 4) ⟨(RJ8, TJ8, 5), rfl, by decide, q264, in_J8, Or.inl rfl⟩ (.long (jL (cpt w))) (fun _ => rfl) dJ8_divide_2_88 rfl ?_
        refine sw_ldc2 (n := 94) F (-9223372036854775808) q250 (by decide) dJ8_divide_2_91 rfl ?_
        refine sw_lcmp (n := 95) F (by omega) (by decide) dJ8_divide_2_94 rfl ?_
        refine sw_if_eq (n := 98) F (lc_rng _ _) (tgt := 120) dJ8_divide_2_95 (by decide) rfl (fun c_95 => ?_) (fun c_95 => ?_)
        · exfalso; revert c_95; (repeat' split) <;> omega
        ·
          have c_95 := lc_ne c_95
          refine sw_aload_n (n := 99) F 0 (some q) rfl rfl rfl dJ8_divide_2_98 rfl ?_
          refine sw_getD (n := 102) F 0 rfl hx (k := 0) ⟨(RJ8, TJ8, 5), rfl, by decide, q260, in_J8, Or.inl rfl⟩ (.ref b9) (fun _ => rfl) dJ8_divide_2_99 rfl ?_
          refine sw_aload_n (n := 103) F 0 (some q) rfl rfl rfl dJ8_divide_2_102 rfl ?_
          refine sw_getD (n := 106) F 0 rfl hx (k := 1) ⟨(RJ8, TJ8, 5), rfl, by decide, q261, in_J8, Or.inl rfl⟩ (.int (jI s)) (fun _ => rfl) dJ8_divide_2_103 rfl ?_
          refine sw_aload_n (n := 107) F 1 (some q2) rfl rfl rfl dJ8_divide_2_106 rfl ?_
          refine sw_getD (n := 110) F 0 rfl hy (k := 4) ⟨(RJ8, TJ8, 5), rfl, by decide, q264, in_J8, Or.inl rfl⟩ (.long (jL (cpt w))) (fun _ => rfl) dJ8_divide_2_107 rfl ?_
          refine sw_aload_n (n := 111) F 1 (some q2) rfl rfl rfl dJ8_divide_2_110 rfl ?_
          refine sw_getD (n := 114) F 0 rfl hy (k := 1) ⟨(RJ8, TJ8, 5), rfl, by decide, q261, in_J8, Or.inl rfl⟩ (.int (jI t)) (fun _ => rfl) dJ8_divide_2_111 rfl ?_
          refine sw_iload_n (n := 115) F 2 rfl rfl dJ8_divide_2_114 rfl ?_
          refine sw_iload_n (n := 116) F 3 rfl rfl dJ8_divide_2_115 rfl ?_
          refine SW.cast (st' := [.int (jI m), .int (jI n), .int (jI t), .long (jL w), .int (jI s), .ref b9]) ?_ rfl rfl (by simp only [cpt_1 hfit_w])
          refine sw_callS (n := 119) F (ct_J8_divide_5 (g := xg x) (l := xl x) M b9 u a9 s w t n m ha9 hnf_u hbv hn hs ht hr18 hf2 hw0 hm (by exact hup hnf_u)) q2798 q2799 q112 q2800 nd_J8_divide_5 rfl (by decide) [0] rfl [] rfl 1 0 ⟨by omega, by omega⟩ [] rfl (Nat.le_of_ble_eq_true rfl) dJ8_divide_2_116 rfl (fun E Ws h => ?_) (fun v Ws h => ?_)
          ·
            obtain ⟨M1_9, rfl, hle_10, hrf_11, rfl⟩ := h
            show SX x [pl (xg x) M1_9] _ _ _ _ _
            exact sx_out F (by rw [hPx]; exact ⟨M1_9, rfl, hle_10, hrf_11, rfl⟩)
          ·
            obtain ⟨M1_1, r1_2, o1_3, V_4, rfl, hle_5, hat_6, hV_7, hrf_8, rfl⟩ := h
            show SW x [pl (xg x) M1_1] _ _ _ _ [.ref r1_2]
            exact sw_aret F (some r1_2) _ rfl rfl (by first | exact Or.inl ⟨_, rfl⟩ | exact Or.inr ⟨_, rfl⟩) dJ8_divide_2_119 (by rw [hPo]; exact ⟨M1_1, r1_2, o1_3, V_4, rfl, hle_5, hat_6, hV_7, hrf_8, rfl⟩)
      ·
        have c_29 := lc_ne c_29
        have hfit_u : fit u := cpt_n c_29
        have hfr_u := hfit_u
        unfold fit at hfr_u
        refine sw_aload_n (n := 33) F 1 (some q2) rfl rfl rfl dJ8_divide_2_32 rfl ?_
        refine sw_getD (n := 36) F 0 rfl hy (k := 4) ⟨(RJ8, TJ8, 5), rfl, by decide, q264, in_J8, Or.inl rfl⟩ (.long (jL (cpt w))) (fun _ => rfl) dJ8_divide_2_33 rfl ?_
        refine sw_ldc2 (n := 39) F (-9223372036854775808) q250 (by decide) dJ8_divide_2_36 rfl ?_
        refine sw_lcmp (n := 40) F (by omega) (by decide) dJ8_divide_2_39 rfl ?_
        refine sw_if_eq (n := 43) F (lc_rng _ _) (tgt := 65) dJ8_divide_2_40 (by decide) rfl (fun c_40 => ?_) (fun c_40 => ?_)
        · exfalso; revert c_40; (repeat' split) <;> omega
        ·
          have c_40 := lc_ne c_40
          refine sw_aload_n (n := 44) F 0 (some q) rfl rfl rfl dJ8_divide_2_43 rfl ?_
          refine sw_getD (n := 47) F 0 rfl hx (k := 4) ⟨(RJ8, TJ8, 5), rfl, by decide, q264, in_J8, Or.inl rfl⟩ (.long (jL (cpt u))) (fun _ => rfl) dJ8_divide_2_44 rfl ?_
          refine sw_aload_n (n := 48) F 0 (some q) rfl rfl rfl dJ8_divide_2_47 rfl ?_
          refine sw_getD (n := 51) F 0 rfl hx (k := 1) ⟨(RJ8, TJ8, 5), rfl, by decide, q261, in_J8, Or.inl rfl⟩ (.int (jI s)) (fun _ => rfl) dJ8_divide_2_48 rfl ?_
          refine sw_aload_n (n := 52) F 1 (some q2) rfl rfl rfl dJ8_divide_2_51 rfl ?_
          refine sw_getD (n := 55) F 0 rfl hy (k := 4) ⟨(RJ8, TJ8, 5), rfl, by decide, q264, in_J8, Or.inl rfl⟩ (.long (jL (cpt w))) (fun _ => rfl) dJ8_divide_2_52 rfl ?_
          refine sw_aload_n (n := 56) F 1 (some q2) rfl rfl rfl dJ8_divide_2_55 rfl ?_
          refine sw_getD (n := 59) F 0 rfl hy (k := 1) ⟨(RJ8, TJ8, 5), rfl, by decide, q261, in_J8, Or.inl rfl⟩ (.int (jI t)) (fun _ => rfl) dJ8_divide_2_56 rfl ?_
          refine sw_iload_n (n := 60) F 2 rfl rfl dJ8_divide_2_59 rfl ?_
          refine sw_iload_n (n := 61) F 3 rfl rfl dJ8_divide_2_60 rfl ?_
          refine SW.cast (st' := [.int (jI m), .int (jI n), .int (jI t), .long (jL w), .int (jI s), .long (jL u)]) ?_ rfl rfl (by simp only [cpt_1 hfit_u, cpt_1 hfit_w])
          refine sw_callS (n := 64) F (ct_J8_divide_3 (g := xg x) (l := xl x) M u s w t n m (by first | omega | assumption) hu0 hn hs ht hr18 hf2 hw0 hm) q2773 q2774 q112 q2775 nd_J8_divide_3 rfl (by decide) [0] rfl [] rfl 0 0 ⟨by omega, by omega⟩ [] rfl (Nat.le_of_ble_eq_true rfl) dJ8_divide_2_61 rfl (fun E Ws h => ?_) (fun v Ws h => ?_)
          ·
            obtain ⟨M1_20, rfl, hle_21, hrf_22, rfl⟩ := h
            show SX x [pl (xg x) M1_20] _ _ _ _ _
            exact sx_out F (by rw [hPx]; exact ⟨M1_20, rfl, hle_21, hrf_22, rfl⟩)
          ·
            obtain ⟨M1_12, r1_13, o1_14, V_15, rfl, hle_16, hat_17, hV_18, hrf_19, rfl⟩ := h
            show SW x [pl (xg x) M1_12] _ _ _ _ [.ref r1_13]
            exact sw_aret F (some r1_13) _ rfl rfl (by first | exact Or.inl ⟨_, rfl⟩ | exact Or.inr ⟨_, rfl⟩) dJ8_divide_2_64 (by rw [hPo]; exact ⟨M1_12, r1_13, o1_14, V_15, rfl, hle_16, hat_17, hV_18, hrf_19, rfl⟩)
    · exfalso; omega
theorem nd_J8_divide : yJ8_divide.cls ≠ "java/lang/invoke/MethodHandle" ∧ yJ8_divide.cls ≠ "java/lang/invoke/VarHandle" ∧ (parseMethodDescriptor yJ8_divide.desc).map (fun d => d.parameters.length) = some 3 := by decide +kernel
set_option maxRecDepth 100000 in
set_option maxHeartbeats 16000000 in
theorem ct_J8_divide {g : GG} {l : Launch} (M : Nat → Option PV) (q : Nat) (u : Int) (s : Int) (o : Option Nat) (q2 : Nat) (w : Int) (t : Int) (o2 : Option Nat) (n : Int) (a : Nat) (m : Int) (hx : at_ g M q (vD u s o)) (hy : at_ g M q2 (vD w t o2)) (hbv : u.natAbs < bw 4) (hu0 : u ≠ 0 ∨ 0 ≤ n + t - s) (hf2 : -4611686018427387904 ≤ w ∧ w ≤ 4611686018427387904) (hw0 : w ≠ 0) (hn : -1000 ≤ n ∧ n ≤ 1000) (hs : -1000 ≤ s ∧ s ≤ 1000) (ht : -1000 ≤ t ∧ t ≤ 1000) (hr18 : -18 ≤ n + t - s ∧ n + t - s ≤ 18) (hup : ¬ fit u → 0 ≤ n + t - s) (hm : 0 ≤ m ∧ m ≤ 7) (hrm : rM g a m) : Ct g l yJ8_divide (ws_ yJ8_divide cJ8_divide 4 (Option.some (Jvm.ClassFile.FieldType.object "java/math/BigDecimal"))) 12 292 16 86 [.ref q, .ref q2, .int (jI n), .ref a] [pl g M] (fun v9 Ws9 => ∃ M1 : Nat → Option PV, ∃ r1 : Nat, ∃ o1 : Option Nat, ∃ V : Int, v9 = some (.ref r1) ∧ (le_ M M1) ∧ (at_ g M1 r1 (vD V n o1)) ∧ (V = qtV u w (n + t - s) m ∨ (qtV u w (n + t - s) m = 9223372036854775808 ∧ V = -9223372036854775808)) ∧ (qtF u w (n + t - s) m = false) ∧ Ws9 = [pl g M1]) (fun E9 Ws9 => (∃ M1 : Nat → Option PV, E9 = "java/lang/ArithmeticException" ∧ (le_ M M1) ∧ (qtF u w (n + t - s) m = true) ∧ Ws9 = [pl g M1])) := by
  refine Ct.of (cc := cJ8_divide) (nL := 4) (ret := (Option.some (Jvm.ClassFile.FieldType.object "java/math/BigDecimal"))) (by decide) rfl (Nat.le_of_ble_eq_true rfl) ?_
  intro x hg hl hPo hPx hmc hms F
  subst hg; subst hl
  refine SW.cast (L' := [(0, .ref q), (1, .ref q2), (2, .int (jI n)), (3, .ref a)]) ?_ rfl rfl rfl
  refine sw_aload_n (n := 1) F 0 (some q) rfl rfl rfl dJ8_divide_0 rfl ?_
  refine sw_aload_n (n := 2) F 1 (some q2) rfl rfl rfl dJ8_divide_1 rfl ?_
  refine sw_iload_n (n := 3) F 2 rfl rfl dJ8_divide_2 rfl ?_
  refine sw_aload_n (n := 4) F 3 (some a) rfl rfl rfl dJ8_divide_3 rfl ?_
  refine sw_getRM (n := 7) F hrm q4419 dJ8_divide_4 rfl ?_
  refine sw_callV (n := 10) F (ct_J8_divide_2 (g := xg x) (l := xl x) M q u s o q2 w t o2 n m hx hy hbv hu0 hf2 hw0 hn hs ht hr18 hup hm) (rcvD F 0 rfl hx) q2769 q2770 q2771 q112 q2772 nd_J8_divide_2 rfl (by decide) [0] rfl [] rfl 0 0 ⟨by omega, by omega⟩ [] rfl (Nat.le_of_ble_eq_true rfl) dJ8_divide_7 rfl (fun E Ws h => ?_) (fun v Ws h => ?_)
  ·
    obtain ⟨M1_9, rfl, hle_10, hrf_11, rfl⟩ := h
    show SX x [pl (xg x) M1_9] _ _ _ _ _
    exact sx_out F (by rw [hPx]; exact ⟨M1_9, rfl, hle_10, hrf_11, rfl⟩)
  ·
    obtain ⟨M1_1, r1_2, o1_3, V_4, rfl, hle_5, hat_6, hV_7, hrf_8, rfl⟩ := h
    show SW x [pl (xg x) M1_1] _ _ _ _ [.ref r1_2]
    exact sw_aret F (some r1_2) _ rfl rfl (by first | exact Or.inl ⟨_, rfl⟩ | exact Or.inr ⟨_, rfl⟩) dJ8_divide_10 (by rw [hPo]; exact ⟨M1_1, r1_2, o1_3, V_4, rfl, hle_5, hat_6, hV_7, hrf_8, rfl⟩)
