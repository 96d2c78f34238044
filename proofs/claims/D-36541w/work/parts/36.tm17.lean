def cd2 (c p l : Int) : Int := if p = 0 then (if l = 0 then c else 0) else p
theorem cd2_n {c p l : Int} (h : p ≠ 0) : cd2 c p l = p := if_neg h
theorem cd2_f {c p l : Int} (h : p = 0) (h2 : l = 0) : cd2 c p l = c := by unfold cd2; rw [if_pos h, if_pos h2]
theorem cd2_t {c p l : Int} (h : p = 0) (h2 : l ≠ 0) : cd2 c p l = 0 := by unfold cd2; rw [if_pos h, if_neg h2]
theorem up0_n {α : Type} {c : Int} (h : c ≠ 0) (f : Nat → α) (k : Nat) (v : α) : up0 c f k v = f := if_neg h
theorem up0_p {α : Type} {c : Int} (h : c = 0) (f : Nat → α) (k : Nat) (v : α) : up0 c f k v = va_up f k v := if_pos h
theorem ordI_rng (N Sc : Nat → Int) (i j : Nat) : -1 ≤ ordI N Sc i j ∧ ordI N Sc i j ≤ 1 := by
  unfold ordI
  have h1 := sgI_cases (N i)
  have h2 := cmpI_cases (smA N Sc i (grI (Sc i) (Sc j))) (smA N Sc j (grI (Sc i) (Sc j)))
  split
  · split <;> omega
  · rcases h1 with ⟨_, h⟩ | ⟨_, h⟩ | ⟨_, h⟩ <;> rw [h] <;> rcases h2 with ⟨_, h⟩ | ⟨_, h⟩ | ⟨_, h⟩ <;> rw [h] <;> decide
def jnV (N Sc : Nat → Int) (i j : Nat) (c : Int) : Int := if c = 43 then smV N Sc i j 0 else if c = 45 then smV N Sc i j 1 else if c = 42 then sgn (xrI (N i) (N j)) ((N i).natAbs * (N j).natAbs) else if c = 103 then (if 0 ≤ ordI N Sc i j then N i else N j) else if ordI N Sc i j ≤ 0 then N i else N j
def jnS (N Sc : Nat → Int) (i j : Nat) (c : Int) : Int := if c = 43 then grI (Sc i) (Sc j) else if c = 45 then grI (Sc i) (Sc j) else if c = 42 then Sc i + Sc j else if c = 103 then (if 0 ≤ ordI N Sc i j then Sc i else Sc j) else if ordI N Sc i j ≤ 0 then Sc i else Sc j
def jnP (s s2 c t : Int) (H : Nat → Int) : Int := if s < 0 ∨ 11 < s ∨ s2 < 0 ∨ 11 < s2 ∨ t < 0 ∨ 11 < t then 1 else if ¬(c = 43 ∨ c = 45 ∨ c = 42 ∨ c = 103 ∨ c = 108) then 2 else if H s.toNat = 0 ∨ H s2.toNat = 0 then 3 else 0
theorem jnP_c (s s2 c t : Int) (H : Nat → Int) : (jnP s s2 c t H = 1 ∧ (s < 0 ∨ 11 < s ∨ s2 < 0 ∨ 11 < s2 ∨ t < 0 ∨ 11 < t)) ∨ (jnP s s2 c t H = 2 ∧ ¬(s < 0 ∨ 11 < s ∨ s2 < 0 ∨ 11 < s2 ∨ t < 0 ∨ 11 < t) ∧ (¬(c = 43 ∨ c = 45 ∨ c = 42 ∨ c = 103 ∨ c = 108))) ∨ (jnP s s2 c t H = 3 ∧ ¬(s < 0 ∨ 11 < s ∨ s2 < 0 ∨ 11 < s2 ∨ t < 0 ∨ 11 < t) ∧ ¬(¬(c = 43 ∨ c = 45 ∨ c = 42 ∨ c = 103 ∨ c = 108)) ∧ (H s.toNat = 0 ∨ H s2.toNat = 0)) ∨ (jnP s s2 c t H = 0 ∧ ¬(s < 0 ∨ 11 < s ∨ s2 < 0 ∨ 11 < s2 ∨ t < 0 ∨ 11 < t) ∧ ¬(¬(c = 43 ∨ c = 45 ∨ c = 42 ∨ c = 103 ∨ c = 108)) ∧ ¬(H s.toNat = 0 ∨ H s2.toNat = 0)) := by
  unfold jnP; (repeat' split) <;> omega
theorem nd_X4_join : yX4_join.cls ≠ "java/lang/invoke/MethodHandle" ∧ yX4_join.cls ≠ "java/lang/invoke/VarHandle" ∧ (parseMethodDescriptor yX4_join.desc).map (fun d => d.parameters.length) = some 4 := by decide +kernel
set_option maxRecDepth 100000 in
set_option maxHeartbeats 16000000 in
theorem ct_X4_join {g : GG} {l : Launch} (o : Nat) (a : Nat → Nat) (z : Nat → Int) (D : Nat → Nat) (M : Nat → Nat) (N : Nat → Int) (Sc : Nat → Int) (Hs : Nat → Int) (s : Int) (s2 : Int) (c : Int) (t : Int) (hs : -2147483648 ≤ s ∧ s ≤ 2147483647) (hs2 : -2147483648 ≤ s2 ∧ s2 ≤ 2147483647) (hc : 0 ≤ c ∧ c ≤ 65535) (ht : -2147483648 ≤ t ∧ t ≤ 2147483647) (hA : Dok D M) (hN : NB N) (hSc : SB Sc) (hB : HB Hs) : Ct g l yX4_join (ws_ yX4_join cX4_join 7 (Option.some Jvm.ClassFile.FieldType.int)) 5 109 0 0 [.ref o, .int (jI s), .int (jI s2), .int (jI c), .int (jI t)] [tmO g o a z, aN g 0 (a 0) 2400 D, aN g 0 (a 1) 10 M, aL g (a 3) 12 N, aI g 0 (a 4) 12 Sc, aI g 4 (a 5) 12 Hs] (fun v9 Ws9 => ∃ D1 : Nat → Nat, ∃ M1 : Nat → Nat, v9 = some (.int (jI (if0 (cd2 4 (jnP s s2 c t Hs) (laI (jnV N Sc s.toNat s2.toNat c).natAbs (jnS N Sc s.toNat s2.toNat c))) (jnS N Sc s.toNat s2.toNat c)))) ∧ (RV [4, 5, 6, 7] D M D1 M1) ∧ Ws9 = [tmO g o a (va_up z 8 (cd2 4 (jnP s s2 c t Hs) (laI (jnV N Sc s.toNat s2.toNat c).natAbs (jnS N Sc s.toNat s2.toNat c)))), aN g 0 (a 0) 2400 D1, aN g 0 (a 1) 10 M1, aL g (a 3) 12 (up0 (cd2 4 (jnP s s2 c t Hs) (laI (jnV N Sc s.toNat s2.toNat c).natAbs (jnS N Sc s.toNat s2.toNat c))) N t.toNat (jnV N Sc s.toNat s2.toNat c)), aI g 0 (a 4) 12 (up0 (cd2 4 (jnP s s2 c t Hs) (laI (jnV N Sc s.toNat s2.toNat c).natAbs (jnS N Sc s.toNat s2.toNat c))) Sc t.toNat (jnS N Sc s.toNat s2.toNat c)), aI g 4 (a 5) 12 (up0 (cd2 4 (jnP s s2 c t Hs) (laI (jnV N Sc s.toNat s2.toNat c).natAbs (jnS N Sc s.toNat s2.toNat c))) Hs t.toNat 1)]) (nox) := by
  refine Ct.of (cc := cX4_join) (nL := 7) (ret := (Option.some Jvm.ClassFile.FieldType.int)) (by decide) rfl (Nat.le_of_ble_eq_true rfl) ?_
  intro x hg hl hPo hPx hmc hms F
  subst hg; subst hl
  refine SW.cast (L' := [(0, .ref o), (1, .int (jI s)), (2, .int (jI s2)), (3, .int (jI c)), (4, .int (jI t))]) ?_ rfl rfl rfl
  have hq1 := hB s.toNat
  have hq2 := hB s2.toNat
  have hn := hN s.toNat
  have hn2 := hN s2.toNat
  have hss := hSc s.toNat
  have hss2 := hSc s2.toNat
  have hgc := grI_cases (Sc s.toNat) (Sc s2.toNat)
  have hor := ordI_rng N Sc s.toNat s2.toNat
  refine sw_iload_n (n := 1) F 3 rfl rfl dX4_join_0 rfl ?_
  have K85 : ∀ (p : Int), (p = jnP s s2 c t Hs) → SW x [tmO (xg x) o a z, aN (xg x) 0 (a 0) 2400 D, aN (xg x) 0 (a 1) 10 M, aL (xg x) (a 3) 12 N, aI (xg x) 0 (a 4) 12 Sc, aI (xg x) 4 (a 5) 12 Hs] 0 0 85 [(0, .ref o), (1, .int (jI s)), (2, .int (jI s2)), (3, .int (jI c)), (4, .int (jI t))] [.int (jI p), .ref o] := by
    intro p hpc
    subst hpc
    have hcs := jnP_c s s2 c t Hs
    refine sw_callV (n := 88) F (ct_X4_fails (g := xg x) (l := xl x) o a z (jnP s s2 c t Hs) (by first | assumption | omega)) (rcv_ob F 0 (ci := 3) rfl rfl) q3973 q3975 qs68 q120 q3976 nd_X4_fails rfl (by decide) [0, 1, 2, 3, 4, 5] rfl [aN (xg x) 0 (a 0) 2400 D, aN (xg x) 0 (a 1) 10 M, aL (xg x) (a 3) 12 N, aI (xg x) 0 (a 4) 12 Sc, aI (xg x) 4 (a 5) 12 Hs] rfl 0 0 ⟨by omega, by omega⟩ [] rfl (Nat.le_of_ble_eq_true rfl) dX4_join_85 rfl (fun _ _ h => h.elim) (fun v Ws h => ?_)
    obtain ⟨rfl, hps_1, rfl⟩ := h
    show SW x [tmO (xg x) o a (va_up z 8 (jnP s s2 c t Hs)), aN (xg x) 0 (a 0) 2400 D, aN (xg x) 0 (a 1) 10 M, aL (xg x) (a 3) 12 N, aI (xg x) 0 (a 4) 12 Sc, aI (xg x) 4 (a 5) 12 Hs] _ _ _ _ [.int (jI (psI (jnP s s2 c t Hs)))]
    refine sw_if_eq (n := 91) F (by omega) (tgt := 93) dX4_join_88 (by decide) rfl (fun c_88 => ?_) (fun c_88 => ?_)
    ·
      refine SW.cast (L' := [(0, .ref o), (1, .int (jI (↑(s.toNat)))), (2, .int (jI (↑(s2.toNat)))), (3, .int (jI c)), (4, .int (jI (↑(t.toNat))))]) ?_ rfl (by rw [Int.toNat_of_nonneg (show 0 ≤ s by omega), Int.toNat_of_nonneg (show 0 ≤ s2 by omega), Int.toNat_of_nonneg (show 0 ≤ t by omega)]) rfl
      refine sw_iload_n (n := 94) F 3 rfl rfl dX4_join_93 rfl ?_
      by_cases c_94_42 : c = 42
      ·
        refine sw_lookup F (by omega) (tgt := 164) dX4_join_94 (by decide) (by rw [c_94_42]; decide) (off := 70) (by decide) ?_
        have ev : jnV N Sc s.toNat s2.toNat c = sgn (xrI (N s.toNat) (N s2.toNat)) ((N s.toNat).natAbs * (N s2.toNat).natAbs) := by unfold jnV; rw [if_neg (by omega), if_neg (by omega), if_pos (by omega)]
        have es : jnS N Sc s.toNat s2.toNat c = Sc s.toNat + Sc s2.toNat := by unfold jnS; rw [if_neg (by omega), if_neg (by omega), if_pos (by omega)]
        have ea : (jnV N Sc s.toNat s2.toNat c).natAbs = (N s.toNat).natAbs * (N s2.toNat).natAbs := by rw [ev, sgn_na]
        refine sw_aload_n (n := 165) F 0 (some o) rfl rfl rfl dX4_join_164 rfl ?_
        refine sw_iload_n (n := 166) F 1 rfl rfl dX4_join_165 rfl ?_
        refine sw_iload_n (n := 167) F 2 rfl rfl dX4_join_166 rfl ?_
        refine sw_iload (n := 169) F 4 rfl dX4_join_167 rfl ?_
        refine sw_callV (n := 172) F (ct_X4_multiplies (g := xg x) (l := xl x) o a (va_up z 8 (jnP s s2 c t Hs)) D M N Sc Hs s.toNat s2.toNat t.toNat (by first | assumption | omega) (by first | assumption | omega) (by first | assumption | omega) hA hN hSc) (rcv_ob F 0 (ci := 3) rfl rfl) q4079 q4081 qs84 q120 q4082 nd_X4_multiplies rfl (by decide) [0, 1, 2, 3, 4, 5] rfl [] rfl 0 0 ⟨by omega, by omega⟩ [] rfl (Nat.le_of_ble_eq_true rfl) dX4_join_169 rfl (fun _ _ h => h.elim) (fun v Ws h => ?_)
        obtain ⟨D1_2, M1_3, rfl, hV_4, rfl⟩ := h
        show SW x [tmO (xg x) o a (va_up z 8 (jnP s s2 c t Hs)), aN (xg x) 0 (a 0) 2400 D1_2, aN (xg x) 0 (a 1) 10 M1_3, aL (xg x) (a 3) 12 (up1 (laI ((N s.toNat).natAbs * (N s2.toNat).natAbs) (Sc s.toNat + Sc s2.toNat)) N t.toNat (sgn (xrI (N s.toNat) (N s2.toNat)) ((N s.toNat).natAbs * (N s2.toNat).natAbs))), aI (xg x) 0 (a 4) 12 (up1 (laI ((N s.toNat).natAbs * (N s2.toNat).natAbs) (Sc s.toNat + Sc s2.toNat)) Sc t.toNat (Sc s.toNat + Sc s2.toNat)), aI (xg x) 4 (a 5) 12 (up1 (laI ((N s.toNat).natAbs * (N s2.toNat).natAbs) (Sc s.toNat + Sc s2.toNat)) Hs t.toNat 1)] _ _ _ _ [.int (jI (laI ((N s.toNat).natAbs * (N s2.toNat).natAbs) (Sc s.toNat + Sc s2.toNat)))]
        have la_5 := laI_cases ((N s.toNat).natAbs * (N s2.toNat).natAbs) (Sc s.toNat + Sc s2.toNat)
        have a_6 := hV_4.1
        refine sw_istore (n := 174) F (L2 := [(6, .int (jI (laI ((N s.toNat).natAbs * (N s2.toNat).natAbs) (Sc s.toNat + Sc s2.toNat)))), (0, .ref o), (1, .int (jI (↑(s.toNat)))), (2, .int (jI (↑(s2.toNat)))), (3, .int (jI c)), (4, .int (jI (↑(t.toNat))))]) rfl (by decide) dX4_join_172 rfl ?_
        refine sw_goto F (n := 224) dX4_join_174 (by decide) ?_
        refine sw_aload_n (n := 225) F 1 (some o) rfl rfl rfl dX4_join_224 rfl ?_
        refine sw_iload (n := 227) F 0 rfl dX4_join_225 rfl ?_
        refine sw_if_eq (n := 230) F (by omega) (tgt := 234) dX4_join_227 (by decide) rfl (fun c_227 => ?_) (fun c_227 => ?_)
        ·
          refine sw_iconst (n := 235) F (4) (by decide) dX4_join_234 rfl ?_
          refine sw_callV (n := 238) F (ct_X4_fails (g := xg x) (l := xl x) o a (va_up z 8 (jnP s s2 c t Hs)) 4 (by first | assumption | omega)) (rcv_ob F 0 (ci := 3) rfl rfl) q3973 q3975 qs68 q120 q3976 nd_X4_fails rfl (by decide) [0, 1, 2, 3, 4, 5] rfl [aN (xg x) 0 (a 0) 2400 D1_2, aN (xg x) 0 (a 1) 10 M1_3, aL (xg x) (a 3) 12 (up1 (laI ((N s.toNat).natAbs * (N s2.toNat).natAbs) (Sc s.toNat + Sc s2.toNat)) N t.toNat (sgn (xrI (N s.toNat) (N s2.toNat)) ((N s.toNat).natAbs * (N s2.toNat).natAbs))), aI (xg x) 0 (a 4) 12 (up1 (laI ((N s.toNat).natAbs * (N s2.toNat).natAbs) (Sc s.toNat + Sc s2.toNat)) Sc t.toNat (Sc s.toNat + Sc s2.toNat)), aI (xg x) 4 (a 5) 12 (up1 (laI ((N s.toNat).natAbs * (N s2.toNat).natAbs) (Sc s.toNat + Sc s2.toNat)) Hs t.toNat 1)] rfl 0 0 ⟨by omega, by omega⟩ [] rfl (Nat.le_of_ble_eq_true rfl) dX4_join_235 rfl (fun _ _ h => h.elim) (fun v Ws h => ?_)
          obtain ⟨rfl, hps_7, rfl⟩ := h
          show SW x [tmO (xg x) o a (va_up (va_up z 8 (jnP s s2 c t Hs)) 8 4), aN (xg x) 0 (a 0) 2400 D1_2, aN (xg x) 0 (a 1) 10 M1_3, aL (xg x) (a 3) 12 (up1 (laI ((N s.toNat).natAbs * (N s2.toNat).natAbs) (Sc s.toNat + Sc s2.toNat)) N t.toNat (sgn (xrI (N s.toNat) (N s2.toNat)) ((N s.toNat).natAbs * (N s2.toNat).natAbs))), aI (xg x) 0 (a 4) 12 (up1 (laI ((N s.toNat).natAbs * (N s2.toNat).natAbs) (Sc s.toNat + Sc s2.toNat)) Sc t.toNat (Sc s.toNat + Sc s2.toNat)), aI (xg x) 4 (a 5) 12 (up1 (laI ((N s.toNat).natAbs * (N s2.toNat).natAbs) (Sc s.toNat + Sc s2.toNat)) Hs t.toNat 1)] _ _ _ _ [.int (jI 1)]
          refine sw_if_eq (n := 241) F (by decide) (tgt := 245) dX4_join_238 (by decide) rfl (fun c_238 => ?_) (fun c_238 => ?_)
          · exfalso; exact absurd c_238 (by decide)
          ·
            refine sw_iconst (n := 242) F (0) (by decide) dX4_join_241 rfl ?_
            refine sw_goto F (n := 252) dX4_join_242 (by decide) ?_
            have e0 : jnP s s2 c t Hs = 0 := by omega
            have l1 : laI (jnV N Sc s.toNat s2.toNat c).natAbs (jnS N Sc s.toNat s2.toNat c) = 0 := by rw [ea, es]; first | assumption | omega
            have e : cd2 4 (jnP s s2 c t Hs) (laI (jnV N Sc s.toNat s2.toNat c).natAbs (jnS N Sc s.toNat s2.toNat c)) = 4 := cd2_f e0 l1
            rw [ea, es] at l1
            exact sw_iret F _ rfl (by first | rfl | exact jI_nz (by omega) | exact jI_nc (by omega)) dX4_join_252 (by rw [hPo]; exact ⟨D1_2, M1_3, (by rw [e]; rfl), (by exact hV_4.mono (by simp)), (by rw [e]; simp only [up0_4, l1, up1_00, ev, es, up_88])⟩)
        ·
          refine sw_iconst (n := 231) F (0) (by decide) dX4_join_230 rfl ?_
          refine sw_goto F (n := 235) dX4_join_231 (by decide) ?_
          refine sw_callV (n := 238) F (ct_X4_fails (g := xg x) (l := xl x) o a (va_up z 8 (jnP s s2 c t Hs)) 0 (by first | assumption | omega)) (rcv_ob F 0 (ci := 3) rfl rfl) q3973 q3975 qs68 q120 q3976 nd_X4_fails rfl (by decide) [0, 1, 2, 3, 4, 5] rfl [aN (xg x) 0 (a 0) 2400 D1_2, aN (xg x) 0 (a 1) 10 M1_3, aL (xg x) (a 3) 12 (up1 (laI ((N s.toNat).natAbs * (N s2.toNat).natAbs) (Sc s.toNat + Sc s2.toNat)) N t.toNat (sgn (xrI (N s.toNat) (N s2.toNat)) ((N s.toNat).natAbs * (N s2.toNat).natAbs))), aI (xg x) 0 (a 4) 12 (up1 (laI ((N s.toNat).natAbs * (N s2.toNat).natAbs) (Sc s.toNat + Sc s2.toNat)) Sc t.toNat (Sc s.toNat + Sc s2.toNat)), aI (xg x) 4 (a 5) 12 (up1 (laI ((N s.toNat).natAbs * (N s2.toNat).natAbs) (Sc s.toNat + Sc s2.toNat)) Hs t.toNat 1)] rfl 0 0 ⟨by omega, by omega⟩ [] rfl (Nat.le_of_ble_eq_true rfl) dX4_join_235 rfl (fun _ _ h => h.elim) (fun v Ws h => ?_)
          obtain ⟨rfl, hps_8, rfl⟩ := h
          show SW x [tmO (xg x) o a (va_up (va_up z 8 (jnP s s2 c t Hs)) 8 0), aN (xg x) 0 (a 0) 2400 D1_2, aN (xg x) 0 (a 1) 10 M1_3, aL (xg x) (a 3) 12 (up1 (laI ((N s.toNat).natAbs * (N s2.toNat).natAbs) (Sc s.toNat + Sc s2.toNat)) N t.toNat (sgn (xrI (N s.toNat) (N s2.toNat)) ((N s.toNat).natAbs * (N s2.toNat).natAbs))), aI (xg x) 0 (a 4) 12 (up1 (laI ((N s.toNat).natAbs * (N s2.toNat).natAbs) (Sc s.toNat + Sc s2.toNat)) Sc t.toNat (Sc s.toNat + Sc s2.toNat)), aI (xg x) 4 (a 5) 12 (up1 (laI ((N s.toNat).natAbs * (N s2.toNat).natAbs) (Sc s.toNat + Sc s2.toNat)) Hs t.toNat 1)] _ _ _ _ [.int (jI 0)]
          refine sw_if_eq (n := 241) F (by decide) (tgt := 245) dX4_join_238 (by decide) rfl (fun c_238 => ?_) (fun c_238 => ?_)
          ·
            refine sw_aload_n (n := 246) F 1 (some o) rfl rfl rfl dX4_join_245 rfl ?_
            refine sw_get (n := 249) F 0 rfl (k := 4) ⟨(RX4, TX4, 50), rfl, by decide, q3803, in_X4, Or.inl rfl⟩ (v := .ref (a 4)) rfl dX4_join_246 rfl ?_
            refine sw_iload (n := 251) F 5 rfl dX4_join_249 rfl ?_
            refine sw_ialoadI (n := 252) F 4 rfl (fun _ => rfl) t.toNat (by omega) (by omega) dX4_join_251 rfl ?_
            have e0 : jnP s s2 c t Hs = 0 := by omega
            have l1 : laI (jnV N Sc s.toNat s2.toNat c).natAbs (jnS N Sc s.toNat s2.toNat c) = 1 := by rw [ea, es]; omega
            have e : cd2 4 (jnP s s2 c t Hs) (laI (jnV N Sc s.toNat s2.toNat c).natAbs (jnS N Sc s.toNat s2.toNat c)) = 0 := cd2_t e0 (by rw [l1]; decide)
            rw [ea, es] at l1
            exact sw_iret F _ rfl (by first | rfl | exact jI_nz (by omega) | exact jI_nc (by omega)) dX4_join_252 (by rw [hPo]; exact ⟨D1_2, M1_3, (by rw [e, if0_0]; first | rfl | (simp only [l1, up1_11, va_up_self, ev, es])), (by exact hV_4.mono (by simp)), (by rw [e]; simp only [up0_0, l1, up1_11, ev, es, up_88])⟩)
          · exfalso; exact absurd c_238 (by decide)
      ·
        by_cases c_94_43 : c = 43
        ·
          refine sw_lookup F (by omega) (tgt := 136) dX4_join_94 (by decide) (by rw [c_94_43]; decide) (off := 42) (by decide) ?_
          have ev : jnV N Sc s.toNat s2.toNat c = smV N Sc s.toNat s2.toNat 0 := by unfold jnV; rw [if_pos (by omega)]
          have es : jnS N Sc s.toNat s2.toNat c = grI (Sc s.toNat) (Sc s2.toNat) := by unfold jnS; rw [if_pos (by omega)]
          have ea : (jnV N Sc s.toNat s2.toNat c).natAbs = (smV N Sc s.toNat s2.toNat 0).natAbs := by rw [ev]
          refine sw_aload_n (n := 137) F 0 (some o) rfl rfl rfl dX4_join_136 rfl ?_
          refine sw_iload_n (n := 138) F 1 rfl rfl dX4_join_137 rfl ?_
          refine sw_iload_n (n := 139) F 2 rfl rfl dX4_join_138 rfl ?_
          refine sw_iconst (n := 140) F (0) (by decide) dX4_join_139 rfl ?_
          refine sw_iload (n := 142) F 4 rfl dX4_join_140 rfl ?_
          refine sw_callV (n := 145) F (ct_X4_sums (g := xg x) (l := xl x) o a (va_up z 8 (jnP s s2 c t Hs)) D M N Sc Hs s.toNat s2.toNat 0 t.toNat (by first | assumption | omega) (by first | assumption | omega) (by decide) (by first | assumption | omega) hA hN hSc) (rcv_ob F 0 (ci := 3) rfl rfl) q4056 q4058 qs79 q120 q4059 nd_X4_sums rfl (by decide) [0, 1, 2, 3, 4, 5] rfl [] rfl 0 0 ⟨by omega, by omega⟩ [] rfl (Nat.le_of_ble_eq_true rfl) dX4_join_142 rfl (fun _ _ h => h.elim) (fun v Ws h => ?_)
          obtain ⟨D1_9, M1_10, rfl, hV_11, rfl⟩ := h
          show SW x [tmO (xg x) o a (va_up z 8 (jnP s s2 c t Hs)), aN (xg x) 0 (a 0) 2400 D1_9, aN (xg x) 0 (a 1) 10 M1_10, aL (xg x) (a 3) 12 (up1 (laI (smV N Sc s.toNat s2.toNat 0).natAbs (grI (Sc s.toNat) (Sc s2.toNat))) N t.toNat (smV N Sc s.toNat s2.toNat 0)), aI (xg x) 0 (a 4) 12 (up1 (laI (smV N Sc s.toNat s2.toNat 0).natAbs (grI (Sc s.toNat) (Sc s2.toNat))) Sc t.toNat (grI (Sc s.toNat) (Sc s2.toNat))), aI (xg x) 4 (a 5) 12 (up1 (laI (smV N Sc s.toNat s2.toNat 0).natAbs (grI (Sc s.toNat) (Sc s2.toNat))) Hs t.toNat 1)] _ _ _ _ [.int (jI (laI (smV N Sc s.toNat s2.toNat 0).natAbs (grI (Sc s.toNat) (Sc s2.toNat))))]
          have la_12 := laI_cases (smV N Sc s.toNat s2.toNat 0).natAbs (grI (Sc s.toNat) (Sc s2.toNat))
          have a_13 := hV_11.1
          refine sw_istore (n := 147) F (L2 := [(6, .int (jI (laI (smV N Sc s.toNat s2.toNat 0).natAbs (grI (Sc s.toNat) (Sc s2.toNat))))), (0, .ref o), (1, .int (jI (↑(s.toNat)))), (2, .int (jI (↑(s2.toNat)))), (3, .int (jI c)), (4, .int (jI (↑(t.toNat))))]) rfl (by decide) dX4_join_145 rfl ?_
          refine sw_goto F (n := 224) dX4_join_147 (by decide) ?_
          refine sw_aload_n (n := 225) F 1 (some o) rfl rfl rfl dX4_join_224 rfl ?_
          refine sw_iload (n := 227) F 0 rfl dX4_join_225 rfl ?_
          refine sw_if_eq (n := 230) F (by omega) (tgt := 234) dX4_join_227 (by decide) rfl (fun c_227 => ?_) (fun c_227 => ?_)
          ·
            refine sw_iconst (n := 235) F (4) (by decide) dX4_join_234 rfl ?_
            refine sw_callV (n := 238) F (ct_X4_fails (g := xg x) (l := xl x) o a (va_up z 8 (jnP s s2 c t Hs)) 4 (by first | assumption | omega)) (rcv_ob F 0 (ci := 3) rfl rfl) q3973 q3975 qs68 q120 q3976 nd_X4_fails rfl (by decide) [0, 1, 2, 3, 4, 5] rfl [aN (xg x) 0 (a 0) 2400 D1_9, aN (xg x) 0 (a 1) 10 M1_10, aL (xg x) (a 3) 12 (up1 (laI (smV N Sc s.toNat s2.toNat 0).natAbs (grI (Sc s.toNat) (Sc s2.toNat))) N t.toNat (smV N Sc s.toNat s2.toNat 0)), aI (xg x) 0 (a 4) 12 (up1 (laI (smV N Sc s.toNat s2.toNat 0).natAbs (grI (Sc s.toNat) (Sc s2.toNat))) Sc t.toNat (grI (Sc s.toNat) (Sc s2.toNat))), aI (xg x) 4 (a 5) 12 (up1 (laI (smV N Sc s.toNat s2.toNat 0).natAbs (grI (Sc s.toNat) (Sc s2.toNat))) Hs t.toNat 1)] rfl 0 0 ⟨by omega, by omega⟩ [] rfl (Nat.le_of_ble_eq_true rfl) dX4_join_235 rfl (fun _ _ h => h.elim) (fun v Ws h => ?_)
            obtain ⟨rfl, hps_14, rfl⟩ := h
            show SW x [tmO (xg x) o a (va_up (va_up z 8 (jnP s s2 c t Hs)) 8 4), aN (xg x) 0 (a 0) 2400 D1_9, aN (xg x) 0 (a 1) 10 M1_10, aL (xg x) (a 3) 12 (up1 (laI (smV N Sc s.toNat s2.toNat 0).natAbs (grI (Sc s.toNat) (Sc s2.toNat))) N t.toNat (smV N Sc s.toNat s2.toNat 0)), aI (xg x) 0 (a 4) 12 (up1 (laI (smV N Sc s.toNat s2.toNat 0).natAbs (grI (Sc s.toNat) (Sc s2.toNat))) Sc t.toNat (grI (Sc s.toNat) (Sc s2.toNat))), aI (xg x) 4 (a 5) 12 (up1 (laI (smV N Sc s.toNat s2.toNat 0).natAbs (grI (Sc s.toNat) (Sc s2.toNat))) Hs t.toNat 1)] _ _ _ _ [.int (jI 1)]
            refine sw_if_eq (n := 241) F (by decide) (tgt := 245) dX4_join_238 (by decide) rfl (fun c_238 => ?_) (fun c_238 => ?_)
            · exfalso; exact absurd c_238 (by decide)
            ·
              refine sw_iconst (n := 242) F (0) (by decide) dX4_join_241 rfl ?_
              refine sw_goto F (n := 252) dX4_join_242 (by decide) ?_
              have e0 : jnP s s2 c t Hs = 0 := by omega
              have l1 : laI (jnV N Sc s.toNat s2.toNat c).natAbs (jnS N Sc s.toNat s2.toNat c) = 0 := by rw [ea, es]; first | assumption | omega
              have e : cd2 4 (jnP s s2 c t Hs) (laI (jnV N Sc s.toNat s2.toNat c).natAbs (jnS N Sc s.toNat s2.toNat c)) = 4 := cd2_f e0 l1
              rw [ea, es] at l1
              exact sw_iret F _ rfl (by first | rfl | exact jI_nz (by omega) | exact jI_nc (by omega)) dX4_join_252 (by rw [hPo]; exact ⟨D1_9, M1_10, (by rw [e]; rfl), (by exact hV_11.mono (by simp)), (by rw [e]; simp only [up0_4, l1, up1_00, ev, es, up_88])⟩)
          ·
            refine sw_iconst (n := 231) F (0) (by decide) dX4_join_230 rfl ?_
            refine sw_goto F (n := 235) dX4_join_231 (by decide) ?_
            refine sw_callV (n := 238) F (ct_X4_fails (g := xg x) (l := xl x) o a (va_up z 8 (jnP s s2 c t Hs)) 0 (by first | assumption | omega)) (rcv_ob F 0 (ci := 3) rfl rfl) q3973 q3975 qs68 q120 q3976 nd_X4_fails rfl (by decide) [0, 1, 2, 3, 4, 5] rfl [aN (xg x) 0 (a 0) 2400 D1_9, aN (xg x) 0 (a 1) 10 M1_10, aL (xg x) (a 3) 12 (up1 (laI (smV N Sc s.toNat s2.toNat 0).natAbs (grI (Sc s.toNat) (Sc s2.toNat))) N t.toNat (smV N Sc s.toNat s2.toNat 0)), aI (xg x) 0 (a 4) 12 (up1 (laI (smV N Sc s.toNat s2.toNat 0).natAbs (grI (Sc s.toNat) (Sc s2.toNat))) Sc t.toNat (grI (Sc s.toNat) (Sc s2.toNat))), aI (xg x) 4 (a 5) 12 (up1 (laI (smV N Sc s.toNat s2.toNat 0).natAbs (grI (Sc s.toNat) (Sc s2.toNat))) Hs t.toNat 1)] rfl 0 0 ⟨by omega, by omega⟩ [] rfl (Nat.le_of_ble_eq_true rfl) dX4_join_235 rfl (fun _ _ h => h.elim) (fun v Ws h => ?_)
            obtain ⟨rfl, hps_15, rfl⟩ := h
            show SW x [tmO (xg x) o a (va_up (va_up z 8 (jnP s s2 c t Hs)) 8 0), aN (xg x) 0 (a 0) 2400 D1_9, aN (xg x) 0 (a 1) 10 M1_10, aL (xg x) (a 3) 12 (up1 (laI (smV N Sc s.toNat s2.toNat 0).natAbs (grI (Sc s.toNat) (Sc s2.toNat))) N t.toNat (smV N Sc s.toNat s2.toNat 0)), aI (xg x) 0 (a 4) 12 (up1 (laI (smV N Sc s.toNat s2.toNat 0).natAbs (grI (Sc s.toNat) (Sc s2.toNat))) Sc t.toNat (grI (Sc s.toNat) (Sc s2.toNat))), aI (xg x) 4 (a 5) 12 (up1 (laI (smV N Sc s.toNat s2.toNat 0).natAbs (grI (Sc s.toNat) (Sc s2.toNat))) Hs t.toNat 1)] _ _ _ _ [.int (jI 0)]
            refine sw_if_eq (n := 241) F (by decide) (tgt := 245) dX4_join_238 (by decide) rfl (fun c_238 => ?_) (fun c_238 => ?_)
            ·
              refine sw_aload_n (n := 246) F 1 (some o) rfl rfl rfl dX4_join_245 rfl ?_
              refine sw_get (n := 249) F 0 rfl (k := 4) ⟨(RX4, TX4, 50), rfl, by decide, q3803, in_X4, Or.inl rfl⟩ (v := .ref (a 4)) rfl dX4_join_246 rfl ?_
              refine sw_iload (n := 251) F 5 rfl dX4_join_249 rfl ?_
              refine sw_ialoadI (n := 252) F 4 rfl (fun _ => rfl) t.toNat (by omega) (by omega) dX4_join_251 rfl ?_
              have e0 : jnP s s2 c t Hs = 0 := by omega
              have l1 : laI (jnV N Sc s.toNat s2.toNat c).natAbs (jnS N Sc s.toNat s2.toNat c) = 1 := by rw [ea, es]; omega
              have e : cd2 4 (jnP s s2 c t Hs) (laI (jnV N Sc s.toNat s2.toNat c).natAbs (jnS N Sc s.toNat s2.toNat c)) = 0 := cd2_t e0 (by rw [l1]; decide)
              rw [ea, es] at l1
              exact sw_iret F _ rfl (by first | rfl | exact jI_nz (by omega) | exact jI_nc (by omega)) dX4_join_252 (by rw [hPo]; exact ⟨D1_9, M1_10, (by rw [e, if0_0]; first | rfl | (simp only [l1, up1_11, va_up_self, ev, es])), (by exact hV_11.mono (by simp)), (by rw [e]; simp only [up0_0, l1, up1_11, ev, es, up_88])⟩)
            · exfalso; exact absurd c_238 (by decide)
        ·
          by_cases c_94_45 : c = 45
          ·
            refine sw_lookup F (by omega) (tgt := 150) dX4_join_94 (by decide) (by rw [c_94_45]; decide) (off := 56) (by decide) ?_
            have ev : jnV N Sc s.toNat s2.toNat c = smV N Sc s.toNat s2.toNat 1 := by unfold jnV; rw [if_neg (by omega), if_pos (by omega)]
            have es : jnS N Sc s.toNat s2.toNat c = grI (Sc s.toNat) (Sc s2.toNat) := by unfold jnS; rw [if_neg (by omega), if_pos (by omega)]
            have ea : (jnV N Sc s.toNat s2.toNat c).natAbs = (smV N Sc s.toNat s2.toNat 1).natAbs := by rw [ev]
            refine sw_aload_n (n := 151) F 0 (some o) rfl rfl rfl dX4_join_150 rfl ?_
            refine sw_iload_n (n := 152) F 1 rfl rfl dX4_join_151 rfl ?_
            refine sw_iload_n (n := 153) F 2 rfl rfl dX4_join_152 rfl ?_
            refine sw_iconst (n := 154) F (1) (by decide) dX4_join_153 rfl ?_
            refine sw_iload (n := 156) F 4 rfl dX4_join_154 rfl ?_
            refine sw_callV (n := 159) F (ct_X4_sums (g := xg x) (l := xl x) o a (va_up z 8 (jnP s s2 c t Hs)) D M N Sc Hs s.toNat s2.toNat 1 t.toNat (by first | assumption | omega) (by first | assumption | omega) (by decide) (by first | assumption | omega) hA hN hSc) (rcv_ob F 0 (ci := 3) rfl rfl) q4056 q4058 qs79 q120 q4059 nd_X4_sums rfl (by decide) [0, 1, 2, 3, 4, 5] rfl [] rfl 0 0 ⟨by omega, by omega⟩ [] rfl (Nat.le_of_ble_eq_true rfl) dX4_join_156 rfl (fun _ _ h => h.elim) (fun v Ws h => ?_)
            obtain ⟨D1_16, M1_17, rfl, hV_18, rfl⟩ := h
            show SW x [tmO (xg x) o a (va_up z 8 (jnP s s2 c t Hs)), aN (xg x) 0 (a 0) 2400 D1_16, aN (xg x) 0 (a 1) 10 M1_17, aL (xg x) (a 3) 12 (up1 (laI (smV N Sc s.toNat s2.toNat 1).natAbs (grI (Sc s.toNat) (Sc s2.toNat))) N t.toNat (smV N Sc s.toNat s2.toNat 1)), aI (xg x) 0 (a 4) 12 (up1 (laI (smV N Sc s.toNat s2.toNat 1).natAbs (grI (Sc s.toNat) (Sc s2.toNat))) Sc t.toNat (grI (Sc s.toNat) (Sc s2.toNat))), aI (xg x) 4 (a 5) 12 (up1 (laI (smV N Sc s.toNat s2.toNat 1).natAbs (grI (Sc s.toNat) (Sc s2.toNat))) Hs t.toNat 1)] _ _ _ _ [.int (jI (laI (smV N Sc s.toNat s2.toNat 1).natAbs (grI (Sc s.toNat) (Sc s2.toNat))))]
            have la_19 := laI_cases (smV N Sc s.toNat s2.toNat 1).natAbs (grI (Sc s.toNat) (Sc s2.toNat))
            have a_20 := hV_18.1
            refine sw_istore (n := 161) F (L2 := [(6, .int (jI (laI (smV N Sc s.toNat s2.toNat 1).natAbs (grI (Sc s.toNat) (Sc s2.toNat))))), (0, .ref o), (1, .int (jI (↑(s.toNat)))), (2, .int (jI (↑(s2.toNat)))), (3, .int (jI c)), (4, .int (jI (↑(t.toNat))))]) rfl (by decide) dX4_join_159 rfl ?_
            refine sw_goto F (n := 224) dX4_join_161 (by decide) ?_
            refine sw_aload_n (n := 225) F 1 (some o) rfl rfl rfl dX4_join_224 rfl ?_
            refine sw_iload (n := 227) F 0 rfl dX4_join_225 rfl ?_
            refine sw_if_eq (n := 230) F (by omega) (tgt := 234) dX4_join_227 (by decide) rfl (fun c_227 => ?_) (fun c_227 => ?_)
            ·
              refine sw_iconst (n := 235) F (4) (by decide) dX4_join_234 rfl ?_
              refine sw_callV (n := 238) F (ct_X4_fails (g := xg x) (l := xl x) o a (va_up z 8 (jnP s s2 c t Hs)) 4 (by first | assumption | omega)) (rcv_ob F 0 (ci := 3) rfl rfl) q3973 q3975 qs68 q120 q3976 nd_X4_fails rfl (by decide) [0, 1, 2, 3, 4, 5] rfl [aN (xg x) 0 (a 0) 2400 D1_16, aN (xg x) 0 (a 1) 10 M1_17, aL (xg x) (a 3) 12 (up1 (laI (smV N Sc s.toNat s2.toNat 1).natAbs (grI (Sc s.toNat) (Sc s2.toNat))) N t.toNat (smV N Sc s.toNat s2.toNat 1)), aI (xg x) 0 (a 4) 12 (up1 (laI (smV N Sc s.toNat s2.toNat 1).natAbs (grI (Sc s.toNat) (Sc s2.toNat))) Sc t.toNat (grI (Sc s.toNat) (Sc s2.toNat))), aI (xg x) 4 (a 5) 12 (up1 (laI (smV N Sc s.toNat s2.toNat 1).natAbs (grI (Sc s.toNat) (Sc s2.toNat))) Hs t.toNat 1)] rfl 0 0 ⟨by omega, by omega⟩ [] rfl (Nat.le_of_ble_eq_true rfl) dX4_join_235 rfl (fun _ _ h => h.elim) (fun v Ws h => ?_)
              obtain ⟨rfl, hps_21, rfl⟩ := h
              show SW x [tmO (xg x) o a (va_up (va_up z 8 (jnP s s2 c t Hs)) 8 4), aN (xg x) 0 (a 0) 2400 D1_16, aN (xg x) 0 (a 1) 10 M1_17, aL (xg x) (a 3) 12 (up1 (laI (smV N Sc s.toNat s2.toNat 1).natAbs (grI (Sc s.toNat) (Sc s2.toNat))) N t.toNat (smV N Sc s.toNat s2.toNat 1)), aI (xg x) 0 (a 4) 12 (up1 (laI (smV N Sc s.toNat s2.toNat 1).natAbs (grI (Sc s.toNat) (Sc s2.toNat))) Sc t.toNat (grI (Sc s.toNat) (Sc s2.toNat))), aI (xg x) 4 (a 5) 12 (up1 (laI (smV N Sc s.toNat s2.toNat 1).natAbs (grI (Sc s.toNat) (Sc s2.toNat))) Hs t.toNat 1)] _ _ _ _ [.int (jI 1)]
              refine sw_if_eq (n := 241) F (by decide) (tgt := 245) dX4_join_238 (by decide) rfl (fun c_238 => ?_) (fun c_238 => ?_)
              · exfalso; exact absurd c_238 (by decide)
              ·
                refine sw_iconst (n := 242) F (0) (by decide) dX4_join_241 rfl ?_
                refine sw_goto F (n := 252) dX4_join_242 (by decide) ?_
                have e0 : jnP s s2 c t Hs = 0 := by omega
                have l1 : laI (jnV N Sc s.toNat s2.toNat c).natAbs (jnS N Sc s.toNat s2.toNat c) = 0 := by rw [ea, es]; first | assumption | omega
                have e : cd2 4 (jnP s s2 c t Hs) (laI (jnV N Sc s.toNat s2.toNat c).natAbs (jnS N Sc s.toNat s2.toNat c)) = 4 := cd2_f e0 l1
                rw [ea, es] at l1
                exact sw_iret F _ rfl (by first | rfl | exact jI_nz (by omega) | exact jI_nc (by omega)) dX4_join_252 (by rw [hPo]; exact ⟨D1_16, M1_17, (by rw [e]; rfl), (by exact hV_18.mono (by simp)), (by rw [e]; simp only [up0_4, l1, up1_00, ev, es, up_88])⟩)
            ·
              refine sw_iconst (n := 231) F (0) (by decide) dX4_join_230 rfl ?_
              refine sw_goto F (n := 235) dX4_join_231 (by decide) ?_
              refine sw_callV (n := 238) F (ct_X4_fails (g := xg x) (l := xl x) o a (va_up z 8 (jnP s s2 c t Hs)) 0 (by first | assumption | omega)) (rcv_ob F 0 (ci := 3) rfl rfl) q3973 q3975 qs68 q120 q3976 nd_X4_fails rfl (by decide) [0, 1, 2, 3, 4, 5] rfl [aN (xg x) 0 (a 0) 2400 D1_16, aN (xg x) 0 (a 1) 10 M1_17, aL (xg x) (a 3) 12 (up1 (laI (smV N Sc s.toNat s2.toNat 1).natAbs (grI (Sc s.toNat) (Sc s2.toNat))) N t.toNat (smV N Sc s.toNat s2.toNat 1)), aI (xg x) 0 (a 4) 12 (up1 (laI (smV N Sc s.toNat s2.toNat 1).natAbs (grI (Sc s.toNat) (Sc s2.toNat))) Sc t.toNat (grI (Sc s.toNat) (Sc s2.toNat))), aI (xg x) 4 (a 5) 12 (up1 (laI (smV N Sc s.toNat s2.toNat 1).natAbs (grI (Sc s.toNat) (Sc s2.toNat))) Hs t.toNat 1)] rfl 0 0 ⟨by omega, by omega⟩ [] rfl (Nat.le_of_ble_eq_true rfl) dX4_join_235 rfl (fun _ _ h => h.elim) (fun v Ws h => ?_)
              obtain ⟨rfl, hps_22, rfl⟩ := h
              show SW x [tmO (xg x) o a (va_up (va_up z 8 (jnP s s2 c t Hs)) 8 0), aN (xg x) 0 (a 0) 2400 D1_16, aN (xg x) 0 (a 1) 10 M1_17, aL (xg x) (a 3) 12 (up1 (laI (smV N Sc s.toNat s2.toNat 1).natAbs (grI (Sc s.toNat) (Sc s2.toNat))) N t.toNat (smV N Sc s.toNat s2.toNat 1)), aI (xg x) 0 (a 4) 12 (up1 (laI (smV N Sc s.toNat s2.toNat 1).natAbs (grI (Sc s.toNat) (Sc s2.toNat))) Sc t.toNat (grI (Sc s.toNat) (Sc s2.toNat))), aI (xg x) 4 (a 5) 12 (up1 (laI (smV N Sc s.toNat s2.toNat 1).natAbs (grI (Sc s.toNat) (Sc s2.toNat))) Hs t.toNat 1)] _ _ _ _ [.int (jI 0)]
              refine sw_if_eq (n := 241) F (by decide) (tgt := 245) dX4_join_238 (by decide) rfl (fun c_238 => ?_) (fun c_238 => ?_)
              ·
                refine sw_aload_n (n := 246) F 1 (some o) rfl rfl rfl dX4_join_245 rfl ?_
                refine sw_get (n := 249) F 0 rfl (k := 4) ⟨(RX4, TX4, 50), rfl, by decide, q3803, in_X4, Or.inl rfl⟩ (v := .ref (a 4)) rfl dX4_join_246 rfl ?_
                refine sw_iload (n := 251) F 5 rfl dX4_join_249 rfl ?_
                refine sw_ialoadI (n := 252) F 4 rfl (fun _ => rfl) t.toNat (by omega) (by omega) dX4_join_251 rfl ?_
                have e0 : jnP s s2 c t Hs = 0 := by omega
                have l1 : laI (jnV N Sc s.toNat s2.toNat c).natAbs (jnS N Sc s.toNat s2.toNat c) = 1 := by rw [ea, es]; omega
                have e : cd2 4 (jnP s s2 c t Hs) (laI (jnV N Sc s.toNat s2.toNat c).natAbs (jnS N Sc s.toNat s2.toNat c)) = 0 := cd2_t e0 (by rw [l1]; decide)
                rw [ea, es] at l1
                exact sw_iret F _ rfl (by first | rfl | exact jI_nz (by omega) | exact jI_nc (by omega)) dX4_join_252 (by rw [hPo]; exact ⟨D1_16, M1_17, (by rw [e, if0_0]; first | rfl | (simp only [l1, up1_11, va_up_self, ev, es])), (by exact hV_18.mono (by simp)), (by rw [e]; simp only [up0_0, l1, up1_11, ev, es, up_88])⟩)
              · exfalso; exact absurd c_238 (by decide)
          ·
            by_cases c_94_103 : c = 103
            ·
              refine sw_lookup F (by omega) (tgt := 177) dX4_join_94 (by decide) (by rw [c_94_103]; decide) (off := 83) (by decide) ?_
              refine sw_aload_n (n := 178) F 0 (some o) rfl rfl rfl dX4_join_177 rfl ?_
              refine sw_aload_n (n := 179) F 0 (some o) rfl rfl rfl dX4_join_178 rfl ?_
              refine sw_iload_n (n := 180) F 1 rfl rfl dX4_join_179 rfl ?_
              refine sw_iload_n (n := 181) F 2 rfl rfl dX4_join_180 rfl ?_
              refine sw_callV (n := 184) F (ct_X4_order (g := xg x) (l := xl x) o a (va_up z 8 (jnP s s2 c t Hs)) D M N Sc Hs s.toNat s2.toNat (by first | assumption | omega) (by first | assumption | omega) hA hN hSc) (rcv_ob F 0 (ci := 3) rfl rfl) q4091 q4093 qs87 q120 q4094 nd_X4_order rfl (by decide) [0, 1, 2, 3, 4, 5] rfl [] rfl 0 0 ⟨by omega, by omega⟩ [.ref o] rfl (Nat.le_of_ble_eq_true rfl) dX4_join_181 rfl (fun _ _ h => h.elim) (fun v Ws h => ?_)
              obtain ⟨D1_23, M1_24, rfl, hV_25, rfl⟩ := h
              show SW x [tmO (xg x) o a (va_up z 8 (jnP s s2 c t Hs)), aN (xg x) 0 (a 0) 2400 D1_23, aN (xg x) 0 (a 1) 10 M1_24, aL (xg x) (a 3) 12 N, aI (xg x) 0 (a 4) 12 Sc, aI (xg x) 4 (a 5) 12 Hs] _ _ _ _ [.int (jI (ordI N Sc s.toNat s2.toNat)), .ref o]
              have a_26 := hV_25.1
              refine sw_if_lt (n := 187) F (by omega) (tgt := 191) dX4_join_184 (by decide) rfl (fun c_184 => ?_) (fun c_184 => ?_)
              ·
                have ev : jnV N Sc s.toNat s2.toNat c = N s2.toNat := by unfold jnV; rw [if_neg (by omega), if_neg (by omega), if_neg (by omega), if_pos (by omega), if_neg (by omega)]
                have es : jnS N Sc s.toNat s2.toNat c = Sc s2.toNat := by unfold jnS; rw [if_neg (by omega), if_neg (by omega), if_neg (by omega), if_pos (by omega), if_neg (by omega)]
                have ea : (jnV N Sc s.toNat s2.toNat c).natAbs = (N s2.toNat).natAbs := by rw [ev]
                refine sw_iload_n (n := 192) F 2 rfl rfl dX4_join_191 rfl ?_
                refine sw_iload (n := 194) F 4 rfl dX4_join_192 rfl ?_
                refine sw_callV (n := 197) F (ct_X4_takes (g := xg x) (l := xl x) o a (va_up z 8 (jnP s s2 c t Hs)) D1_23 M1_24 N Sc Hs s2.toNat t.toNat (by first | assumption | omega) (by first | assumption | omega) a_26 hN hSc) (rcv_ob F 0 (ci := 3) rfl rfl) q4098 q4100 qs88 q120 q4101 nd_X4_takes rfl (by decide) [0, 1, 2, 3, 4, 5] rfl [] rfl 0 0 ⟨by omega, by omega⟩ [] rfl (Nat.le_of_ble_eq_true rfl) dX4_join_194 rfl (fun _ _ h => h.elim) (fun v Ws h => ?_)
                obtain ⟨D1_27, M1_28, rfl, hV_29, rfl⟩ := h
                show SW x [tmO (xg x) o a (va_up z 8 (jnP s s2 c t Hs)), aN (xg x) 0 (a 0) 2400 D1_27, aN (xg x) 0 (a 1) 10 M1_28, aL (xg x) (a 3) 12 (up1 (laI (N s2.toNat).natAbs (Sc s2.toNat)) N t.toNat (N s2.toNat)), aI (xg x) 0 (a 4) 12 (up1 (laI (N s2.toNat).natAbs (Sc s2.toNat)) Sc t.toNat (Sc s2.toNat)), aI (xg x) 4 (a 5) 12 (up1 (laI (N s2.toNat).natAbs (Sc s2.toNat)) Hs t.toNat 1)] _ _ _ _ [.int (jI (laI (N s2.toNat).natAbs (Sc s2.toNat)))]
                have la_30 := laI_cases (N s2.toNat).natAbs (Sc s2.toNat)
                have a_31 := hV_29.1
                have v_32 := (hV_25.mono (T := [4, 5]) (by simp)).trans hV_29 (by simp)
                refine sw_istore (n := 199) F (L2 := [(6, .int (jI (laI (N s2.toNat).natAbs (Sc s2.toNat)))), (0, .ref o), (1, .int (jI (↑(s.toNat)))), (2, .int (jI (↑(s2.toNat)))), (3, .int (jI c)), (4, .int (jI (↑(t.toNat))))]) rfl (by decide) dX4_join_197 rfl ?_
                refine sw_goto F (n := 224) dX4_join_199 (by decide) ?_
                refine sw_aload_n (n := 225) F 1 (some o) rfl rfl rfl dX4_join_224 rfl ?_
                refine sw_iload (n := 227) F 0 rfl dX4_join_225 rfl ?_
                refine sw_if_eq (n := 230) F (by omega) (tgt := 234) dX4_join_227 (by decide) rfl (fun c_227 => ?_) (fun c_227 => ?_)
                ·
                  refine sw_iconst (n := 235) F (4) (by decide) dX4_join_234 rfl ?_
                  refine sw_callV (n := 238) F (ct_X4_fails (g := xg x) (l := xl x) o a (va_up z 8 (jnP s s2 c t Hs)) 4 (by first | assumption | omega)) (rcv_ob F 0 (ci := 3) rfl rfl) q3973 q3975 qs68 q120 q3976 nd_X4_fails rfl (by decide) [0, 1, 2, 3, 4, 5] rfl [aN (xg x) 0 (a 0) 2400 D1_27, aN (xg x) 0 (a 1) 10 M1_28, aL (xg x) (a 3) 12 (up1 (laI (N s2.toNat).natAbs (Sc s2.toNat)) N t.toNat (N s2.toNat)), aI (xg x) 0 (a 4) 12 (up1 (laI (N s2.toNat).natAbs (Sc s2.toNat)) Sc t.toNat (Sc s2.toNat)), aI (xg x) 4 (a 5) 12 (up1 (laI (N s2.toNat).natAbs (Sc s2.toNat)) Hs t.toNat 1)] rfl 0 0 ⟨by omega, by omega⟩ [] rfl (Nat.le_of_ble_eq_true rfl) dX4_join_235 rfl (fun _ _ h => h.elim) (fun v Ws h => ?_)
                  obtain ⟨rfl, hps_33, rfl⟩ := h
                  show SW x [tmO (xg x) o a (va_up (va_up z 8 (jnP s s2 c t Hs)) 8 4), aN (xg x) 0 (a 0) 2400 D1_27, aN (xg x) 0 (a 1) 10 M1_28, aL (xg x) (a 3) 12 (up1 (laI (N s2.toNat).natAbs (Sc s2.toNat)) N t.toNat (N s2.toNat)), aI (xg x) 0 (a 4) 12 (up1 (laI (N s2.toNat).natAbs (Sc s2.toNat)) Sc t.toNat (Sc s2.toNat)), aI (xg x) 4 (a 5) 12 (up1 (laI (N s2.toNat).natAbs (Sc s2.toNat)) Hs t.toNat 1)] _ _ _ _ [.int (jI 1)]
                  refine sw_if_eq (n := 241) F (by decide) (tgt := 245) dX4_join_238 (by decide) rfl (fun c_238 => ?_) (fun c_238 => ?_)
                  · exfalso; exact absurd c_238 (by decide)
                  ·
                    refine sw_iconst (n := 242) F (0) (by decide) dX4_join_241 rfl ?_
                    refine sw_goto F (n := 252) dX4_join_242 (by decide) ?_
                    have e0 : jnP s s2 c t Hs = 0 := by omega
                    have l1 : laI (jnV N Sc s.toNat s2.toNat c).natAbs (jnS N Sc s.toNat s2.toNat c) = 0 := by rw [ea, es]; first | assumption | omega
                    have e : cd2 4 (jnP s s2 c t Hs) (laI (jnV N Sc s.toNat s2.toNat c).natAbs (jnS N Sc s.toNat s2.toNat c)) = 4 := cd2_f e0 l1
                    rw [ea, es] at l1
                    exact sw_iret F _ rfl (by first | rfl | exact jI_nz (by omega) | exact jI_nc (by omega)) dX4_join_252 (by rw [hPo]; exact ⟨D1_27, M1_28, (by rw [e]; rfl), (by exact v_32.mono (by simp)), (by rw [e]; simp only [up0_4, l1, up1_00, ev, es, up_88])⟩)
                ·
                  refine sw_iconst (n := 231) F (0) (by decide) dX4_join_230 rfl ?_
                  refine sw_goto F (n := 235) dX4_join_231 (by decide) ?_
                  refine sw_callV (n := 238) F (ct_X4_fails (g := xg x) (l := xl x) o a (va_up z 8 (jnP s s2 c t Hs)) 0 (by first | assumption | omega)) (rcv_ob F 0 (ci := 3) rfl rfl) q3973 q3975 qs68 q120 q3976 nd_X4_fails rfl (by decide) [0, 1, 2, 3, 4, 5] rfl [aN (xg x) 0 (a 0) 2400 D1_27, aN (xg x) 0 (a 1) 10 M1_28, aL (xg x) (a 3) 12 (up1 (laI (N s2.toNat).natAbs (Sc s2.toNat)) N t.toNat (N s2.toNat)), aI (xg x) 0 (a 4) 12 (up1 (laI (N s2.toNat).natAbs (Sc s2.toNat)) Sc t.toNat (Sc s2.toNat)), aI (xg x) 4 (a 5) 12 (up1 (laI (N s2.toNat).natAbs (Sc s2.toNat)) Hs t.toNat 1)] rfl 0 0 ⟨by omega, by omega⟩ [] rfl (Nat.le_of_ble_eq_true rfl) dX4_join_235 rfl (fun _ _ h => h.elim) (fun v Ws h => ?_)
                  obtain ⟨rfl, hps_34, rfl⟩ := h
                  show SW x [tmO (xg x) o a (va_up (va_up z 8 (jnP s s2 c t Hs)) 8 0), aN (xg x) 0 (a 0) 2400 D1_27, aN (xg x) 0 (a 1) 10 M1_28, aL (xg x) (a 3) 12 (up1 (laI (N s2.toNat).natAbs (Sc s2.toNat)) N t.toNat (N s2.toNat)), aI (xg x) 0 (a 4) 12 (up1 (laI (N s2.toNat).natAbs (Sc s2.toNat)) Sc t.toNat (Sc s2.toNat)), aI (xg x) 4 (a 5) 12 (up1 (laI (N s2.toNat).natAbs (Sc s2.toNat)) Hs t.toNat 1)] _ _ _ _ [.int (jI 0)]
                  refine sw_if_eq (n := 241) F (by decide) (tgt := 245) dX4_join_238 (by decide) rfl (fun c_238 => ?_) (fun c_238 => ?_)
                  ·
                    refine sw_aload_n (n := 246) F 1 (some o) rfl rfl rfl dX4_join_245 rfl ?_
                    refine sw_get (n := 249) F 0 rfl (k := 4) ⟨(RX4, TX4, 50), rfl, by decide, q3803, in_X4, Or.inl rfl⟩ (v := .ref (a 4)) rfl dX4_join_246 rfl ?_
                    refine sw_iload (n := 251) F 5 rfl dX4_join_249 rfl ?_
                    refine sw_ialoadI (n := 252) F 4 rfl (fun _ => rfl) t.toNat (by omega) (by omega) dX4_join_251 rfl ?_
                    have e0 : jnP s s2 c t Hs = 0 := by omega
                    have l1 : laI (jnV N Sc s.toNat s2.toNat c).natAbs (jnS N Sc s.toNat s2.toNat c) = 1 := by rw [ea, es]; omega
                    have e : cd2 4 (jnP s s2 c t Hs) (laI (jnV N Sc s.toNat s2.toNat c).natAbs (jnS N Sc s.toNat s2.toNat c)) = 0 := cd2_t e0 (by rw [l1]; decide)
                    rw [ea, es] at l1
                    exact sw_iret F _ rfl (by first | rfl | exact jI_nz (by omega) | exact jI_nc (by omega)) dX4_join_252 (by rw [hPo]; exact ⟨D1_27, M1_28, (by rw [e, if0_0]; first | rfl | (simp only [l1, up1_11, va_up_self, ev, es])), (by exact v_32.mono (by simp)), (by rw [e]; simp only [up0_0, l1, up1_11, ev, es, up_88])⟩)
                  · exfalso; exact absurd c_238 (by decide)
              ·
                have ev : jnV N Sc s.toNat s2.toNat c = N s.toNat := by unfold jnV; rw [if_neg (by omega), if_neg (by omega), if_neg (by omega), if_pos (by omega), if_pos (by omega)]
                have es : jnS N Sc s.toNat s2.toNat c = Sc s.toNat := by unfold jnS; rw [if_neg (by omega), if_neg (by omega), if_neg (by omega), if_pos (by omega), if_pos (by omega)]
                have ea : (jnV N Sc s.toNat s2.toNat c).natAbs = (N s.toNat).natAbs := by rw [ev]
                refine sw_iload_n (n := 188) F 1 rfl rfl dX4_join_187 rfl ?_
                refine sw_goto F (n := 192) dX4_join_188 (by decide) ?_
                refine sw_iload (n := 194) F 4 rfl dX4_join_192 rfl ?_
                refine sw_callV (n := 197) F (ct_X4_takes (g := xg x) (l := xl x) o a (va_up z 8 (jnP s s2 c t Hs)) D1_23 M1_24 N Sc Hs s.toNat t.toNat (by first | assumption | omega) (by first | assumption | omega) a_26 hN hSc) (rcv_ob F 0 (ci := 3) rfl rfl) q4098 q4100 qs88 q120 q4101 nd_X4_takes rfl (by decide) [0, 1, 2, 3, 4, 5] rfl [] rfl 0 0 ⟨by omega, by omega⟩ [] rfl (Nat.le_of_ble_eq_true rfl) dX4_join_194 rfl (fun _ _ h => h.elim) (fun v Ws h => ?_)
                obtain ⟨D1_35, M1_36, rfl, hV_37, rfl⟩ := h
                show SW x [tmO (xg x) o a (va_up z 8 (jnP s s2 c t Hs)), aN (xg x) 0 (a 0) 2400 D1_35, aN (xg x) 0 (a 1) 10 M1_36, aL (xg x) (a 3) 12 (up1 (laI (N s.toNat).natAbs (Sc s.toNat)) N t.toNat (N s.toNat)), aI (xg x) 0 (a 4) 12 (up1 (laI (N s.toNat).natAbs (Sc s.toNat)) Sc t.toNat (Sc s.toNat)), aI (xg x) 4 (a 5) 12 (up1 (laI (N s.toNat).natAbs (Sc s.toNat)) Hs t.toNat 1)] _ _ _ _ [.int (jI (laI (N s.toNat).natAbs (Sc s.toNat)))]
                have la_38 := laI_cases (N s.toNat).natAbs (Sc s.toNat)
                have a_39 := hV_37.1
                have v_40 := (hV_25.mono (T := [4, 5]) (by simp)).trans hV_37 (by simp)
                refine sw_istore (n := 199) F (L2 := [(6, .int (jI (laI (N s.toNat).natAbs (Sc s.toNat)))), (0, .ref o), (1, .int (jI (↑(s.toNat)))), (2, .int (jI (↑(s2.toNat)))), (3, .int (jI c)), (4, .int (jI (↑(t.toNat))))]) rfl (by decide) dX4_join_197 rfl ?_
                refine sw_goto F (n := 224) dX4_join_199 (by decide) ?_
                refine sw_aload_n (n := 225) F 1 (some o) rfl rfl rfl dX4_join_224 rfl ?_
                refine sw_iload (n := 227) F 0 rfl dX4_join_225 rfl ?_
                refine sw_if_eq (n := 230) F (by omega) (tgt := 234) dX4_join_227 (by decide) rfl (fun c_227 => ?_) (fun c_227 => ?_)
                ·
                  refine sw_iconst (n := 235) F (4) (by decide) dX4_join_234 rfl ?_
                  refine sw_callV (n := 238) F (ct_X4_fails (g := xg x) (l := xl x) o a (va_up z 8 (jnP s s2 c t Hs)) 4 (by first | assumption | omega)) (rcv_ob F 0 (ci := 3) rfl rfl) q3973 q3975 qs68 q120 q3976 nd_X4_fails rfl (by decide) [0, 1, 2, 3, 4, 5] rfl [aN (xg x) 0 (a 0) 2400 D1_35, aN (xg x) 0 (a 1) 10 M1_36, aL (xg x) (a 3) 12 (up1 (laI (N s.toNat).natAbs (Sc s.toNat)) N t.toNat (N s.toNat)), aI (xg x) 0 (a 4) 12 (up1 (laI (N s.toNat).natAbs (Sc s.toNat)) Sc t.toNat (Sc s.toNat)), aI (xg x) 4 (a 5) 12 (up1 (laI (N s.toNat).natAbs (Sc s.toNat)) Hs t.toNat 1)] rfl 0 0 ⟨by omega, by omega⟩ [] rfl (Nat.le_of_ble_eq_true rfl) dX4_join_235 rfl (fun _ _ h => h.elim) (fun v Ws h => ?_)
                  obtain ⟨rfl, hps_41, rfl⟩ := h
                  show SW x [tmO (xg x) o a (va_up (va_up z 8 (jnP s s2 c t Hs)) 8 4), aN (xg x) 0 (a 0) 2400 D1_35, aN (xg x) 0 (a 1) 10 M1_36, aL (xg x) (a 3) 12 (up1 (laI (N s.toNat).natAbs (Sc s.toNat)) N t.toNat (N s.toNat)), aI (xg x) 0 (a 4) 12 (up1 (laI (N s.toNat).natAbs (Sc s.toNat)) Sc t.toNat (Sc s.toNat)), aI (xg x) 4 (a 5) 12 (up1 (laI (N s.toNat).natAbs (Sc s.toNat)) Hs t.toNat 1)] _ _ _ _ [.int (jI 1)]
                  refine sw_if_eq (n := 241) F (by decide) (tgt := 245) dX4_join_238 (by decide) rfl (fun c_238 => ?_) (fun c_238 => ?_)
                  · exfalso; exact absurd c_238 (by decide)
                  ·
                    refine sw_iconst (n := 242) F (0) (by decide) dX4_join_241 rfl ?_
                    refine sw_goto F (n := 252) dX4_join_242 (by decide) ?_
                    have e0 : jnP s s2 c t Hs = 0 := by omega
                    have l1 : laI (jnV N Sc s.toNat s2.toNat c).natAbs (jnS N Sc s.toNat s2.toNat c) = 0 := by rw [ea, es]; first | assumption | omega
                    have e : cd2 4 (jnP s s2 c t Hs) (laI (jnV N Sc s.toNat s2.toNat c).natAbs (jnS N Sc s.toNat s2.toNat c)) = 4 := cd2_f e0 l1
                    rw [ea, es] at l1
                    exact sw_iret F _ rfl (by first | rfl | exact jI_nz (by omega) | exact jI_nc (by omega)) dX4_join_252 (by rw [hPo]; exact ⟨D1_35, M1_36, (by rw [e]; rfl), (by exact v_40.mono (by simp)), (by rw [e]; simp only [up0_4, l1, up1_00, ev, es, up_88])⟩)
                ·
                  refine sw_iconst (n := 231) F (0) (by decide) dX4_join_230 rfl ?_
                  refine sw_goto F (n := 235) dX4_join_231 (by decide) ?_
                  refine sw_callV (n := 238) F (ct_X4_fails (g := xg x) (l := xl x) o a (va_up z 8 (jnP s s2 c t Hs)) 0 (by first | assumption | omega)) (rcv_ob F 0 (ci := 3) rfl rfl) q3973 q3975 qs68 q120 q3976 nd_X4_fails rfl (by decide) [0, 1, 2, 3, 4, 5] rfl [aN (xg x) 0 (a 0) 2400 D1_35, aN (xg x) 0 (a 1) 10 M1_36, aL (xg x) (a 3) 12 (up1 (laI (N s.toNat).natAbs (Sc s.toNat)) N t.toNat (N s.toNat)), aI (xg x) 0 (a 4) 12 (up1 (laI (N s.toNat).natAbs (Sc s.toNat)) Sc t.toNat (Sc s.toNat)), aI (xg x) 4 (a 5) 12 (up1 (laI (N s.toNat).natAbs (Sc s.toNat)) Hs t.toNat 1)] rfl 0 0 ⟨by omega, by omega⟩ [] rfl (Nat.le_of_ble_eq_true rfl) dX4_join_235 rfl (fun _ _ h => h.elim) (fun v Ws h => ?_)
                  obtain ⟨rfl, hps_42, rfl⟩ := h
                  show SW x [tmO (xg x) o a (va_up (va_up z 8 (jnP s s2 c t Hs)) 8 0), aN (xg x) 0 (a 0) 2400 D1_35, aN (xg x) 0 (a 1) 10 M1_36, aL (xg x) (a 3) 12 (up1 (laI (N s.toNat).natAbs (Sc s.toNat)) N t.toNat (N s.toNat)), aI (xg x) 0 (a 4) 12 (up1 (laI (N s.toNat).natAbs (Sc s.toNat)) Sc t.toNat (Sc s.toNat)), aI (xg x) 4 (a 5) 12 (up1 (laI (N s.toNat).natAbs (Sc s.toNat)) Hs t.toNat 1)] _ _ _ _ [.int (jI 0)]
                  refine sw_if_eq (n := 241) F (by decide) (tgt := 245) dX4_join_238 (by decide) rfl (fun c_238 => ?_) (fun c_238 => ?_)
                  ·
                    refine sw_aload_n (n := 246) F 1 (some o) rfl rfl rfl dX4_join_245 rfl ?_
                    refine sw_get (n := 249) F 0 rfl (k := 4) ⟨(RX4, TX4, 50), rfl, by decide, q3803, in_X4, Or.inl rfl⟩ (v := .ref (a 4)) rfl dX4_join_246 rfl ?_
                    refine sw_iload (n := 251) F 5 rfl dX4_join_249 rfl ?_
                    refine sw_ialoadI (n := 252) F 4 rfl (fun _ => rfl) t.toNat (by omega) (by omega) dX4_join_251 rfl ?_
                    have e0 : jnP s s2 c t Hs = 0 := by omega
                    have l1 : laI (jnV N Sc s.toNat s2.toNat c).natAbs (jnS N Sc s.toNat s2.toNat c) = 1 := by rw [ea, es]; omega
                    have e : cd2 4 (jnP s s2 c t Hs) (laI (jnV N Sc s.toNat s2.toNat c).natAbs (jnS N Sc s.toNat s2.toNat c)) = 0 := cd2_t e0 (by rw [l1]; decide)
                    rw [ea, es] at l1
                    exact sw_iret F _ rfl (by first | rfl | exact jI_nz (by omega) | exact jI_nc (by omega)) dX4_join_252 (by rw [hPo]; exact ⟨D1_35, M1_36, (by rw [e, if0_0]; first | rfl | (simp only [l1, up1_11, va_up_self, ev, es])), (by exact v_40.mono (by simp)), (by rw [e]; simp only [up0_0, l1, up1_11, ev, es, up_88])⟩)
                  · exfalso; exact absurd c_238 (by decide)
            ·
              refine sw_lookup F (by omega) (tgt := 202) dX4_join_94 (by decide) (off := 108) (by simp [Op.lookupswitch.offset]; (repeat' split) <;> omega) (by decide) ?_
              refine sw_aload_n (n := 203) F 0 (some o) rfl rfl rfl dX4_join_202 rfl ?_
              refine sw_aload_n (n := 204) F 0 (some o) rfl rfl rfl dX4_join_203 rfl ?_
              refine sw_iload_n (n := 205) F 1 rfl rfl dX4_join_204 rfl ?_
              refine sw_iload_n (n := 206) F 2 rfl rfl dX4_join_205 rfl ?_
              refine sw_callV (n := 209) F (ct_X4_order (g := xg x) (l := xl x) o a (va_up z 8 (jnP s s2 c t Hs)) D M N Sc Hs s.toNat s2.toNat (by first | assumption | omega) (by first | assumption | omega) hA hN hSc) (rcv_ob F 0 (ci := 3) rfl rfl) q4091 q4093 qs87 q120 q4094 nd_X4_order rfl (by decide) [0, 1, 2, 3, 4, 5] rfl [] rfl 0 0 ⟨by omega, by omega⟩ [.ref o] rfl (Nat.le_of_ble_eq_true rfl) dX4_join_206 rfl (fun _ _ h => h.elim) (fun v Ws h => ?_)
              obtain ⟨D1_43, M1_44, rfl, hV_45, rfl⟩ := h
              show SW x [tmO (xg x) o a (va_up z 8 (jnP s s2 c t Hs)), aN (xg x) 0 (a 0) 2400 D1_43, aN (xg x) 0 (a 1) 10 M1_44, aL (xg x) (a 3) 12 N, aI (xg x) 0 (a 4) 12 Sc, aI (xg x) 4 (a 5) 12 Hs] _ _ _ _ [.int (jI (ordI N Sc s.toNat s2.toNat)), .ref o]
              have a_46 := hV_45.1
              refine sw_if_gt (n := 212) F (by omega) (tgt := 216) dX4_join_209 (by decide) rfl (fun c_209 => ?_) (fun c_209 => ?_)
              ·
                have ev : jnV N Sc s.toNat s2.toNat c = N s2.toNat := by unfold jnV; rw [if_neg (by omega), if_neg (by omega), if_neg (by omega), if_neg (by omega), if_neg (by omega)]
                have es : jnS N Sc s.toNat s2.toNat c = Sc s2.toNat := by unfold jnS; rw [if_neg (by omega), if_neg (by omega), if_neg (by omega), if_neg (by omega), if_neg (by omega)]
                have ea : (jnV N Sc s.toNat s2.toNat c).natAbs = (N s2.toNat).natAbs := by rw [ev]
                refine sw_iload_n (n := 217) F 2 rfl rfl dX4_join_216 rfl ?_
                refine sw_iload (n := 219) F 4 rfl dX4_join_217 rfl ?_
                refine sw_callV (n := 222) F (ct_X4_takes (g := xg x) (l := xl x) o a (va_up z 8 (jnP s s2 c t Hs)) D1_43 M1_44 N Sc Hs s2.toNat t.toNat (by first | assumption | omega) (by first | assumption | omega) a_46 hN hSc) (rcv_ob F 0 (ci := 3) rfl rfl) q4098 q4100 qs88 q120 q4101 nd_X4_takes rfl (by decide) [0, 1, 2, 3, 4, 5] rfl [] rfl 0 0 ⟨by omega, by omega⟩ [] rfl (Nat.le_of_ble_eq_true rfl) dX4_join_219 rfl (fun _ _ h => h.elim) (fun v Ws h => ?_)
                obtain ⟨D1_47, M1_48, rfl, hV_49, rfl⟩ := h
                show SW x [tmO (xg x) o a (va_up z 8 (jnP s s2 c t Hs)), aN (xg x) 0 (a 0) 2400 D1_47, aN (xg x) 0 (a 1) 10 M1_48, aL (xg x) (a 3) 12 (up1 (laI (N s2.toNat).natAbs (Sc s2.toNat)) N t.toNat (N s2.toNat)), aI (xg x) 0 (a 4) 12 (up1 (laI (N s2.toNat).natAbs (Sc s2.toNat)) Sc t.toNat (Sc s2.toNat)), aI (xg x) 4 (a 5) 12 (up1 (laI (N s2.toNat).natAbs (Sc s2.toNat)) Hs t.toNat 1)] _ _ _ _ [.int (jI (laI (N s2.toNat).natAbs (Sc s2.toNat)))]
                have la_50 := laI_cases (N s2.toNat).natAbs (Sc s2.toNat)
                have a_51 := hV_49.1
                have v_52 := (hV_45.mono (T := [4, 5]) (by simp)).trans hV_49 (by simp)
                refine sw_istore (n := 224) F (L2 := [(6, .int (jI (laI (N s2.toNat).natAbs (Sc s2.toNat)))), (0, .ref o), (1, .int (jI (↑(s.toNat)))), (2, .int (jI (↑(s2.toNat)))), (3, .int (jI c)), (4, .int (jI (↑(t.toNat))))]) rfl (by decide) dX4_join_222 rfl ?_
                refine sw_aload_n (n := 225) F 1 (some o) rfl rfl rfl dX4_join_224 rfl ?_
                refine sw_iload (n := 227) F 0 rfl dX4_join_225 rfl ?_
                refine sw_if_eq (n := 230) F (by omega) (tgt := 234) dX4_join_227 (by decide) rfl (fun c_227 => ?_) (fun c_227 => ?_)
                ·
                  refine sw_iconst (n := 235) F (4) (by decide) dX4_join_234 rfl ?_
                  refine sw_callV (n := 238) F (ct_X4_fails (g := xg x) (l := xl x) o a (va_up z 8 (jnP s s2 c t Hs)) 4 (by first | assumption | omega)) (rcv_ob F 0 (ci := 3) rfl rfl) q3973 q3975 qs68 q120 q3976 nd_X4_fails rfl (by decide) [0, 1, 2, 3, 4, 5] rfl [aN (xg x) 0 (a 0) 2400 D1_47, aN (xg x) 0 (a 1) 10 M1_48, aL (xg x) (a 3) 12 (up1 (laI (N s2.toNat).natAbs (Sc s2.toNat)) N t.toNat (N s2.toNat)), aI (xg x) 0 (a 4) 12 (up1 (laI (N s2.toNat).natAbs (Sc s2.toNat)) Sc t.toNat (Sc s2.toNat)), aI (xg x) 4 (a 5) 12 (up1 (laI (N s2.toNat).natAbs (Sc s2.toNat)) Hs t.toNat 1)] rfl 0 0 ⟨by omega, by omega⟩ [] rfl (Nat.le_of_ble_eq_true rfl) dX4_join_235 rfl (fun _ _ h => h.elim) (fun v Ws h => ?_)
                  obtain ⟨rfl, hps_53, rfl⟩ := h
                  show SW x [tmO (xg x) o a (va_up (va_up z 8 (jnP s s2 c t Hs)) 8 4), aN (xg x) 0 (a 0) 2400 D1_47, aN (xg x) 0 (a 1) 10 M1_48, aL (xg x) (a 3) 12 (up1 (laI (N s2.toNat).natAbs (Sc s2.toNat)) N t.toNat (N s2.toNat)), aI (xg x) 0 (a 4) 12 (up1 (laI (N s2.toNat).natAbs (Sc s2.toNat)) Sc t.toNat (Sc s2.toNat)), aI (xg x) 4 (a 5) 12 (up1 (laI (N s2.toNat).natAbs (Sc s2.toNat)) Hs t.toNat 1)] _ _ _ _ [.int (jI 1)]
                  refine sw_if_eq (n := 241) F (by decide) (tgt := 245) dX4_join_238 (by decide) rfl (fun c_238 => ?_) (fun c_238 => ?_)
                  · exfalso; exact absurd c_238 (by decide)
                  ·
                    refine sw_iconst (n := 242) F (0) (by decide) dX4_join_241 rfl ?_
                    refine sw_goto F (n := 252) dX4_join_242 (by decide) ?_
                    have e0 : jnP s s2 c t Hs = 0 := by omega
                    have l1 : laI (jnV N Sc s.toNat s2.toNat c).natAbs (jnS N Sc s.toNat s2.toNat c) = 0 := by rw [ea, es]; first | assumption | omega
                    have e : cd2 4 (jnP s s2 c t Hs) (laI (jnV N Sc s.toNat s2.toNat c).natAbs (jnS N Sc s.toNat s2.toNat c)) = 4 := cd2_f e0 l1
                    rw [ea, es] at l1
                    exact sw_iret F _ rfl (by first | rfl | exact jI_nz (by omega) | exact jI_nc (by omega)) dX4_join_252 (by rw [hPo]; exact ⟨D1_47, M1_48, (by rw [e]; rfl), (by exact v_52.mono (by simp)), (by rw [e]; simp only [up0_4, l1, up1_00, ev, es, up_88])⟩)
                ·
                  refine sw_iconst (n := 231) F (0) (by decide) dX4_join_230 rfl ?_
                  refine sw_goto F (n := 235) dX4_join_231 (by decide) ?_
                  refine sw_callV (n := 238) F (ct_X4_fails (g := xg x) (l := xl x) o a (va_up z 8 (jnP s s2 c t Hs)) 0 (by first | assumption | omega)) (rcv_ob F 0 (ci := 3) rfl rfl) q3973 q3975 qs68 q120 q3976 nd_X4_fails rfl (by decide) [0, 1, 2, 3, 4, 5] rfl [aN (xg x) 0 (a 0) 2400 D1_47, aN (xg x) 0 (a 1) 10 M1_48, aL (xg x) (a 3) 12 (up1 (laI (N s2.toNat).natAbs (Sc s2.toNat)) N t.toNat (N s2.toNat)), aI (xg x) 0 (a 4) 12 (up1 (laI (N s2.toNat).natAbs (Sc s2.toNat)) Sc t.toNat (Sc s2.toNat)), aI (xg x) 4 (a 5) 12 (up1 (laI (N s2.toNat).natAbs (Sc s2.toNat)) Hs t.toNat 1)] rfl 0 0 ⟨by omega, by omega⟩ [] rfl (Nat.le_of_ble_eq_true rfl) dX4_join_235 rfl (fun _ _ h => h.elim) (fun v Ws h => ?_)
                  obtain ⟨rfl, hps_54, rfl⟩ := h
                  show SW x [tmO (xg x) o a (va_up (va_up z 8 (jnP s s2 c t Hs)) 8 0), aN (xg x) 0 (a 0) 2400 D1_47, aN (xg x) 0 (a 1) 10 M1_48, aL (xg x) (a 3) 12 (up1 (laI (N s2.toNat).natAbs (Sc s2.toNat)) N t.toNat (N s2.toNat)), aI (xg x) 0 (a 4) 12 (up1 (laI (N s2.toNat).natAbs (Sc s2.toNat)) Sc t.toNat (Sc s2.toNat)), aI (xg x) 4 (a 5) 12 (up1 (laI (N s2.toNat).natAbs (Sc s2.toNat)) Hs t.toNat 1)] _ _ _ _ [.int (jI 0)]
                  refine sw_if_eq (n := 241) F (by decide) (tgt := 245) dX4_join_238 (by decide) rfl (fun c_238 => ?_) (fun c_238 => ?_)
                  ·
                    refine sw_aload_n (n := 246) F 1 (some o) rfl rfl rfl dX4_join_245 rfl ?_
                    refine sw_get (n := 249) F 0 rfl (k := 4) ⟨(RX4, TX4, 50), rfl, by decide, q3803, in_X4, Or.inl rfl⟩ (v := .ref (a 4)) rfl dX4_join_246 rfl ?_
                    refine sw_iload (n := 251) F 5 rfl dX4_join_249 rfl ?_
                    refine sw_ialoadI (n := 252) F 4 rfl (fun _ => rfl) t.toNat (by omega) (by omega) dX4_join_251 rfl ?_
                    have e0 : jnP s s2 c t Hs = 0 := by omega
                    have l1 : laI (jnV N Sc s.toNat s2.toNat c).natAbs (jnS N Sc s.toNat s2.toNat c) = 1 := by rw [ea, es]; omega
                    have e : cd2 4 (jnP s s2 c t Hs) (laI (jnV N Sc s.toNat s2.toNat c).natAbs (jnS N Sc s.toNat s2.toNat c)) = 0 := cd2_t e0 (by rw [l1]; decide)
                    rw [ea, es] at l1
                    exact sw_iret F _ rfl (by first | rfl | exact jI_nz (by omega) | exact jI_nc (by omega)) dX4_join_252 (by rw [hPo]; exact ⟨D1_47, M1_48, (by rw [e, if0_0]; first | rfl | (simp only [l1, up1_11, va_up_self, ev, es])), (by exact v_52.mono (by simp)), (by rw [e]; simp only [up0_0, l1, up1_11, ev, es, up_88])⟩)
                  · exfalso; exact absurd c_238 (by decide)
              ·
                refine sw_iload_n (n := 213) F 1 rfl rfl dX4_join_212 rfl ?_
                have ev : jnV N Sc s.toNat s2.toNat c = N s.toNat := by unfold jnV; rw [if_neg (by omega), if_neg (by omega), if_neg (by omega), if_neg (by omega), if_pos (by omega)]
                have es : jnS N Sc s.toNat s2.toNat c = Sc s.toNat := by unfold jnS; rw [if_neg (by omega), if_neg (by omega), if_neg (by omega), if_neg (by omega), if_pos (by omega)]
                have ea : (jnV N Sc s.toNat s2.toNat c).natAbs = (N s.toNat).natAbs := by rw [ev]
                refine sw_goto F (n := 217) dX4_join_213 (by decide) ?_
                refine sw_iload (n := 219) F 4 rfl dX4_join_217 rfl ?_
                refine sw_callV (n := 222) F (ct_X4_takes (g := xg x) (l := xl x) o a (va_up z 8 (jnP s s2 c t Hs)) D1_43 M1_44 N Sc Hs s.toNat t.toNat (by first | assumption | omega) (by first | assumption | omega) a_46 hN hSc) (rcv_ob F 0 (ci := 3) rfl rfl) q4098 q4100 qs88 q120 q4101 nd_X4_takes rfl (by decide) [0, 1, 2, 3, 4, 5] rfl [] rfl 0 0 ⟨by omega, by omega⟩ [] rfl (Nat.le_of_ble_eq_true rfl) dX4_join_219 rfl (fun _ _ h => h.elim) (fun v Ws h => ?_)
                obtain ⟨D1_55, M1_56, rfl, hV_57, rfl⟩ := h
                show SW x [tmO (xg x) o a (va_up z 8 (jnP s s2 c t Hs)), aN (xg x) 0 (a 0) 2400 D1_55, aN (xg x) 0 (a 1) 10 M1_56, aL (xg x) (a 3) 12 (up1 (laI (N s.toNat).natAbs (Sc s.toNat)) N t.toNat (N s.toNat)), aI (xg x) 0 (a 4) 12 (up1 (laI (N s.toNat).natAbs (Sc s.toNat)) Sc t.toNat (Sc s.toNat)), aI (xg x) 4 (a 5) 12 (up1 (laI (N s.toNat).natAbs (Sc s.toNat)) Hs t.toNat 1)] _ _ _ _ [.int (jI (laI (N s.toNat).natAbs (Sc s.toNat)))]
                have la_58 := laI_cases (N s.toNat).natAbs (Sc s.toNat)
                have a_59 := hV_57.1
                have v_60 := (hV_45.mono (T := [4, 5]) (by simp)).trans hV_57 (by simp)
                refine sw_istore (n := 224) F (L2 := [(6, .int (jI (laI (N s.toNat).natAbs (Sc s.toNat)))), (0, .ref o), (1, .int (jI (↑(s.toNat)))), (2, .int (jI (↑(s2.toNat)))), (3, .int (jI c)), (4, .int (jI (↑(t.toNat))))]) rfl (by decide) dX4_join_222 rfl ?_
                refine sw_aload_n (n := 225) F 1 (some o) rfl rfl rfl dX4_join_224 rfl ?_
                refine sw_iload (n := 227) F 0 rfl dX4_join_225 rfl ?_
                refine sw_if_eq (n := 230) F (by omega) (tgt := 234) dX4_join_227 (by decide) rfl (fun c_227 => ?_) (fun c_227 => ?_)
                ·
                  refine sw_iconst (n := 235) F (4) (by decide) dX4_join_234 rfl ?_
                  refine sw_callV (n := 238) F (ct_X4_fails (g := xg x) (l := xl x) o a (va_up z 8 (jnP s s2 c t Hs)) 4 (by first | assumption | omega)) (rcv_ob F 0 (ci := 3) rfl rfl) q3973 q3975 qs68 q120 q3976 nd_X4_fails rfl (by decide) [0, 1, 2, 3, 4, 5] rfl [aN (xg x) 0 (a 0) 2400 D1_55, aN (xg x) 0 (a 1) 10 M1_56, aL (xg x) (a 3) 12 (up1 (laI (N s.toNat).natAbs (Sc s.toNat)) N t.toNat (N s.toNat)), aI (xg x) 0 (a 4) 12 (up1 (laI (N s.toNat).natAbs (Sc s.toNat)) Sc t.toNat (Sc s.toNat)), aI (xg x) 4 (a 5) 12 (up1 (laI (N s.toNat).natAbs (Sc s.toNat)) Hs t.toNat 1)] rfl 0 0 ⟨by omega, by omega⟩ [] rfl (Nat.le_of_ble_eq_true rfl) dX4_join_235 rfl (fun _ _ h => h.elim) (fun v Ws h => ?_)
                  obtain ⟨rfl, hps_61, rfl⟩ := h
                  show SW x [tmO (xg x) o a (va_up (va_up z 8 (jnP s s2 c t Hs)) 8 4), aN (xg x) 0 (a 0) 2400 D1_55, aN (xg x) 0 (a 1) 10 M1_56, aL (xg x) (a 3) 12 (up1 (laI (N s.toNat).natAbs (Sc s.toNat)) N t.toNat (N s.toNat)), aI (xg x) 0 (a 4) 12 (up1 (laI (N s.toNat).natAbs (Sc s.toNat)) Sc t.toNat (Sc s.toNat)), aI (xg x) 4 (a 5) 12 (up1 (laI (N s.toNat).natAbs (Sc s.toNat)) Hs t.toNat 1)] _ _ _ _ [.int (jI 1)]
                  refine sw_if_eq (n := 241) F (by decide) (tgt := 245) dX4_join_238 (by decide) rfl (fun c_238 => ?_) (fun c_238 => ?_)
                  · exfalso; exact absurd c_238 (by decide)
                  ·
                    refine sw_iconst (n := 242) F (0) (by decide) dX4_join_241 rfl ?_
                    refine sw_goto F (n := 252) dX4_join_242 (by decide) ?_
                    have e0 : jnP s s2 c t Hs = 0 := by omega
                    have l1 : laI (jnV N Sc s.toNat s2.toNat c).natAbs (jnS N Sc s.toNat s2.toNat c) = 0 := by rw [ea, es]; first | assumption | omega
                    have e : cd2 4 (jnP s s2 c t Hs) (laI (jnV N Sc s.toNat s2.toNat c).natAbs (jnS N Sc s.toNat s2.toNat c)) = 4 := cd2_f e0 l1
                    rw [ea, es] at l1
                    exact sw_iret F _ rfl (by first | rfl | exact jI_nz (by omega) | exact jI_nc (by omega)) dX4_join_252 (by rw [hPo]; exact ⟨D1_55, M1_56, (by rw [e]; rfl), (by exact v_60.mono (by simp)), (by rw [e]; simp only [up0_4, l1, up1_00, ev, es, up_88])⟩)
                ·
                  refine sw_iconst (n := 231) F (0) (by decide) dX4_join_230 rfl ?_
                  refine sw_goto F (n := 235) dX4_join_231 (by decide) ?_
                  refine sw_callV (n := 238) F (ct_X4_fails (g := xg x) (l := xl x) o a (va_up z 8 (jnP s s2 c t Hs)) 0 (by first | assumption | omega)) (rcv_ob F 0 (ci := 3) rfl rfl) q3973 q3975 qs68 q120 q3976 nd_X4_fails rfl (by decide) [0, 1, 2, 3, 4, 5] rfl [aN (xg x) 0 (a 0) 2400 D1_55, aN (xg x) 0 (a 1) 10 M1_56, aL (xg x) (a 3) 12 (up1 (laI (N s.toNat).natAbs (Sc s.toNat)) N t.toNat (N s.toNat)), aI (xg x) 0 (a 4) 12 (up1 (laI (N s.toNat).natAbs (Sc s.toNat)) Sc t.toNat (Sc s.toNat)), aI (xg x) 4 (a 5) 12 (up1 (laI (N s.toNat).natAbs (Sc s.toNat)) Hs t.toNat 1)] rfl 0 0 ⟨by omega, by omega⟩ [] rfl (Nat.le_of_ble_eq_true rfl) dX4_join_235 rfl (fun _ _ h => h.elim) (fun v Ws h => ?_)
                  obtain ⟨rfl, hps_62, rfl⟩ := h
                  show SW x [tmO (xg x) o a (va_up (va_up z 8 (jnP s s2 c t Hs)) 8 0), aN (xg x) 0 (a 0) 2400 D1_55, aN (xg x) 0 (a 1) 10 M1_56, aL (xg x) (a 3) 12 (up1 (laI (N s.toNat).natAbs (Sc s.toNat)) N t.toNat (N s.toNat)), aI (xg x) 0 (a 4) 12 (up1 (laI (N s.toNat).natAbs (Sc s.toNat)) Sc t.toNat (Sc s.toNat)), aI (xg x) 4 (a 5) 12 (up1 (laI (N s.toNat).natAbs (Sc s.toNat)) Hs t.toNat 1)] _ _ _ _ [.int (jI 0)]
                  refine sw_if_eq (n := 241) F (by decide) (tgt := 245) dX4_join_238 (by decide) rfl (fun c_238 => ?_) (fun c_238 => ?_)
                  ·
                    refine sw_aload_n (n := 246) F 1 (some o) rfl rfl rfl dX4_join_245 rfl ?_
                    refine sw_get (n := 249) F 0 rfl (k := 4) ⟨(RX4, TX4, 50), rfl, by decide, q3803, in_X4, Or.inl rfl⟩ (v := .ref (a 4)) rfl dX4_join_246 rfl ?_
                    refine sw_iload (n := 251) F 5 rfl dX4_join_249 rfl ?_
                    refine sw_ialoadI (n := 252) F 4 rfl (fun _ => rfl) t.toNat (by omega) (by omega) dX4_join_251 rfl ?_
                    have e0 : jnP s s2 c t Hs = 0 := by omega
                    have l1 : laI (jnV N Sc s.toNat s2.toNat c).natAbs (jnS N Sc s.toNat s2.toNat c) = 1 := by rw [ea, es]; omega
                    have e : cd2 4 (jnP s s2 c t Hs) (laI (jnV N Sc s.toNat s2.toNat c).natAbs (jnS N Sc s.toNat s2.toNat c)) = 0 := cd2_t e0 (by rw [l1]; decide)
                    rw [ea, es] at l1
                    exact sw_iret F _ rfl (by first | rfl | exact jI_nz (by omega) | exact jI_nc (by omega)) dX4_join_252 (by rw [hPo]; exact ⟨D1_55, M1_56, (by rw [e, if0_0]; first | rfl | (simp only [l1, up1_11, va_up_self, ev, es])), (by exact v_60.mono (by simp)), (by rw [e]; simp only [up0_0, l1, up1_11, ev, es, up_88])⟩)
                  · exfalso; exact absurd c_238 (by decide)
    ·
      refine sw_iconst (n := 92) F (0) (by decide) dX4_join_91 rfl ?_
      have e0 : jnP s s2 c t Hs ≠ 0 := by omega
      have e : cd2 4 (jnP s s2 c t Hs) (laI (jnV N Sc s.toNat s2.toNat c).natAbs (jnS N Sc s.toNat s2.toNat c)) = jnP s s2 c t Hs := cd2_n e0
      exact sw_iret F _ rfl (by first | rfl | exact jI_nz (by omega) | exact jI_nc (by omega)) dX4_join_92 (by rw [hPo]; exact ⟨D, M, (by first | rw [e, if0_n e0] | (rw [e]; exact congrArg _ (congrArg _ (if0_n e0)))), (by exact (RV.rf hA).mono (S := []) (by simp)), (by rw [e]; simp only [up0_n e0, up_88])⟩)
  refine sw_bipush (n := 3) F (43) (by decide) dX4_join_1 rfl ?_
  refine sw_icmp_eq (n := 6) F (by omega) (by decide) (tgt := 30) dX4_join_3 (by decide) rfl (fun c_3 => ?_) (fun c_3 => ?_)
  ·
    refine sw_iconst (n := 31) F (1) (by decide) dX4_join_30 rfl ?_
    refine sw_goto F (n := 35) dX4_join_31 (by decide) ?_
    refine sw_istore (n := 37) F (L2 := [(5, .int (jI 1)), (0, .ref o), (1, .int (jI s)), (2, .int (jI s2)), (3, .int (jI c)), (4, .int (jI t))]) rfl (by decide) dX4_join_35 rfl ?_
    refine sw_aload_n (n := 38) F 1 (some o) rfl rfl rfl dX4_join_37 rfl ?_
    refine sw_aload_n (n := 39) F 1 (some o) rfl rfl rfl dX4_join_38 rfl ?_
    refine sw_iload_n (n := 40) F 2 rfl rfl dX4_join_39 rfl ?_
    refine sw_iload_n (n := 41) F 3 rfl rfl dX4_join_40 rfl ?_
    refine sw_iload (n := 43) F 5 rfl dX4_join_41 rfl ?_
    refine sw_callV (n := 46) F (ct_X4_noPair (g := xg x) (l := xl x) o a z s s2 t hs hs2 ht) (rcv_ob F 0 (ci := 3) rfl rfl) q4052 q4054 qs78 q120 q4055 nd_X4_noPair rfl (by decide) [0, 1, 2, 3, 4, 5] rfl [aN (xg x) 0 (a 0) 2400 D, aN (xg x) 0 (a 1) 10 M, aL (xg x) (a 3) 12 N, aI (xg x) 0 (a 4) 12 Sc, aI (xg x) 4 (a 5) 12 Hs] rfl 0 0 ⟨by omega, by omega⟩ [.ref o] rfl (Nat.le_of_ble_eq_true rfl) dX4_join_43 rfl (fun _ _ h => h.elim) (fun v Ws h => ?_)
    obtain ⟨rfl, hnp_63, rfl⟩ := h
    show SW x [tmO (xg x) o a z, aN (xg x) 0 (a 0) 2400 D, aN (xg x) 0 (a 1) 10 M, aL (xg x) (a 3) 12 N, aI (xg x) 0 (a 4) 12 Sc, aI (xg x) 4 (a 5) 12 Hs] _ _ _ _ [.int (jI (npI s s2 t)), .ref o]
    refine sw_if_le (n := 49) F (by omega) (tgt := 53) dX4_join_46 (by decide) rfl (fun c_46 => ?_) (fun c_46 => ?_)
    ·
      refine sw_iload (n := 55) F 0 rfl dX4_join_53 rfl ?_
      refine sw_if_ne (n := 58) F (by decide) (tgt := 62) dX4_join_55 (by decide) rfl (fun c_55 => ?_) (fun c_55 => ?_)
      ·
        refine sw_aload_n (n := 63) F 1 (some o) rfl rfl rfl dX4_join_62 rfl ?_
        refine sw_get (n := 66) F 0 rfl (k := 5) ⟨(RX4, TX4, 50), rfl, by decide, q3804, in_X4, Or.inl rfl⟩ (v := .ref (a 5)) rfl dX4_join_63 rfl ?_
        refine sw_iload_n (n := 67) F 2 rfl rfl dX4_join_66 rfl ?_
        refine sw_zaloadI (n := 68) F 5 rfl (fun _ => rfl) ((s : Int).toNat) (by omega) (by omega) dX4_join_67 rfl ?_
        refine sw_if_eq (n := 71) F (by omega) (tgt := 80) dX4_join_68 (by decide) rfl (fun c_68 => ?_) (fun c_68 => ?_)
        ·
          refine sw_iconst (n := 81) F (3) (by decide) dX4_join_80 rfl ?_
          refine sw_goto F (n := 85) dX4_join_81 (by decide) ?_
          refine sw_loc [1, 2, 3, 4, 5] (L2 := [(0, .ref o), (1, .int (jI s)), (2, .int (jI s2)), (3, .int (jI c)), (4, .int (jI t))]) rfl ?_
          exact K85 3 (by unfold jnP; (repeat' split) <;> omega)
        ·
          refine sw_aload_n (n := 72) F 1 (some o) rfl rfl rfl dX4_join_71 rfl ?_
          refine sw_get (n := 75) F 0 rfl (k := 5) ⟨(RX4, TX4, 50), rfl, by decide, q3804, in_X4, Or.inl rfl⟩ (v := .ref (a 5)) rfl dX4_join_72 rfl ?_
          refine sw_iload_n (n := 76) F 3 rfl rfl dX4_join_75 rfl ?_
          refine sw_zaloadI (n := 77) F 5 rfl (fun _ => rfl) ((s2 : Int).toNat) (by omega) (by omega) dX4_join_76 rfl ?_
          refine sw_if_ne (n := 80) F (by omega) (tgt := 84) dX4_join_77 (by decide) rfl (fun c_77 => ?_) (fun c_77 => ?_)
          ·
            refine sw_iconst (n := 85) F (0) (by decide) dX4_join_84 rfl ?_
            refine sw_loc [1, 2, 3, 4, 5] (L2 := [(0, .ref o), (1, .int (jI s)), (2, .int (jI s2)), (3, .int (jI c)), (4, .int (jI t))]) rfl ?_
            exact K85 0 (by unfold jnP; (repeat' split) <;> omega)
          ·
            refine sw_iconst (n := 81) F (3) (by decide) dX4_join_80 rfl ?_
            refine sw_goto F (n := 85) dX4_join_81 (by decide) ?_
            refine sw_loc [1, 2, 3, 4, 5] (L2 := [(0, .ref o), (1, .int (jI s)), (2, .int (jI s2)), (3, .int (jI c)), (4, .int (jI t))]) rfl ?_
            exact K85 3 (by unfold jnP; (repeat' split) <;> omega)
      · exfalso; exact absurd c_55 (by decide)
    ·
      refine sw_iconst (n := 50) F (1) (by decide) dX4_join_49 rfl ?_
      refine sw_goto F (n := 85) dX4_join_50 (by decide) ?_
      refine sw_loc [1, 2, 3, 4, 5] (L2 := [(0, .ref o), (1, .int (jI s)), (2, .int (jI s2)), (3, .int (jI c)), (4, .int (jI t))]) rfl ?_
      exact K85 1 (by unfold jnP; (repeat' split) <;> omega)
  ·
    refine sw_iload_n (n := 7) F 3 rfl rfl dX4_join_6 rfl ?_
    refine sw_bipush (n := 9) F (45) (by decide) dX4_join_7 rfl ?_
    refine sw_icmp_eq (n := 12) F (by omega) (by decide) (tgt := 30) dX4_join_9 (by decide) rfl (fun c_9 => ?_) (fun c_9 => ?_)
    ·
      refine sw_iconst (n := 31) F (1) (by decide) dX4_join_30 rfl ?_
      refine sw_goto F (n := 35) dX4_join_31 (by decide) ?_
      refine sw_istore (n := 37) F (L2 := [(5, .int (jI 1)), (0, .ref o), (1, .int (jI s)), (2, .int (jI s2)), (3, .int (jI c)), (4, .int (jI t))]) rfl (by decide) dX4_join_35 rfl ?_
      refine sw_aload_n (n := 38) F 1 (some o) rfl rfl rfl dX4_join_37 rfl ?_
      refine sw_aload_n (n := 39) F 1 (some o) rfl rfl rfl dX4_join_38 rfl ?_
      refine sw_iload_n (n := 40) F 2 rfl rfl dX4_join_39 rfl ?_
      refine sw_iload_n (n := 41) F 3 rfl rfl dX4_join_40 rfl ?_
      refine sw_iload (n := 43) F 5 rfl dX4_join_41 rfl ?_
      refine sw_callV (n := 46) F (ct_X4_noPair (g := xg x) (l := xl x) o a z s s2 t hs hs2 ht) (rcv_ob F 0 (ci := 3) rfl rfl) q4052 q4054 qs78 q120 q4055 nd_X4_noPair rfl (by decide) [0, 1, 2, 3, 4, 5] rfl [aN (xg x) 0 (a 0) 2400 D, aN (xg x) 0 (a 1) 10 M, aL (xg x) (a 3) 12 N, aI (xg x) 0 (a 4) 12 Sc, aI (xg x) 4 (a 5) 12 Hs] rfl 0 0 ⟨by omega, by omega⟩ [.ref o] rfl (Nat.le_of_ble_eq_true rfl) dX4_join_43 rfl (fun _ _ h => h.elim) (fun v Ws h => ?_)
      obtain ⟨rfl, hnp_64, rfl⟩ := h
      show SW x [tmO (xg x) o a z, aN (xg x) 0 (a 0) 2400 D, aN (xg x) 0 (a 1) 10 M, aL (xg x) (a 3) 12 N, aI (xg x) 0 (a 4) 12 Sc, aI (xg x) 4 (a 5) 12 Hs] _ _ _ _ [.int (jI (npI s s2 t)), .ref o]
      refine sw_if_le (n := 49) F (by omega) (tgt := 53) dX4_join_46 (by decide) rfl (fun c_46 => ?_) (fun c_46 => ?_)
      ·
        refine sw_iload (n := 55) F 0 rfl dX4_join_53 rfl ?_
        refine sw_if_ne (n := 58) F (by decide) (tgt := 62) dX4_join_55 (by decide) rfl (fun c_55 => ?_) (fun c_55 => ?_)
        ·
          refine sw_aload_n (n := 63) F 1 (some o) rfl rfl rfl dX4_join_62 rfl ?_
          refine sw_get (n := 66) F 0 rfl (k := 5) ⟨(RX4, TX4, 50), rfl, by decide, q3804, in_X4, Or.inl rfl⟩ (v := .ref (a 5)) rfl dX4_join_63 rfl ?_
          refine sw_iload_n (n := 67) F 2 rfl rfl dX4_join_66 rfl ?_
          refine sw_zaloadI (n := 68) F 5 rfl (fun _ => rfl) ((s : Int).toNat) (by omega) (by omega) dX4_join_67 rfl ?_
          refine sw_if_eq (n := 71) F (by omega) (tgt := 80) dX4_join_68 (by decide) rfl (fun c_68 => ?_) (fun c_68 => ?_)
          ·
            refine sw_iconst (n := 81) F (3) (by decide) dX4_join_80 rfl ?_
            refine sw_goto F (n := 85) dX4_join_81 (by decide) ?_
            refine sw_loc [1, 2, 3, 4, 5] (L2 := [(0, .ref o), (1, .int (jI s)), (2, .int (jI s2)), (3, .int (jI c)), (4, .int (jI t))]) rfl ?_
            exact K85 3 (by unfold jnP; (repeat' split) <;> omega)
          ·
            refine sw_aload_n (n := 72) F 1 (some o) rfl rfl rfl dX4_join_71 rfl ?_
            refine sw_get (n := 75) F 0 rfl (k := 5) ⟨(RX4, TX4, 50), rfl, by decide, q3804, in_X4, Or.inl rfl⟩ (v := .ref (a 5)) rfl dX4_join_72 rfl ?_
            refine sw_iload_n (n := 76) F 3 rfl rfl dX4_join_75 rfl ?_
            refine sw_zaloadI (n := 77) F 5 rfl (fun _ => rfl) ((s2 : Int).toNat) (by omega) (by omega) dX4_join_76 rfl ?_
            refine sw_if_ne (n := 80) F (by omega) (tgt := 84) dX4_join_77 (by decide) rfl (fun c_77 => ?_) (fun c_77 => ?_)
            ·
              refine sw_iconst (n := 85) F (0) (by decide) dX4_join_84 rfl ?_
              refine sw_loc [1, 2, 3, 4, 5] (L2 := [(0, .ref o), (1, .int (jI s)), (2, .int (jI s2)), (3, .int (jI c)), (4, .int (jI t))]) rfl ?_
              exact K85 0 (by unfold jnP; (repeat' split) <;> omega)
            ·
              refine sw_iconst (n := 81) F (3) (by decide) dX4_join_80 rfl ?_
              refine sw_goto F (n := 85) dX4_join_81 (by decide) ?_
              refine sw_loc [1, 2, 3, 4, 5] (L2 := [(0, .ref o), (1, .int (jI s)), (2, .int (jI s2)), (3, .int (jI c)), (4, .int (jI t))]) rfl ?_
              exact K85 3 (by unfold jnP; (repeat' split) <;> omega)
        · exfalso; exact absurd c_55 (by decide)
      ·
        refine sw_iconst (n := 50) F (1) (by decide) dX4_join_49 rfl ?_
        refine sw_goto F (n := 85) dX4_join_50 (by decide) ?_
        refine sw_loc [1, 2, 3, 4, 5] (L2 := [(0, .ref o), (1, .int (jI s)), (2, .int (jI s2)), (3, .int (jI c)), (4, .int (jI t))]) rfl ?_
        exact K85 1 (by unfold jnP; (repeat' split) <;> omega)
    ·
      refine sw_iload_n (n := 13) F 3 rfl rfl dX4_join_12 rfl ?_
      refine sw_bipush (n := 15) F (42) (by decide) dX4_join_13 rfl ?_
      refine sw_icmp_eq (n := 18) F (by omega) (by decide) (tgt := 30) dX4_join_15 (by decide) rfl (fun c_15 => ?_) (fun c_15 => ?_)
      ·
        refine sw_iconst (n := 31) F (1) (by decide) dX4_join_30 rfl ?_
        refine sw_goto F (n := 35) dX4_join_31 (by decide) ?_
        refine sw_istore (n := 37) F (L2 := [(5, .int (jI 1)), (0, .ref o), (1, .int (jI s)), (2, .int (jI s2)), (3, .int (jI c)), (4, .int (jI t))]) rfl (by decide) dX4_join_35 rfl ?_
        refine sw_aload_n (n := 38) F 1 (some o) rfl rfl rfl dX4_join_37 rfl ?_
        refine sw_aload_n (n := 39) F 1 (some o) rfl rfl rfl dX4_join_38 rfl ?_
        refine sw_iload_n (n := 40) F 2 rfl rfl dX4_join_39 rfl ?_
        refine sw_iload_n (n := 41) F 3 rfl rfl dX4_join_40 rfl ?_
        refine sw_iload (n := 43) F 5 rfl dX4_join_41 rfl ?_
        refine sw_callV (n := 46) F (ct_X4_noPair (g := xg x) (l := xl x) o a z s s2 t hs hs2 ht) (rcv_ob F 0 (ci := 3) rfl rfl) q4052 q4054 qs78 q120 q4055 nd_X4_noPair rfl (by decide) [0, 1, 2, 3, 4, 5] rfl [aN (xg x) 0 (a 0) 2400 D, aN (xg x) 0 (a 1) 10 M, aL (xg x) (a 3) 12 N, aI (xg x) 0 (a 4) 12 Sc, aI (xg x) 4 (a 5) 12 Hs] rfl 0 0 ⟨by omega, by omega⟩ [.ref o] rfl (Nat.le_of_ble_eq_true rfl) dX4_join_43 rfl (fun _ _ h => h.elim) (fun v Ws h => ?_)
        obtain ⟨rfl, hnp_65, rfl⟩ := h
        show SW x [tmO (xg x) o a z, aN (xg x) 0 (a 0) 2400 D, aN (xg x) 0 (a 1) 10 M, aL (xg x) (a 3) 12 N, aI (xg x) 0 (a 4) 12 Sc, aI (xg x) 4 (a 5) 12 Hs] _ _ _ _ [.int (jI (npI s s2 t)), .ref o]
        refine sw_if_le (n := 49) F (by omega) (tgt := 53) dX4_join_46 (by decide) rfl (fun c_46 => ?_) (fun c_46 => ?_)
        ·
          refine sw_iload (n := 55) F 0 rfl dX4_join_53 rfl ?_
          refine sw_if_ne (n := 58) F (by decide) (tgt := 62) dX4_join_55 (by decide) rfl (fun c_55 => ?_) (fun c_55 => ?_)
          ·
            refine sw_aload_n (n := 63) F 1 (some o) rfl rfl rfl dX4_join_62 rfl ?_
            refine sw_get (n := 66) F 0 rfl (k := 5) ⟨(RX4, TX4, 50), rfl, by decide, q3804, in_X4, Or.inl rfl⟩ (v := .ref (a 5)) rfl dX4_join_63 rfl ?_
            refine sw_iload_n (n := 67) F 2 rfl rfl dX4_join_66 rfl ?_
            refine sw_zaloadI (n := 68) F 5 rfl (fun _ => rfl) ((s : Int).toNat) (by omega) (by omega) dX4_join_67 rfl ?_
            refine sw_if_eq (n := 71) F (by omega) (tgt := 80) dX4_join_68 (by decide) rfl (fun c_68 => ?_) (fun c_68 => ?_)
            ·
              refine sw_iconst (n := 81) F (3) (by decide) dX4_join_80 rfl ?_
              refine sw_goto F (n := 85) dX4_join_81 (by decide) ?_
              refine sw_loc [1, 2, 3, 4, 5] (L2 := [(0, .ref o), (1, .int (jI s)), (2, .int (jI s2)), (3, .int (jI c)), (4, .int (jI t))]) rfl ?_
              exact K85 3 (by unfold jnP; (repeat' split) <;> omega)
            ·
              refine sw_aload_n (n := 72) F 1 (some o) rfl rfl rfl dX4_join_71 rfl ?_
              refine sw_get (n := 75) F 0 rfl (k := 5) ⟨(RX4, TX4, 50), rfl, by decide, q3804, in_X4, Or.inl rfl⟩ (v := .ref (a 5)) rfl dX4_join_72 rfl ?_
              refine sw_iload_n (n := 76) F 3 rfl rfl dX4_join_75 rfl ?_
              refine sw_zaloadI (n := 77) F 5 rfl (fun _ => rfl) ((s2 : Int).toNat) (by omega) (by omega) dX4_join_76 rfl ?_
              refine sw_if_ne (n := 80) F (by omega) (tgt := 84) dX4_join_77 (by decide) rfl (fun c_77 => ?_) (fun c_77 => ?_)
              ·
                refine sw_iconst (n := 85) F (0) (by decide) dX4_join_84 rfl ?_
                refine sw_loc [1, 2, 3, 4, 5] (L2 := [(0, .ref o), (1, .int (jI s)), (2, .int (jI s2)), (3, .int (jI c)), (4, .int (jI t))]) rfl ?_
                exact K85 0 (by unfold jnP; (repeat' split) <;> omega)
              ·
                refine sw_iconst (n := 81) F (3) (by decide) dX4_join_80 rfl ?_
                refine sw_goto F (n := 85) dX4_join_81 (by decide) ?_
                refine sw_loc [1, 2, 3, 4, 5] (L2 := [(0, .ref o), (1, .int (jI s)), (2, .int (jI s2)), (3, .int (jI c)), (4, .int (jI t))]) rfl ?_
                exact K85 3 (by unfold jnP; (repeat' split) <;> omega)
          · exfalso; exact absurd c_55 (by decide)
        ·
          refine sw_iconst (n := 50) F (1) (by decide) dX4_join_49 rfl ?_
          refine sw_goto F (n := 85) dX4_join_50 (by decide) ?_
          refine sw_loc [1, 2, 3, 4, 5] (L2 := [(0, .ref o), (1, .int (jI s)), (2, .int (jI s2)), (3, .int (jI c)), (4, .int (jI t))]) rfl ?_
          exact K85 1 (by unfold jnP; (repeat' split) <;> omega)
      ·
        refine sw_iload_n (n := 19) F 3 rfl rfl dX4_join_18 rfl ?_
        refine sw_bipush (n := 21) F (103) (by decide) dX4_join_19 rfl ?_
        refine sw_icmp_eq (n := 24) F (by omega) (by decide) (tgt := 30) dX4_join_21 (by decide) rfl (fun c_21 => ?_) (fun c_21 => ?_)
        ·
          refine sw_iconst (n := 31) F (1) (by decide) dX4_join_30 rfl ?_
          refine sw_goto F (n := 35) dX4_join_31 (by decide) ?_
          refine sw_istore (n := 37) F (L2 := [(5, .int (jI 1)), (0, .ref o), (1, .int (jI s)), (2, .int (jI s2)), (3, .int (jI c)), (4, .int (jI t))]) rfl (by decide) dX4_join_35 rfl ?_
          refine sw_aload_n (n := 38) F 1 (some o) rfl rfl rfl dX4_join_37 rfl ?_
          refine sw_aload_n (n := 39) F 1 (some o) rfl rfl rfl dX4_join_38 rfl ?_
          refine sw_iload_n (n := 40) F 2 rfl rfl dX4_join_39 rfl ?_
          refine sw_iload_n (n := 41) F 3 rfl rfl dX4_join_40 rfl ?_
          refine sw_iload (n := 43) F 5 rfl dX4_join_41 rfl ?_
          refine sw_callV (n := 46) F (ct_X4_noPair (g := xg x) (l := xl x) o a z s s2 t hs hs2 ht) (rcv_ob F 0 (ci := 3) rfl rfl) q4052 q4054 qs78 q120 q4055 nd_X4_noPair rfl (by decide) [0, 1, 2, 3, 4, 5] rfl [aN (xg x) 0 (a 0) 2400 D, aN (xg x) 0 (a 1) 10 M, aL (xg x) (a 3) 12 N, aI (xg x) 0 (a 4) 12 Sc, aI (xg x) 4 (a 5) 12 Hs] rfl 0 0 ⟨by omega, by omega⟩ [.ref o] rfl (Nat.le_of_ble_eq_true rfl) dX4_join_43 rfl (fun _ _ h => h.elim) (fun v Ws h => ?_)
          obtain ⟨rfl, hnp_66, rfl⟩ := h
          show SW x [tmO (xg x) o a z, aN (xg x) 0 (a 0) 2400 D, aN (xg x) 0 (a 1) 10 M, aL (xg x) (a 3) 12 N, aI (xg x) 0 (a 4) 12 Sc, aI (xg x) 4 (a 5) 12 Hs] _ _ _ _ [.int (jI (npI s s2 t)), .ref o]
          refine sw_if_le (n := 49) F (by omega) (tgt := 53) dX4_join_46 (by decide) rfl (fun c_46 => ?_) (fun c_46 => ?_)
          ·
            refine sw_iload (n := 55) F 0 rfl dX4_join_53 rfl ?_
            refine sw_if_ne (n := 58) F (by decide) (tgt := 62) dX4_join_55 (by decide) rfl (fun c_55 => ?_) (fun c_55 => ?_)
            ·
              refine sw_aload_n (n := 63) F 1 (some o) rfl rfl rfl dX4_join_62 rfl ?_
              refine sw_get (n := 66) F 0 rfl (k := 5) ⟨(RX4, TX4, 50), rfl, by decide, q3804, in_X4, Or.inl rfl⟩ (v := .ref (a 5)) rfl dX4_join_63 rfl ?_
              refine sw_iload_n (n := 67) F 2 rfl rfl dX4_join_66 rfl ?_
              refine sw_zaloadI (n := 68) F 5 rfl (fun _ => rfl) ((s : Int).toNat) (by omega) (by omega) dX4_join_67 rfl ?_
              refine sw_if_eq (n := 71) F (by omega) (tgt := 80) dX4_join_68 (by decide) rfl (fun c_68 => ?_) (fun c_68 => ?_)
              ·
                refine sw_iconst (n := 81) F (3) (by decide) dX4_join_80 rfl ?_
                refine sw_goto F (n := 85) dX4_join_81 (by decide) ?_
                refine sw_loc [1, 2, 3, 4, 5] (L2 := [(0, .ref o), (1, .int (jI s)), (2, .int (jI s2)), (3, .int (jI c)), (4, .int (jI t))]) rfl ?_
                exact K85 3 (by unfold jnP; (repeat' split) <;> omega)
              ·
                refine sw_aload_n (n := 72) F 1 (some o) rfl rfl rfl dX4_join_71 rfl ?_
                refine sw_get (n := 75) F 0 rfl (k := 5) ⟨(RX4, TX4, 50), rfl, by decide, q3804, in_X4, Or.inl rfl⟩ (v := .ref (a 5)) rfl dX4_join_72 rfl ?_
                refine sw_iload_n (n := 76) F 3 rfl rfl dX4_join_75 rfl ?_
                refine sw_zaloadI (n := 77) F 5 rfl (fun _ => rfl) ((s2 : Int).toNat) (by omega) (by omega) dX4_join_76 rfl ?_
                refine sw_if_ne (n := 80) F (by omega) (tgt := 84) dX4_join_77 (by decide) rfl (fun c_77 => ?_) (fun c_77 => ?_)
                ·
                  refine sw_iconst (n := 85) F (0) (by decide) dX4_join_84 rfl ?_
                  refine sw_loc [1, 2, 3, 4, 5] (L2 := [(0, .ref o), (1, .int (jI s)), (2, .int (jI s2)), (3, .int (jI c)), (4, .int (jI t))]) rfl ?_
                  exact K85 0 (by unfold jnP; (repeat' split) <;> omega)
                ·
                  refine sw_iconst (n := 81) F (3) (by decide) dX4_join_80 rfl ?_
                  refine sw_goto F (n := 85) dX4_join_81 (by decide) ?_
                  refine sw_loc [1, 2, 3, 4, 5] (L2 := [(0, .ref o), (1, .int (jI s)), (2, .int (jI s2)), (3, .int (jI c)), (4, .int (jI t))]) rfl ?_
                  exact K85 3 (by unfold jnP; (repeat' split) <;> omega)
            · exfalso; exact absurd c_55 (by decide)
          ·
            refine sw_iconst (n := 50) F (1) (by decide) dX4_join_49 rfl ?_
            refine sw_goto F (n := 85) dX4_join_50 (by decide) ?_
            refine sw_loc [1, 2, 3, 4, 5] (L2 := [(0, .ref o), (1, .int (jI s)), (2, .int (jI s2)), (3, .int (jI c)), (4, .int (jI t))]) rfl ?_
            exact K85 1 (by unfold jnP; (repeat' split) <;> omega)
        ·
          refine sw_iload_n (n := 25) F 3 rfl rfl dX4_join_24 rfl ?_
          refine sw_bipush (n := 27) F (108) (by decide) dX4_join_25 rfl ?_
          refine sw_icmp_ne (n := 30) F (by omega) (by decide) (tgt := 34) dX4_join_27 (by decide) rfl (fun c_27 => ?_) (fun c_27 => ?_)
          ·
            refine sw_iconst (n := 35) F (0) (by decide) dX4_join_34 rfl ?_
            refine sw_istore (n := 37) F (L2 := [(5, .int (jI 0)), (0, .ref o), (1, .int (jI s)), (2, .int (jI s2)), (3, .int (jI c)), (4, .int (jI t))]) rfl (by decide) dX4_join_35 rfl ?_
            refine sw_aload_n (n := 38) F 1 (some o) rfl rfl rfl dX4_join_37 rfl ?_
            refine sw_aload_n (n := 39) F 1 (some o) rfl rfl rfl dX4_join_38 rfl ?_
            refine sw_iload_n (n := 40) F 2 rfl rfl dX4_join_39 rfl ?_
            refine sw_iload_n (n := 41) F 3 rfl rfl dX4_join_40 rfl ?_
            refine sw_iload (n := 43) F 5 rfl dX4_join_41 rfl ?_
            refine sw_callV (n := 46) F (ct_X4_noPair (g := xg x) (l := xl x) o a z s s2 t hs hs2 ht) (rcv_ob F 0 (ci := 3) rfl rfl) q4052 q4054 qs78 q120 q4055 nd_X4_noPair rfl (by decide) [0, 1, 2, 3, 4, 5] rfl [aN (xg x) 0 (a 0) 2400 D, aN (xg x) 0 (a 1) 10 M, aL (xg x) (a 3) 12 N, aI (xg x) 0 (a 4) 12 Sc, aI (xg x) 4 (a 5) 12 Hs] rfl 0 0 ⟨by omega, by omega⟩ [.ref o] rfl (Nat.le_of_ble_eq_true rfl) dX4_join_43 rfl (fun _ _ h => h.elim) (fun v Ws h => ?_)
            obtain ⟨rfl, hnp_67, rfl⟩ := h
            show SW x [tmO (xg x) o a z, aN (xg x) 0 (a 0) 2400 D, aN (xg x) 0 (a 1) 10 M, aL (xg x) (a 3) 12 N, aI (xg x) 0 (a 4) 12 Sc, aI (xg x) 4 (a 5) 12 Hs] _ _ _ _ [.int (jI (npI s s2 t)), .ref o]
            refine sw_if_le (n := 49) F (by omega) (tgt := 53) dX4_join_46 (by decide) rfl (fun c_46 => ?_) (fun c_46 => ?_)
            ·
              refine sw_iload (n := 55) F 0 rfl dX4_join_53 rfl ?_
              refine sw_if_ne (n := 58) F (by decide) (tgt := 62) dX4_join_55 (by decide) rfl (fun c_55 => ?_) (fun c_55 => ?_)
              · exfalso; exact absurd c_55 (by decide)
              ·
                refine sw_iconst (n := 59) F (2) (by decide) dX4_join_58 rfl ?_
                refine sw_goto F (n := 85) dX4_join_59 (by decide) ?_
                refine sw_loc [1, 2, 3, 4, 5] (L2 := [(0, .ref o), (1, .int (jI s)), (2, .int (jI s2)), (3, .int (jI c)), (4, .int (jI t))]) rfl ?_
                exact K85 2 (by unfold jnP; (repeat' split) <;> omega)
            ·
              refine sw_iconst (n := 50) F (1) (by decide) dX4_join_49 rfl ?_
              refine sw_goto F (n := 85) dX4_join_50 (by decide) ?_
              refine sw_loc [1, 2, 3, 4, 5] (L2 := [(0, .ref o), (1, .int (jI s)), (2, .int (jI s2)), (3, .int (jI c)), (4, .int (jI t))]) rfl ?_
              exact K85 1 (by unfold jnP; (repeat' split) <;> omega)
          ·
            refine sw_iconst (n := 31) F (1) (by decide) dX4_join_30 rfl ?_
            refine sw_goto F (n := 35) dX4_join_31 (by decide) ?_
            refine sw_istore (n := 37) F (L2 := [(5, .int (jI 1)), (0, .ref o), (1, .int (jI s)), (2, .int (jI s2)), (3, .int (jI c)), (4, .int (jI t))]) rfl (by decide) dX4_join_35 rfl ?_
            refine sw_aload_n (n := 38) F 1 (some o) rfl rfl rfl dX4_join_37 rfl ?_
            refine sw_aload_n (n := 39) F 1 (some o) rfl rfl rfl dX4_join_38 rfl ?_
            refine sw_iload_n (n := 40) F 2 rfl rfl dX4_join_39 rfl ?_
            refine sw_iload_n (n := 41) F 3 rfl rfl dX4_join_40 rfl ?_
            refine sw_iload (n := 43) F 5 rfl dX4_join_41 rfl ?_
            refine sw_callV (n := 46) F (ct_X4_noPair (g := xg x) (l := xl x) o a z s s2 t hs hs2 ht) (rcv_ob F 0 (ci := 3) rfl rfl) q4052 q4054 qs78 q120 q4055 nd_X4_noPair rfl (by decide) [0, 1, 2, 3, 4, 5] rfl [aN (xg x) 0 (a 0) 2400 D, aN (xg x) 0 (a 1) 10 M, aL (xg x) (a 3) 12 N, aI (xg x) 0 (a 4) 12 Sc, aI (xg x) 4 (a 5) 12 Hs] rfl 0 0 ⟨by omega, by omega⟩ [.ref o] rfl (Nat.le_of_ble_eq_true rfl) dX4_join_43 rfl (fun _ _ h => h.elim) (fun v Ws h => ?_)
            obtain ⟨rfl, hnp_68, rfl⟩ := h
            show SW x [tmO (xg x) o a z, aN (xg x) 0 (a 0) 2400 D, aN (xg x) 0 (a 1) 10 M, aL (xg x) (a 3) 12 N, aI (xg x) 0 (a 4) 12 Sc, aI (xg x) 4 (a 5) 12 Hs] _ _ _ _ [.int (jI (npI s s2 t)), .ref o]
            refine sw_if_le (n := 49) F (by omega) (tgt := 53) dX4_join_46 (by decide) rfl (fun c_46 => ?_) (fun c_46 => ?_)
            ·
              refine sw_iload (n := 55) F 0 rfl dX4_join_53 rfl ?_
              refine sw_if_ne (n := 58) F (by decide) (tgt := 62) dX4_join_55 (by decide) rfl (fun c_55 => ?_) (fun c_55 => ?_)
              ·
                refine sw_aload_n (n := 63) F 1 (some o) rfl rfl rfl dX4_join_62 rfl ?_
                refine sw_get (n := 66) F 0 rfl (k := 5) ⟨(RX4, TX4, 50), rfl, by decide, q3804, in_X4, Or.inl rfl⟩ (v := .ref (a 5)) rfl dX4_join_63 rfl ?_
                refine sw_iload_n (n := 67) F 2 rfl rfl dX4_join_66 rfl ?_
                refine sw_zaloadI (n := 68) F 5 rfl (fun _ => rfl) ((s : Int).toNat) (by omega) (by omega) dX4_join_67 rfl ?_
                refine sw_if_eq (n := 71) F (by omega) (tgt := 80) dX4_join_68 (by decide) rfl (fun c_68 => ?_) (fun c_68 => ?_)
                ·
                  refine sw_iconst (n := 81) F (3) (by decide) dX4_join_80 rfl ?_
                  refine sw_goto F (n := 85) dX4_join_81 (by decide) ?_
                  refine sw_loc [1, 2, 3, 4, 5] (L2 := [(0, .ref o), (1, .int (jI s)), (2, .int (jI s2)), (3, .int (jI c)), (4, .int (jI t))]) rfl ?_
                  exact K85 3 (by unfold jnP; (repeat' split) <;> omega)
                ·
                  refine sw_aload_n (n := 72) F 1 (some o) rfl rfl rfl dX4_join_71 rfl ?_
                  refine sw_get (n := 75) F 0 rfl (k := 5) ⟨(RX4, TX4, 50), rfl, by decide, q3804, in_X4, Or.inl rfl⟩ (v := .ref (a 5)) rfl dX4_join_72 rfl ?_
                  refine sw_iload_n (n := 76) F 3 rfl rfl dX4_join_75 rfl ?_
                  refine sw_zaloadI (n := 77) F 5 rfl (fun _ => rfl) ((s2 : Int).toNat) (by omega) (by omega) dX4_join_76 rfl ?_
                  refine sw_if_ne (n := 80) F (by omega) (tgt := 84) dX4_join_77 (by decide) rfl (fun c_77 => ?_) (fun c_77 => ?_)
                  ·
                    refine sw_iconst (n := 85) F (0) (by decide) dX4_join_84 rfl ?_
                    refine sw_loc [1, 2, 3, 4, 5] (L2 := [(0, .ref o), (1, .int (jI s)), (2, .int (jI s2)), (3, .int (jI c)), (4, .int (jI t))]) rfl ?_
                    exact K85 0 (by unfold jnP; (repeat' split) <;> omega)
                  ·
                    refine sw_iconst (n := 81) F (3) (by decide) dX4_join_80 rfl ?_
                    refine sw_goto F (n := 85) dX4_join_81 (by decide) ?_
                    refine sw_loc [1, 2, 3, 4, 5] (L2 := [(0, .ref o), (1, .int (jI s)), (2, .int (jI s2)), (3, .int (jI c)), (4, .int (jI t))]) rfl ?_
                    exact K85 3 (by unfold jnP; (repeat' split) <;> omega)
              · exfalso; exact absurd c_55 (by decide)
            ·
              refine sw_iconst (n := 50) F (1) (by decide) dX4_join_49 rfl ?_
              refine sw_goto F (n := 85) dX4_join_50 (by decide) ?_
              refine sw_loc [1, 2, 3, 4, 5] (L2 := [(0, .ref o), (1, .int (jI s)), (2, .int (jI s2)), (3, .int (jI c)), (4, .int (jI t))]) rfl ?_
              exact K85 1 (by unfold jnP; (repeat' split) <;> omega)
