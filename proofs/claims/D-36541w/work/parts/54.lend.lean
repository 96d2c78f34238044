theorem nd_X4_lend : yX4_lend.cls ≠ "java/lang/invoke/MethodHandle" ∧ yX4_lend.cls ≠ "java/lang/invoke/VarHandle" ∧ (parseMethodDescriptor yX4_lend.desc).map (fun d => d.parameters.length) = some 3 := by decide +kernel
set_option maxRecDepth 100000 in
set_option maxHeartbeats 16000000 in
theorem ct_X4_lend {g : GG} {l : Launch} (o : Nat) (a : Nat → Nat) (z : Nat → Int) (Ii : Nat → Int) (Ip : Nat → Int) (Io : Nat → Int) (Ni : Nat → Int) (Np : Nat → Int) (No : Nat → Int) (u : Int) (p : Int) (i9 : Int) (hu : -9223372036854775808 ≤ u ∧ u ≤ 9223372036854775807) (hp : -2147483648 ≤ p ∧ p ≤ 2147483647) (hi : -9223372036854775808 ≤ i9 ∧ i9 ≤ 9223372036854775807) : Ct g l yX4_lend (ws_ yX4_lend cX4_lend 11 (Option.some Jvm.ClassFile.FieldType.int)) 2 40 0 0 [.ref o, .long (jL u), .int (jI p), .long (jL i9)] [tmO g o a z, aL g (a 33) 120 Ii, aL g (a 34) 120 Ip, aL g (a 35) 120 Io, aL g (a 36) 120 Ni, aL g (a 37) 120 Np, aL g (a 38) 120 No] (fun v9 Ws9 => ∃ Ni1 : Nat → Int, ∃ Np1 : Nat → Int, ∃ No1 : Nat → Int, v9 = some (.int (jI (if0 (cd2 3 (ldP u p i9) (lrI (ldF u p i9) 1)) ↑(ldM u p i9)))) ∧ Ws9 = [tmO g o a (up0 (cd2 3 (ldP u p i9) (lrI (ldF u p i9) 1)) (va_up z 8 (cd2 3 (ldP u p i9) (lrI (ldF u p i9) 1))) 39 ↑(ldM u p i9)), aL g (a 33) 120 (cp0 (cd2 3 (ldP u p i9) (lrI (ldF u p i9) 1)) Ii (ldI u p i9) (ldM u p i9)), aL g (a 34) 120 (cp0 (cd2 3 (ldP u p i9) (lrI (ldF u p i9) 1)) Ip (ldY u p i9) (ldM u p i9)), aL g (a 35) 120 (cp0 (cd2 3 (ldP u p i9) (lrI (ldF u p i9) 1)) Io (fun j => ldL u p i9 (j + 1)) (ldM u p i9)), aL g (a 36) 120 Ni1, aL g (a 37) 120 Np1, aL g (a 38) 120 No1]) (nox) := by
  refine Ct.of (cc := cX4_lend) (nL := 11) (ret := (Option.some Jvm.ClassFile.FieldType.int)) (by decide) rfl (Nat.le_of_ble_eq_true rfl) ?_
  intro x hg hl hPo hPx hmc hms F
  subst hg; subst hl
  refine SW.cast (L' := [(0, .ref o), (1, .long (jL u)), (3, .int (jI p)), (4, .long (jL i9))]) ?_ rfl rfl rfl
  refine sw_lload_n (n := 1) F 1 rfl rfl dX4_lend_0 rfl ?_
  have K68 : ∀ (p9 : Int), (p9 = ldP u p i9) → SW x [tmO (xg x) o a z, aL (xg x) (a 33) 120 Ii, aL (xg x) (a 34) 120 Ip, aL (xg x) (a 35) 120 Io, aL (xg x) (a 36) 120 Ni, aL (xg x) (a 37) 120 Np, aL (xg x) (a 38) 120 No] 0 0 68 [(0, .ref o), (1, .long (jL u)), (3, .int (jI p)), (4, .long (jL i9))] [.int (jI p9), .ref o] := by
    intro p9 hpc
    subst hpc
    have hcs := ldP_nn u p i9
    refine sw_callV (n := 71) F (ct_X4_fails (g := xg x) (l := xl x) o a z (ldP u p i9) (by first | omega | assumption)) (rcv_ob F 0 (ci := 3) rfl rfl) q3973 q3975 qs68 q120 q3976 nd_X4_fails rfl (by decide) [0, 1, 2, 3, 4, 5, 6] (perm_ok _ 7 (by decide +kernel) rfl) [aL (xg x) (a 33) 120 Ii, aL (xg x) (a 34) 120 Ip, aL (xg x) (a 35) 120 Io, aL (xg x) (a 36) 120 Ni, aL (xg x) (a 37) 120 Np, aL (xg x) (a 38) 120 No] rfl 0 0 ⟨by omega, by omega⟩ [] rfl (Nat.le_of_ble_eq_true rfl) dX4_lend_68 rfl (fun _ _ h => h.elim) (fun v Ws h => ?_)
    obtain ⟨rfl, hps_1, rfl⟩ := h
    show SW x [tmO (xg x) o a (va_up z 8 (ldP u p i9)), aL (xg x) (a 33) 120 Ii, aL (xg x) (a 34) 120 Ip, aL (xg x) (a 35) 120 Io, aL (xg x) (a 36) 120 Ni, aL (xg x) (a 37) 120 Np, aL (xg x) (a 38) 120 No] _ _ _ _ [.int (jI (psI (ldP u p i9)))]
    refine sw_if_eq (n := 74) F (by omega) (tgt := 76) dX4_lend_71 (by decide) rfl (fun c_71 => ?_) (fun c_71 => ?_)
    ·
      have e0 : ldP u p i9 = 0 := by omega
      obtain ⟨hz0, hz1⟩ := ldP_0 u p i9 e0
      have rg0 : 1 ≤ u ∧ u ≤ 1000000000000 := by omega
      have rg1 : 0 ≤ p ∧ p ≤ 9999 := by omega
      have rg2 : 1 ≤ i9 ∧ i9 ≤ 1000000000000 := by omega
      have rg3 : moV u p < i9 := by omega
      clear hz0 hz1 hcs c_71 hps_1
      have hlr := ldL_rng (u := u) (p := p) (i := i9) (by omega) (by omega) (by omega)
      refine sw_lload_n (n := 77) F 1 rfl rfl dX4_lend_76 rfl ?_
      refine sw_lstore (n := 79) F (L2 := [(7, .long (jL u)), (0, .ref o), (1, .long (jL u)), (3, .int (jI p)), (4, .long (jL i9))]) rfl (by decide) dX4_lend_77 rfl ?_
      refine sw_iconst (n := 80) F (0) (by decide) dX4_lend_79 rfl ?_
      refine sw_istore (n := 82) F (L2 := [(9, .int (jI 0)), (7, .long (jL u)), (0, .ref o), (1, .long (jL u)), (3, .int (jI p)), (4, .long (jL i9))]) rfl (by decide) dX4_lend_80 rfl ?_
      have K82 : ∀ N82 : Nat, ∀ (Ni1 : Nat → Int) (Np1 : Nat → Int) (No1 : Nat → Int) (k : Nat), (k ≤ 120) → (ldN u p i9 k = k) → (∀ j, j < k → ldI u p i9 j = Ni1 j) → (∀ j, j < k → ldY u p i9 j = Np1 j) → (∀ j, j < k → ldL u p i9 (j + 1) = No1 j) → ((121 - k) < N82) → SW x [tmO (xg x) o a (va_up z 8 (ldP u p i9)), aL (xg x) (a 33) 120 Ii, aL (xg x) (a 34) 120 Ip, aL (xg x) (a 35) 120 Io, aL (xg x) (a 36) 120 Ni1, aL (xg x) (a 37) 120 Np1, aL (xg x) (a 38) 120 No1] 0 0 82 [(0, .ref o), (1, .long (jL u)), (3, .int (jI p)), (4, .long (jL i9)), (7, .long (jL (ldL u p i9 k))), (9, .int (jI (↑k)))] [] := by
        intro N82; induction N82 with
        | zero => intro Ni1 Np1 No1 k hk hkN hI1 hI2 hI3 hmu82; omega
        | succ N82 ih82 =>
          intro Ni1 Np1 No1 k hk hkN hI1 hI2 hI3 hmu82
          have hlk := hlr k
          refine sw_lload (n := 84) F 4 rfl dX4_lend_82 rfl ?_
          refine sw_lconst (n := 85) F 0 (by decide) dX4_lend_84 rfl ?_
          refine sw_lcmp (n := 86) F (by omega) (by decide) dX4_lend_85 rfl ?_
          refine sw_if_le (n := 89) F (by omega) (tgt := 174) dX4_lend_86 (by decide) rfl (fun c_86 => ?_) (fun c_86 => ?_)
          ·
            have c_86 : ldL u p i9 k ≤ 0 := by revert c_86; (repeat' split) <;> omega
            obtain rfl : k = ldM u p i9 := (ldM_at hkN hk (by omega)).symm
            have hff : (0 < ldL u p i9 (ldM u p i9) ∧ ldF u p i9 = 1) ∨ (ldL u p i9 (ldM u p i9) ≤ 0 ∧ ldF u p i9 = 0) := by unfold ldF; split <;> omega
            refine sw_aload_n (n := 175) F 0 (some o) rfl rfl rfl dX4_lend_174 rfl ?_
            refine sw_lload (n := 177) F 4 rfl dX4_lend_175 rfl ?_
            refine sw_lconst (n := 178) F 0 (by decide) dX4_lend_177 rfl ?_
            refine sw_lcmp (n := 179) F (by omega) (by decide) dX4_lend_178 rfl ?_
            refine sw_if_le (n := 182) F (by omega) (tgt := 186) dX4_lend_179 (by decide) rfl (fun c_179 => ?_) (fun c_179 => ?_)
            ·
              have c_179 : ldL u p i9 (ldM u p i9) ≤ 0 := by revert c_179; (repeat' split) <;> omega
              refine sw_iconst (n := 187) F (0) (by decide) dX4_lend_186 rfl ?_
              refine sw_callV (n := 190) F (ct_X4_fails (g := xg x) (l := xl x) o a (va_up z 8 (ldP u p i9)) 0 (by first | omega | assumption)) (rcv_ob F 0 (ci := 3) rfl rfl) q3973 q3975 qs68 q120 q3976 nd_X4_fails rfl (by decide) [0, 1, 2, 3, 4, 5, 6] (perm_ok _ 7 (by decide +kernel) rfl) [aL (xg x) (a 33) 120 Ii, aL (xg x) (a 34) 120 Ip, aL (xg x) (a 35) 120 Io, aL (xg x) (a 36) 120 Ni1, aL (xg x) (a 37) 120 Np1, aL (xg x) (a 38) 120 No1] rfl 0 0 ⟨by omega, by omega⟩ [] rfl (Nat.le_of_ble_eq_true rfl) dX4_lend_187 rfl (fun _ _ h => h.elim) (fun v Ws h => ?_)
              obtain ⟨rfl, hps_2, rfl⟩ := h
              show SW x [tmO (xg x) o a (va_up (va_up z 8 (ldP u p i9)) 8 0), aL (xg x) (a 33) 120 Ii, aL (xg x) (a 34) 120 Ip, aL (xg x) (a 35) 120 Io, aL (xg x) (a 36) 120 Ni1, aL (xg x) (a 37) 120 Np1, aL (xg x) (a 38) 120 No1] _ _ _ _ [.int (jI 0)]
              refine sw_if_eq (n := 193) F (by decide) (tgt := 195) dX4_lend_190 (by decide) rfl (fun c_190 => ?_) (fun c_190 => ?_)
              ·
                refine sw_aload_n (n := 196) F 0 (some o) rfl rfl rfl dX4_lend_195 rfl ?_
                refine sw_iload (n := 198) F 5 rfl dX4_lend_196 rfl ?_
                refine sw_put (n := 201) F 0 rfl (k := 39) ⟨(RX4, TX4, 50), rfl, by decide, q3838, in_X4, Or.inl rfl⟩ .int ⟨(RX4, TX4, 50), rfl, rfl, tyX4_ok 39 (by decide), nmX4, tyX4, tyX4_ok⟩ rfl rfl (Nat.le_of_ble_eq_true rfl) (fs' := tmF a (va_up (va_up z 8 0) 39 (↑(ldM u p i9)))) rfl [tmO (xg x) o a (va_up (va_up z 8 0) 39 (↑(ldM u p i9))), aL (xg x) (a 33) 120 Ii, aL (xg x) (a 34) 120 Ip, aL (xg x) (a 35) 120 Io, aL (xg x) (a 36) 120 Ni1, aL (xg x) (a 37) 120 Np1, aL (xg x) (a 38) 120 No1] rfl dX4_lend_198 rfl ?_
                refine sw_iconst (n := 202) F (0) (by decide) dX4_lend_201 rfl ?_
                refine sw_istore (n := 204) F (L2 := [(10, .int (jI 0)), (0, .ref o), (1, .long (jL u)), (3, .int (jI p)), (4, .long (jL i9)), (7, .long (jL (ldL u p i9 (ldM u p i9)))), (9, .int (jI (↑(ldM u p i9))))]) rfl (by decide) dX4_lend_202 rfl ?_
                have K204 : ∀ N204 : Nat, ∀ (q : Nat), (q ≤ ldM u p i9) → ((ldM u p i9 - q) < N204) → SW x [tmO (xg x) o a (va_up (va_up z 8 0) 39 (↑(ldM u p i9))), aL (xg x) (a 33) 120 (cpF Ii Ni1 q), aL (xg x) (a 34) 120 (cpF Ip Np1 q), aL (xg x) (a 35) 120 (cpF Io No1 q), aL (xg x) (a 36) 120 Ni1, aL (xg x) (a 37) 120 Np1, aL (xg x) (a 38) 120 No1] 0 0 204 [(9, .int (jI (↑(ldM u p i9)))), (0, .ref o), (10, .int (jI (↑q)))] [] := by
                  intro N204; induction N204 with
                  | zero => intro q hq hmu204; omega
                  | succ N204 ih204 =>
                    intro q hq hmu204
                    refine sw_iload (n := 206) F 2 rfl dX4_lend_204 rfl ?_
                    refine sw_iload (n := 208) F 0 rfl dX4_lend_206 rfl ?_
                    refine sw_icmp_ge (n := 211) F (by omega) (by omega) (tgt := 259) dX4_lend_208 (by decide) rfl (fun c_208 => ?_) (fun c_208 => ?_)
                    ·
                      obtain rfl : q = ldM u p i9 := by omega
                      refine sw_iload (n := 261) F 0 rfl dX4_lend_259 rfl ?_
                      have e0 : ldP u p i9 = 0 := by omega
                      have e : cd2 3 (ldP u p i9) (lrI (ldF u p i9) 1) = 0 := cd2_lt e0 (by omega)
                      exact sw_iret F _ rfl (by first | rfl | exact jI_nz (by omega) | exact jI_nc (by omega)) dX4_lend_261 (by rw [hPo]; exact ⟨Ni1, Np1, No1, (by rw [e, if0_0]), (by rw [e, cp0_p rfl, cp0_p rfl, cp0_p rfl, cpF_cg (f := Ii) hI1, cpF_cg (f := Ip) hI2, cpF_cg (f := Io) hI3]; simp only [up0_0, up_88])⟩)
                    ·
                      refine sw_aload_n (n := 212) F 1 (some o) rfl rfl rfl dX4_lend_211 rfl ?_
                      refine sw_get (n := 215) F 0 rfl (k := 33) ⟨(RX4, TX4, 50), rfl, by decide, q3832, in_X4, Or.inl rfl⟩ (v := .ref (a 33)) rfl dX4_lend_212 rfl ?_
                      refine sw_iload (n := 217) F 2 rfl dX4_lend_215 rfl ?_
                      refine sw_aload_n (n := 218) F 1 (some o) rfl rfl rfl dX4_lend_217 rfl ?_
                      refine sw_get (n := 221) F 0 rfl (k := 36) ⟨(RX4, TX4, 50), rfl, by decide, q3835, in_X4, Or.inl rfl⟩ (v := .ref (a 36)) rfl dX4_lend_218 rfl ?_
                      refine sw_iload (n := 223) F 2 rfl dX4_lend_221 rfl ?_
                      refine sw_laloadL (n := 224) F 4 rfl (fun _ => rfl) q rfl (by omega) dX4_lend_223 rfl ?_
                      refine sw_lastoreL (n := 225) F 1 rfl (fun _ => rfl) q rfl (by omega) [tmO (xg x) o a (va_up (va_up z 8 0) 39 (↑(ldM u p i9))), aL (xg x) (a 33) 120 (va_up (cpF Ii Ni1 q) q (Ni1 q)), aL (xg x) (a 34) 120 (cpF Ip Np1 q), aL (xg x) (a 35) 120 (cpF Io No1 q), aL (xg x) (a 36) 120 Ni1, aL (xg x) (a 37) 120 Np1, aL (xg x) (a 38) 120 No1] (by rfl) dX4_lend_224 rfl ?_
                      refine sw_aload_n (n := 226) F 1 (some o) rfl rfl rfl dX4_lend_225 rfl ?_
                      refine sw_get (n := 229) F 0 rfl (k := 34) ⟨(RX4, TX4, 50), rfl, by decide, q3833, in_X4, Or.inl rfl⟩ (v := .ref (a 34)) rfl dX4_lend_226 rfl ?_
                      refine sw_iload (n := 231) F 2 rfl dX4_lend_229 rfl ?_
                      refine sw_aload_n (n := 232) F 1 (some o) rfl rfl rfl dX4_lend_231 rfl ?_
                      refine sw_get (n := 235) F 0 rfl (k := 37) ⟨(RX4, TX4, 50), rfl, by decide, q3836, in_X4, Or.inl rfl⟩ (v := .ref (a 37)) rfl dX4_lend_232 rfl ?_
                      refine sw_iload (n := 237) F 2 rfl dX4_lend_235 rfl ?_
                      refine sw_laloadL (n := 238) F 5 rfl (fun _ => rfl) q rfl (by omega) dX4_lend_237 rfl ?_
                      refine sw_lastoreL (n := 239) F 2 rfl (fun _ => rfl) q rfl (by omega) [tmO (xg x) o a (va_up (va_up z 8 0) 39 (↑(ldM u p i9))), aL (xg x) (a 33) 120 (va_up (cpF Ii Ni1 q) q (Ni1 q)), aL (xg x) (a 34) 120 (va_up (cpF Ip Np1 q) q (Np1 q)), aL (xg x) (a 35) 120 (cpF Io No1 q), aL (xg x) (a 36) 120 Ni1, aL (xg x) (a 37) 120 Np1, aL (xg x) (a 38) 120 No1] (by rfl) dX4_lend_238 rfl ?_
                      refine sw_aload_n (n := 240) F 1 (some o) rfl rfl rfl dX4_lend_239 rfl ?_
                      refine sw_get (n := 243) F 0 rfl (k := 35) ⟨(RX4, TX4, 50), rfl, by decide, q3834, in_X4, Or.inl rfl⟩ (v := .ref (a 35)) rfl dX4_lend_240 rfl ?_
                      refine sw_iload (n := 245) F 2 rfl dX4_lend_243 rfl ?_
                      refine sw_aload_n (n := 246) F 1 (some o) rfl rfl rfl dX4_lend_245 rfl ?_
                      refine sw_get (n := 249) F 0 rfl (k := 38) ⟨(RX4, TX4, 50), rfl, by decide, q3837, in_X4, Or.inl rfl⟩ (v := .ref (a 38)) rfl dX4_lend_246 rfl ?_
                      refine sw_iload (n := 251) F 2 rfl dX4_lend_249 rfl ?_
                      refine sw_laloadL (n := 252) F 6 rfl (fun _ => rfl) q rfl (by omega) dX4_lend_251 rfl ?_
                      refine sw_lastoreL (n := 253) F 3 rfl (fun _ => rfl) q rfl (by omega) [tmO (xg x) o a (va_up (va_up z 8 0) 39 (↑(ldM u p i9))), aL (xg x) (a 33) 120 (va_up (cpF Ii Ni1 q) q (Ni1 q)), aL (xg x) (a 34) 120 (va_up (cpF Ip Np1 q) q (Np1 q)), aL (xg x) (a 35) 120 (va_up (cpF Io No1 q) q (No1 q)), aL (xg x) (a 36) 120 Ni1, aL (xg x) (a 37) 120 Np1, aL (xg x) (a 38) 120 No1] (by rfl) dX4_lend_252 rfl ?_
                      refine sw_iinc (n := 256) F 2 (L2 := [(10, .int (jI (↑q + 1))), (9, .int (jI (↑(ldM u p i9)))), (0, .ref o)]) rfl rfl (by decide) dX4_lend_253 rfl ?_
                      refine sw_goto F (n := 204) dX4_lend_256 (by decide) ?_
                      refine SW.cast (Ps' := [tmO (xg x) o a (va_up (va_up z 8 0) 39 (↑(ldM u p i9))), aL (xg x) (a 33) 120 (cpF Ii Ni1 (q + 1)), aL (xg x) (a 34) 120 (cpF Ip Np1 (q + 1)), aL (xg x) (a 35) 120 (cpF Io No1 (q + 1)), aL (xg x) (a 36) 120 Ni1, aL (xg x) (a 37) 120 Np1, aL (xg x) (a 38) 120 No1]) ?_ (by simp only [cpF_s]) rfl rfl
                      refine sw_loc [1, 2, 0] (L2 := [(9, .int (jI (↑(ldM u p i9)))), (0, .ref o), (10, .int (jI (↑q + 1)))]) rfl ?_
                      rw [show (↑q + 1 : Int) = ↑(q + 1) by omega]
                      exact ih204 (q + 1) (by omega) (by omega)
                refine SW.cast (Ps' := [tmO (xg x) o a (va_up (va_up z 8 0) 39 (↑(ldM u p i9))), aL (xg x) (a 33) 120 (cpF Ii Ni1 0), aL (xg x) (a 34) 120 (cpF Ip Np1 0), aL (xg x) (a 35) 120 (cpF Io No1 0), aL (xg x) (a 36) 120 Ni1, aL (xg x) (a 37) 120 Np1, aL (xg x) (a 38) 120 No1]) ?_ (by simp only [cpF_0]) rfl rfl
                refine sw_loc [6, 1, 0] (L2 := [(9, .int (jI (↑(ldM u p i9)))), (0, .ref o), (10, .int (jI 0))]) rfl ?_
                exact K204 _ 0 (by omega) (Nat.lt_succ_self _)
              · exfalso; exact absurd c_190 (by decide)
            ·
              have c_179 : ldL u p i9 (ldM u p i9) > 0 := by revert c_179; (repeat' split) <;> omega
              refine sw_iconst (n := 183) F (3) (by decide) dX4_lend_182 rfl ?_
              refine sw_goto F (n := 187) dX4_lend_183 (by decide) ?_
              refine sw_callV (n := 190) F (ct_X4_fails (g := xg x) (l := xl x) o a (va_up z 8 (ldP u p i9)) 3 (by first | omega | assumption)) (rcv_ob F 0 (ci := 3) rfl rfl) q3973 q3975 qs68 q120 q3976 nd_X4_fails rfl (by decide) [0, 1, 2, 3, 4, 5, 6] (perm_ok _ 7 (by decide +kernel) rfl) [aL (xg x) (a 33) 120 Ii, aL (xg x) (a 34) 120 Ip, aL (xg x) (a 35) 120 Io, aL (xg x) (a 36) 120 Ni1, aL (xg x) (a 37) 120 Np1, aL (xg x) (a 38) 120 No1] rfl 0 0 ⟨by omega, by omega⟩ [] rfl (Nat.le_of_ble_eq_true rfl) dX4_lend_187 rfl (fun _ _ h => h.elim) (fun v Ws h => ?_)
              obtain ⟨rfl, hps_3, rfl⟩ := h
              show SW x [tmO (xg x) o a (va_up (va_up z 8 (ldP u p i9)) 8 3), aL (xg x) (a 33) 120 Ii, aL (xg x) (a 34) 120 Ip, aL (xg x) (a 35) 120 Io, aL (xg x) (a 36) 120 Ni1, aL (xg x) (a 37) 120 Np1, aL (xg x) (a 38) 120 No1] _ _ _ _ [.int (jI 1)]
              refine sw_if_eq (n := 193) F (by decide) (tgt := 195) dX4_lend_190 (by decide) rfl (fun c_190 => ?_) (fun c_190 => ?_)
              · exfalso; exact absurd c_190 (by decide)
              ·
                refine sw_iconst (n := 194) F (0) (by decide) dX4_lend_193 rfl ?_
                have e0 : ldP u p i9 = 0 := by omega
                have e : cd2 3 (ldP u p i9) (lrI (ldF u p i9) 1) = 3 := cd2_r e0 (by omega)
                exact sw_iret F _ rfl (by first | rfl | exact jI_nz (by omega) | exact jI_nc (by omega)) dX4_lend_194 (by rw [hPo]; exact ⟨Ni1, Np1, No1, (by rw [e]; rfl), (by rw [e]; simp only [up0_3, up_88, cp0_n (show (3 : Int) ≠ 0 by decide)])⟩)
          ·
            have c_86 : ldL u p i9 k > 0 := by revert c_86; (repeat' split) <;> omega
            have hlk2 : 0 < ldL u p i9 k := by omega
            refine sw_iload (n := 91) F 5 rfl dX4_lend_89 rfl ?_
            refine sw_bipush (n := 93) F (120) (by decide) dX4_lend_91 rfl ?_
            refine sw_icmp_ge (n := 96) F (by omega) (by decide) (tgt := 174) dX4_lend_93 (by decide) rfl (fun c_93 => ?_) (fun c_93 => ?_)
            ·
              obtain rfl : k = ldM u p i9 := (ldM_at hkN hk (by omega)).symm
              have hff : (0 < ldL u p i9 (ldM u p i9) ∧ ldF u p i9 = 1) ∨ (ldL u p i9 (ldM u p i9) ≤ 0 ∧ ldF u p i9 = 0) := by unfold ldF; split <;> omega
              refine sw_aload_n (n := 175) F 0 (some o) rfl rfl rfl dX4_lend_174 rfl ?_
              refine sw_lload (n := 177) F 4 rfl dX4_lend_175 rfl ?_
              refine sw_lconst (n := 178) F 0 (by decide) dX4_lend_177 rfl ?_
              refine sw_lcmp (n := 179) F (by omega) (by decide) dX4_lend_178 rfl ?_
              refine sw_if_le (n := 182) F (by omega) (tgt := 186) dX4_lend_179 (by decide) rfl (fun c_179 => ?_) (fun c_179 => ?_)
              ·
                have c_179 : ldL u p i9 (ldM u p i9) ≤ 0 := by revert c_179; (repeat' split) <;> omega
                refine sw_iconst (n := 187) F (0) (by decide) dX4_lend_186 rfl ?_
                refine sw_callV (n := 190) F (ct_X4_fails (g := xg x) (l := xl x) o a (va_up z 8 (ldP u p i9)) 0 (by first | omega | assumption)) (rcv_ob F 0 (ci := 3) rfl rfl) q3973 q3975 qs68 q120 q3976 nd_X4_fails rfl (by decide) [0, 1, 2, 3, 4, 5, 6] (perm_ok _ 7 (by decide +kernel) rfl) [aL (xg x) (a 33) 120 Ii, aL (xg x) (a 34) 120 Ip, aL (xg x) (a 35) 120 Io, aL (xg x) (a 36) 120 Ni1, aL (xg x) (a 37) 120 Np1, aL (xg x) (a 38) 120 No1] rfl 0 0 ⟨by omega, by omega⟩ [] rfl (Nat.le_of_ble_eq_true rfl) dX4_lend_187 rfl (fun _ _ h => h.elim) (fun v Ws h => ?_)
                obtain ⟨rfl, hps_4, rfl⟩ := h
                show SW x [tmO (xg x) o a (va_up (va_up z 8 (ldP u p i9)) 8 0), aL (xg x) (a 33) 120 Ii, aL (xg x) (a 34) 120 Ip, aL (xg x) (a 35) 120 Io, aL (xg x) (a 36) 120 Ni1, aL (xg x) (a 37) 120 Np1, aL (xg x) (a 38) 120 No1] _ _ _ _ [.int (jI 0)]
                refine sw_if_eq (n := 193) F (by decide) (tgt := 195) dX4_lend_190 (by decide) rfl (fun c_190 => ?_) (fun c_190 => ?_)
                ·
                  refine sw_aload_n (n := 196) F 0 (some o) rfl rfl rfl dX4_lend_195 rfl ?_
                  refine sw_iload (n := 198) F 5 rfl dX4_lend_196 rfl ?_
                  refine sw_put (n := 201) F 0 rfl (k := 39) ⟨(RX4, TX4, 50), rfl, by decide, q3838, in_X4, Or.inl rfl⟩ .int ⟨(RX4, TX4, 50), rfl, rfl, tyX4_ok 39 (by decide), nmX4, tyX4, tyX4_ok⟩ rfl rfl (Nat.le_of_ble_eq_true rfl) (fs' := tmF a (va_up (va_up z 8 0) 39 (↑(ldM u p i9)))) rfl [tmO (xg x) o a (va_up (va_up z 8 0) 39 (↑(ldM u p i9))), aL (xg x) (a 33) 120 Ii, aL (xg x) (a 34) 120 Ip, aL (xg x) (a 35) 120 Io, aL (xg x) (a 36) 120 Ni1, aL (xg x) (a 37) 120 Np1, aL (xg x) (a 38) 120 No1] rfl dX4_lend_198 rfl ?_
                  refine sw_iconst (n := 202) F (0) (by decide) dX4_lend_201 rfl ?_
                  refine sw_istore (n := 204) F (L2 := [(10, .int (jI 0)), (0, .ref o), (1, .long (jL u)), (3, .int (jI p)), (4, .long (jL i9)), (7, .long (jL (ldL u p i9 (ldM u p i9)))), (9, .int (jI (↑(ldM u p i9))))]) rfl (by decide) dX4_lend_202 rfl ?_
                  have K204 : ∀ N204 : Nat, ∀ (q : Nat), (q ≤ ldM u p i9) → ((ldM u p i9 - q) < N204) → SW x [tmO (xg x) o a (va_up (va_up z 8 0) 39 (↑(ldM u p i9))), aL (xg x) (a 33) 120 (cpF Ii Ni1 q), aL (xg x) (a 34) 120 (cpF Ip Np1 q), aL (xg x) (a 35) 120 (cpF Io No1 q), aL (xg x) (a 36) 120 Ni1, aL (xg x) (a 37) 120 Np1, aL (xg x) (a 38) 120 No1] 0 0 204 [(9, .int (jI (↑(ldM u p i9)))), (0, .ref o), (10, .int (jI (↑q)))] [] := by
                    intro N204; induction N204 with
                    | zero => intro q hq hmu204; omega
                    | succ N204 ih204 =>
                      intro q hq hmu204
                      refine sw_iload (n := 206) F 2 rfl dX4_lend_204 rfl ?_
                      refine sw_iload (n := 208) F 0 rfl dX4_lend_206 rfl ?_
                      refine sw_icmp_ge (n := 211) F (by omega) (by omega) (tgt := 259) dX4_lend_208 (by decide) rfl (fun c_208 => ?_) (fun c_208 => ?_)
                      ·
                        obtain rfl : q = ldM u p i9 := by omega
                        refine sw_iload (n := 261) F 0 rfl dX4_lend_259 rfl ?_
                        have e0 : ldP u p i9 = 0 := by omega
                        have e : cd2 3 (ldP u p i9) (lrI (ldF u p i9) 1) = 0 := cd2_lt e0 (by omega)
                        exact sw_iret F _ rfl (by first | rfl | exact jI_nz (by omega) | exact jI_nc (by omega)) dX4_lend_261 (by rw [hPo]; exact ⟨Ni1, Np1, No1, (by rw [e, if0_0]), (by rw [e, cp0_p rfl, cp0_p rfl, cp0_p rfl, cpF_cg (f := Ii) hI1, cpF_cg (f := Ip) hI2, cpF_cg (f := Io) hI3]; simp only [up0_0, up_88])⟩)
                      ·
                        refine sw_aload_n (n := 212) F 1 (some o) rfl rfl rfl dX4_lend_211 rfl ?_
                        refine sw_get (n := 215) F 0 rfl (k := 33) ⟨(RX4, TX4, 50), rfl, by decide, q3832, in_X4, Or.inl rfl⟩ (v := .ref (a 33)) rfl dX4_lend_212 rfl ?_
                        refine sw_iload (n := 217) F 2 rfl dX4_lend_215 rfl ?_
                        refine sw_aload_n (n := 218) F 1 (some o) rfl rfl rfl dX4_lend_217 rfl ?_
                        refine sw_get (n := 221) F 0 rfl (k := 36) ⟨(RX4, TX4, 50), rfl, by decide, q3835, in_X4, Or.inl rfl⟩ (v := .ref (a 36)) rfl dX4_lend_218 rfl ?_
                        refine sw_iload (n := 223) F 2 rfl dX4_lend_221 rfl ?_
                        refine sw_laloadL (n := 224) F 4 rfl (fun _ => rfl) q rfl (by omega) dX4_lend_223 rfl ?_
                        refine sw_lastoreL (n := 225) F 1 rfl (fun _ => rfl) q rfl (by omega) [tmO (xg x) o a (va_up (va_up z 8 0) 39 (↑(ldM u p i9))), aL (xg x) (a 33) 120 (va_up (cpF Ii Ni1 q) q (Ni1 q)), aL (xg x) (a 34) 120 (cpF Ip Np1 q), aL (xg x) (a 35) 120 (cpF Io No1 q), aL (xg x) (a 36) 120 Ni1, aL (xg x) (a 37) 120 Np1, aL (xg x) (a 38) 120 No1] (by rfl) dX4_lend_224 rfl ?_
                        refine sw_aload_n (n := 226) F 1 (some o) rfl rfl rfl dX4_lend_225 rfl ?_
                        refine sw_get (n := 229) F 0 rfl (k := 34) ⟨(RX4, TX4, 50), rfl, by decide, q3833, in_X4, Or.inl rfl⟩ (v := .ref (a 34)) rfl dX4_lend_226 rfl ?_
                        refine sw_iload (n := 231) F 2 rfl dX4_lend_229 rfl ?_
                        refine sw_aload_n (n := 232) F 1 (some o) rfl rfl rfl dX4_lend_231 rfl ?_
                        refine sw_get (n := 235) F 0 rfl (k := 37) ⟨(RX4, TX4, 50), rfl, by decide, q3836, in_X4, Or.inl rfl⟩ (v := .ref (a 37)) rfl dX4_lend_232 rfl ?_
                        refine sw_iload (n := 237) F 2 rfl dX4_lend_235 rfl ?_
                        refine sw_laloadL (n := 238) F 5 rfl (fun _ => rfl) q rfl (by omega) dX4_lend_237 rfl ?_
                        refine sw_lastoreL (n := 239) F 2 rfl (fun _ => rfl) q rfl (by omega) [tmO (xg x) o a (va_up (va_up z 8 0) 39 (↑(ldM u p i9))), aL (xg x) (a 33) 120 (va_up (cpF Ii Ni1 q) q (Ni1 q)), aL (xg x) (a 34) 120 (va_up (cpF Ip Np1 q) q (Np1 q)), aL (xg x) (a 35) 120 (cpF Io No1 q), aL (xg x) (a 36) 120 Ni1, aL (xg x) (a 37) 120 Np1, aL (xg x) (a 38) 120 No1] (by rfl) dX4_lend_238 rfl ?_
                        refine sw_aload_n (n := 240) F 1 (some o) rfl rfl rfl dX4_lend_239 rfl ?_
                        refine sw_get (n := 243) F 0 rfl (k := 35) ⟨(RX4, TX4, 50), rfl, by decide, q3834, in_X4, Or.inl rfl⟩ (v := .ref (a 35)) rfl dX4_lend_240 rfl ?_
                        refine sw_iload (n := 245) F 2 rfl dX4_lend_243 rfl ?_
                        refine sw_aload_n (n := 246) F 1 (some o) rfl rfl rfl dX4_lend_245 rfl ?_
                        refine sw_get (n := 249) F 0 rfl (k := 38) ⟨(RX4, TX4, 50), rfl, by decide, q3837, in_X4, Or.inl rfl⟩ (v := .ref (a 38)) rfl dX4_lend_246 rfl ?_
                        refine sw_iload (n := 251) F 2 rfl dX4_lend_249 rfl ?_
                        refine sw_laloadL (n := 252) F 6 rfl (fun _ => rfl) q rfl (by omega) dX4_lend_251 rfl ?_
                        refine sw_lastoreL (n := 253) F 3 rfl (fun _ => rfl) q rfl (by omega) [tmO (xg x) o a (va_up (va_up z 8 0) 39 (↑(ldM u p i9))), aL (xg x) (a 33) 120 (va_up (cpF Ii Ni1 q) q (Ni1 q)), aL (xg x) (a 34) 120 (va_up (cpF Ip Np1 q) q (Np1 q)), aL (xg x) (a 35) 120 (va_up (cpF Io No1 q) q (No1 q)), aL (xg x) (a 36) 120 Ni1, aL (xg x) (a 37) 120 Np1, aL (xg x) (a 38) 120 No1] (by rfl) dX4_lend_252 rfl ?_
                        refine sw_iinc (n := 256) F 2 (L2 := [(10, .int (jI (↑q + 1))), (9, .int (jI (↑(ldM u p i9)))), (0, .ref o)]) rfl rfl (by decide) dX4_lend_253 rfl ?_
                        refine sw_goto F (n := 204) dX4_lend_256 (by decide) ?_
                        refine SW.cast (Ps' := [tmO (xg x) o a (va_up (va_up z 8 0) 39 (↑(ldM u p i9))), aL (xg x) (a 33) 120 (cpF Ii Ni1 (q + 1)), aL (xg x) (a 34) 120 (cpF Ip Np1 (q + 1)), aL (xg x) (a 35) 120 (cpF Io No1 (q + 1)), aL (xg x) (a 36) 120 Ni1, aL (xg x) (a 37) 120 Np1, aL (xg x) (a 38) 120 No1]) ?_ (by simp only [cpF_s]) rfl rfl
                        refine sw_loc [1, 2, 0] (L2 := [(9, .int (jI (↑(ldM u p i9)))), (0, .ref o), (10, .int (jI (↑q + 1)))]) rfl ?_
                        rw [show (↑q + 1 : Int) = ↑(q + 1) by omega]
                        exact ih204 (q + 1) (by omega) (by omega)
                  refine SW.cast (Ps' := [tmO (xg x) o a (va_up (va_up z 8 0) 39 (↑(ldM u p i9))), aL (xg x) (a 33) 120 (cpF Ii Ni1 0), aL (xg x) (a 34) 120 (cpF Ip Np1 0), aL (xg x) (a 35) 120 (cpF Io No1 0), aL (xg x) (a 36) 120 Ni1, aL (xg x) (a 37) 120 Np1, aL (xg x) (a 38) 120 No1]) ?_ (by simp only [cpF_0]) rfl rfl
                  refine sw_loc [6, 1, 0] (L2 := [(9, .int (jI (↑(ldM u p i9)))), (0, .ref o), (10, .int (jI 0))]) rfl ?_
                  exact K204 _ 0 (by omega) (Nat.lt_succ_self _)
                · exfalso; exact absurd c_190 (by decide)
              ·
                have c_179 : ldL u p i9 (ldM u p i9) > 0 := by revert c_179; (repeat' split) <;> omega
                refine sw_iconst (n := 183) F (3) (by decide) dX4_lend_182 rfl ?_
                refine sw_goto F (n := 187) dX4_lend_183 (by decide) ?_
                refine sw_callV (n := 190) F (ct_X4_fails (g := xg x) (l := xl x) o a (va_up z 8 (ldP u p i9)) 3 (by first | omega | assumption)) (rcv_ob F 0 (ci := 3) rfl rfl) q3973 q3975 qs68 q120 q3976 nd_X4_fails rfl (by decide) [0, 1, 2, 3, 4, 5, 6] (perm_ok _ 7 (by decide +kernel) rfl) [aL (xg x) (a 33) 120 Ii, aL (xg x) (a 34) 120 Ip, aL (xg x) (a 35) 120 Io, aL (xg x) (a 36) 120 Ni1, aL (xg x) (a 37) 120 Np1, aL (xg x) (a 38) 120 No1] rfl 0 0 ⟨by omega, by omega⟩ [] rfl (Nat.le_of_ble_eq_true rfl) dX4_lend_187 rfl (fun _ _ h => h.elim) (fun v Ws h => ?_)
                obtain ⟨rfl, hps_5, rfl⟩ := h
                show SW x [tmO (xg x) o a (va_up (va_up z 8 (ldP u p i9)) 8 3), aL (xg x) (a 33) 120 Ii, aL (xg x) (a 34) 120 Ip, aL (xg x) (a 35) 120 Io, aL (xg x) (a 36) 120 Ni1, aL (xg x) (a 37) 120 Np1, aL (xg x) (a 38) 120 No1] _ _ _ _ [.int (jI 1)]
                refine sw_if_eq (n := 193) F (by decide) (tgt := 195) dX4_lend_190 (by decide) rfl (fun c_190 => ?_) (fun c_190 => ?_)
                · exfalso; exact absurd c_190 (by decide)
                ·
                  refine sw_iconst (n := 194) F (0) (by decide) dX4_lend_193 rfl ?_
                  have e0 : ldP u p i9 = 0 := by omega
                  have e : cd2 3 (ldP u p i9) (lrI (ldF u p i9) 1) = 3 := cd2_r e0 (by omega)
                  exact sw_iret F _ rfl (by first | rfl | exact jI_nz (by omega) | exact jI_nc (by omega)) dX4_lend_194 (by rw [hPo]; exact ⟨Ni1, Np1, No1, (by rw [e]; rfl), (by rw [e]; simp only [up0_3, up_88, cp0_n (show (3 : Int) ≠ 0 by decide)])⟩)
            ·
              refine sw_aload_n (n := 97) F 0 (some o) rfl rfl rfl dX4_lend_96 rfl ?_
              refine sw_get (n := 100) F 0 rfl (k := 36) ⟨(RX4, TX4, 50), rfl, by decide, q3835, in_X4, Or.inl rfl⟩ (v := .ref (a 36)) rfl dX4_lend_97 rfl ?_
              refine sw_iload (n := 102) F 5 rfl dX4_lend_100 rfl ?_
              refine sw_lload (n := 104) F 4 rfl dX4_lend_102 rfl ?_
              refine sw_iload_n (n := 105) F 2 rfl rfl dX4_lend_104 rfl ?_
              refine sw_callS (n := 108) F (ct_X4_month (g := xg x) (l := xl x) (ldL u p i9 k) p (by first | omega | assumption) rg1) q4284 q4285 q120 q4286 nd_X4_month rfl (by decide) [0, 1, 2, 3, 4, 5, 6] (perm_ok _ 7 (by decide +kernel) rfl) [tmO (xg x) o a (va_up z 8 (ldP u p i9)), aL (xg x) (a 33) 120 Ii, aL (xg x) (a 34) 120 Ip, aL (xg x) (a 35) 120 Io, aL (xg x) (a 36) 120 Ni1, aL (xg x) (a 37) 120 Np1, aL (xg x) (a 38) 120 No1] rfl 0 0 ⟨by omega, by omega⟩ [.int (jI (↑k)), .ref (a 36)] rfl (Nat.le_of_ble_eq_true rfl) dX4_lend_105 rfl (fun _ _ h => h.elim) (fun v Ws h => ?_)
              obtain ⟨rfl, rfl⟩ := h
              show SW x [tmO (xg x) o a (va_up z 8 (ldP u p i9)), aL (xg x) (a 33) 120 Ii, aL (xg x) (a 34) 120 Ip, aL (xg x) (a 35) 120 Io, aL (xg x) (a 36) 120 Ni1, aL (xg x) (a 37) 120 Np1, aL (xg x) (a 38) 120 No1] _ _ _ _ [.long (jL (moV (ldL u p i9 k) p)), .int (jI (↑k)), .ref (a 36)]
              show SW x _ _ _ _ _ [.long (jL (ldI u p i9 k)), .int (jI (↑k)), .ref (a 36)]
              refine sw_lastoreL (n := 109) F 4 rfl (fun _ => rfl) k rfl (by omega) [tmO (xg x) o a (va_up z 8 (ldP u p i9)), aL (xg x) (a 33) 120 Ii, aL (xg x) (a 34) 120 Ip, aL (xg x) (a 35) 120 Io, aL (xg x) (a 36) 120 (va_up Ni1 k (ldI u p i9 k)), aL (xg x) (a 37) 120 Np1, aL (xg x) (a 38) 120 No1] (by rfl) dX4_lend_108 rfl ?_
              refine sw_aload_n (n := 110) F 0 (some o) rfl rfl rfl dX4_lend_109 rfl ?_
              refine sw_get (n := 113) F 0 rfl (k := 37) ⟨(RX4, TX4, 50), rfl, by decide, q3836, in_X4, Or.inl rfl⟩ (v := .ref (a 37)) rfl dX4_lend_110 rfl ?_
              refine sw_iload (n := 115) F 5 rfl dX4_lend_113 rfl ?_
              refine sw_lload (n := 117) F 4 rfl dX4_lend_115 rfl ?_
              refine sw_aload_n (n := 118) F 0 (some o) rfl rfl rfl dX4_lend_117 rfl ?_
              refine sw_get (n := 121) F 0 rfl (k := 36) ⟨(RX4, TX4, 50), rfl, by decide, q3835, in_X4, Or.inl rfl⟩ (v := .ref (a 36)) rfl dX4_lend_118 rfl ?_
              refine sw_iload (n := 123) F 5 rfl dX4_lend_121 rfl ?_
              refine sw_laloadL (n := 124) F 4 rfl (fun _ => rfl) k rfl (by omega) dX4_lend_123 rfl ?_
              rw [show (va_up Ni1 k (ldI u p i9 k)) k = (ldI u p i9 k) from va_up_self _ _ _]
              refine sw_ladd (n := 125) F dX4_lend_124 rfl ?_
              refine sw_lload (n := 127) F 3 rfl dX4_lend_125 rfl ?_
              refine sw_lcmp (n := 128) F (by omega) (by omega) dX4_lend_127 rfl ?_
              refine sw_if_gt (n := 131) F (by omega) (tgt := 136) dX4_lend_128 (by decide) rfl (fun c_128 => ?_) (fun c_128 => ?_)
              ·
                have c_128 : (ldL u p i9 k) + (ldI u p i9 k) > i9 := by revert c_128; (repeat' split) <;> omega
                refine sw_lload (n := 138) F 3 rfl dX4_lend_136 rfl ?_
                refine sw_aload_n (n := 139) F 0 (some o) rfl rfl rfl dX4_lend_138 rfl ?_
                refine sw_get (n := 142) F 0 rfl (k := 36) ⟨(RX4, TX4, 50), rfl, by decide, q3835, in_X4, Or.inl rfl⟩ (v := .ref (a 36)) rfl dX4_lend_139 rfl ?_
                refine sw_iload (n := 144) F 5 rfl dX4_lend_142 rfl ?_
                refine sw_laloadL (n := 145) F 4 rfl (fun _ => rfl) k rfl (by omega) dX4_lend_144 rfl ?_
                rw [show (va_up Ni1 k (ldI u p i9 k)) k = (ldI u p i9 k) from va_up_self _ _ _]
                refine sw_lsub (n := 146) F dX4_lend_145 rfl ?_
                have ey : ldY u p i9 k = i9 - ldI u p i9 k := ldY_0 (by omega)
                refine SW.cast (st' := [.long (jL (ldY u p i9 k)), .int (jI (↑k)), .ref (a 37)]) ?_ rfl rfl (by rw [ey])
                refine sw_lastoreL (n := 147) F 5 rfl (fun _ => rfl) k rfl (by omega) [tmO (xg x) o a (va_up z 8 (ldP u p i9)), aL (xg x) (a 33) 120 Ii, aL (xg x) (a 34) 120 Ip, aL (xg x) (a 35) 120 Io, aL (xg x) (a 36) 120 (va_up Ni1 k (ldI u p i9 k)), aL (xg x) (a 37) 120 (va_up Np1 k (ldY u p i9 k)), aL (xg x) (a 38) 120 No1] (by rfl) dX4_lend_146 rfl ?_
                refine sw_lload (n := 149) F 4 rfl dX4_lend_147 rfl ?_
                refine sw_aload_n (n := 150) F 0 (some o) rfl rfl rfl dX4_lend_149 rfl ?_
                refine sw_get (n := 153) F 0 rfl (k := 37) ⟨(RX4, TX4, 50), rfl, by decide, q3836, in_X4, Or.inl rfl⟩ (v := .ref (a 37)) rfl dX4_lend_150 rfl ?_
                refine sw_iload (n := 155) F 5 rfl dX4_lend_153 rfl ?_
                refine sw_laloadL (n := 156) F 5 rfl (fun _ => rfl) k rfl (by omega) dX4_lend_155 rfl ?_
                rw [show (va_up Np1 k (ldY u p i9 k)) k = (ldY u p i9 k) from va_up_self _ _ _]
                refine sw_lsub (n := 157) F dX4_lend_156 rfl ?_
                show SW x _ _ _ _ _ [.long (jL (ldL u p i9 (k + 1)))]
                have hls := ldL_s u p i9 k
                refine sw_lstore (n := 159) F (L2 := [(7, .long (jL (ldL u p i9 (k + 1)))), (0, .ref o), (1, .long (jL u)), (3, .int (jI p)), (4, .long (jL i9)), (9, .int (jI (↑k)))]) rfl (by decide) dX4_lend_157 rfl ?_
                refine sw_aload_n (n := 160) F 1 (some o) rfl rfl rfl dX4_lend_159 rfl ?_
                refine sw_get (n := 163) F 0 rfl (k := 38) ⟨(RX4, TX4, 50), rfl, by decide, q3837, in_X4, Or.inl rfl⟩ (v := .ref (a 38)) rfl dX4_lend_160 rfl ?_
                refine sw_iload (n := 165) F 5 rfl dX4_lend_163 rfl ?_
                refine sw_lload (n := 167) F 0 rfl dX4_lend_165 rfl ?_
                refine sw_lastoreL (n := 168) F 6 rfl (fun _ => rfl) k rfl (by omega) [tmO (xg x) o a (va_up z 8 (ldP u p i9)), aL (xg x) (a 33) 120 Ii, aL (xg x) (a 34) 120 Ip, aL (xg x) (a 35) 120 Io, aL (xg x) (a 36) 120 (va_up Ni1 k (ldI u p i9 k)), aL (xg x) (a 37) 120 (va_up Np1 k (ldY u p i9 k)), aL (xg x) (a 38) 120 (va_up No1 k (ldL u p i9 (k + 1)))] (by rfl) dX4_lend_167 rfl ?_
                refine sw_iinc (n := 171) F 5 (L2 := [(9, .int (jI (↑k + 1))), (7, .long (jL (ldL u p i9 (k + 1)))), (0, .ref o), (1, .long (jL u)), (3, .int (jI p)), (4, .long (jL i9))]) rfl rfl (by decide) dX4_lend_168 rfl ?_
                refine sw_goto F (n := 82) dX4_lend_171 (by decide) ?_
                refine sw_loc [2, 3, 4, 5, 1, 0] (L2 := [(0, .ref o), (1, .long (jL u)), (3, .int (jI p)), (4, .long (jL i9)), (7, .long (jL (ldL u p i9 (k + 1)))), (9, .int (jI (↑k + 1)))]) rfl ?_
                rw [show (↑k + 1 : Int) = ↑(k + 1) by omega]
                exact ih82 (va_up Ni1 k (ldI u p i9 k)) (va_up Np1 k (ldY u p i9 k)) (va_up No1 k (ldL u p i9 (k + 1))) (k + 1) (by omega) (by first | exact ldN_0 | rw [ldN_s, if_pos ⟨hkN, by omega⟩]) (by first | (intro j hj; omega) | (intro j hj; by_cases e : j = k; (subst e; rw [va_up_self]; first | rfl | skip); (rw [va_up_ne _ _ e]; exact hI1 j (by omega)))) (by first | (intro j hj; omega) | (intro j hj; by_cases e : j = k; (subst e; rw [va_up_self]; first | rfl | skip); (rw [va_up_ne _ _ e]; exact hI2 j (by omega)))) (by first | (intro j hj; omega) | (intro j hj; by_cases e : j = k; (subst e; rw [va_up_self]; first | rfl | skip); (rw [va_up_ne _ _ e]; exact hI3 j (by omega)))) (by omega)
              ·
                have c_128 : (ldL u p i9 k) + (ldI u p i9 k) ≤ i9 := by revert c_128; (repeat' split) <;> omega
                refine sw_lload (n := 133) F 4 rfl dX4_lend_131 rfl ?_
                refine sw_goto F (n := 146) dX4_lend_133 (by decide) ?_
                have ey : ldY u p i9 k = ldL u p i9 k := ldY_1 (by omega)
                refine SW.cast (st' := [.long (jL (ldY u p i9 k)), .int (jI (↑k)), .ref (a 37)]) ?_ rfl rfl (by rw [ey])
                refine sw_lastoreL (n := 147) F 5 rfl (fun _ => rfl) k rfl (by omega) [tmO (xg x) o a (va_up z 8 (ldP u p i9)), aL (xg x) (a 33) 120 Ii, aL (xg x) (a 34) 120 Ip, aL (xg x) (a 35) 120 Io, aL (xg x) (a 36) 120 (va_up Ni1 k (ldI u p i9 k)), aL (xg x) (a 37) 120 (va_up Np1 k (ldY u p i9 k)), aL (xg x) (a 38) 120 No1] (by rfl) dX4_lend_146 rfl ?_
                refine sw_lload (n := 149) F 4 rfl dX4_lend_147 rfl ?_
                refine sw_aload_n (n := 150) F 0 (some o) rfl rfl rfl dX4_lend_149 rfl ?_
                refine sw_get (n := 153) F 0 rfl (k := 37) ⟨(RX4, TX4, 50), rfl, by decide, q3836, in_X4, Or.inl rfl⟩ (v := .ref (a 37)) rfl dX4_lend_150 rfl ?_
                refine sw_iload (n := 155) F 5 rfl dX4_lend_153 rfl ?_
                refine sw_laloadL (n := 156) F 5 rfl (fun _ => rfl) k rfl (by omega) dX4_lend_155 rfl ?_
                rw [show (va_up Np1 k (ldY u p i9 k)) k = (ldY u p i9 k) from va_up_self _ _ _]
                refine sw_lsub (n := 157) F dX4_lend_156 rfl ?_
                show SW x _ _ _ _ _ [.long (jL (ldL u p i9 (k + 1)))]
                have hls := ldL_s u p i9 k
                refine sw_lstore (n := 159) F (L2 := [(7, .long (jL (ldL u p i9 (k + 1)))), (0, .ref o), (1, .long (jL u)), (3, .int (jI p)), (4, .long (jL i9)), (9, .int (jI (↑k)))]) rfl (by decide) dX4_lend_157 rfl ?_
                refine sw_aload_n (n := 160) F 1 (some o) rfl rfl rfl dX4_lend_159 rfl ?_
                refine sw_get (n := 163) F 0 rfl (k := 38) ⟨(RX4, TX4, 50), rfl, by decide, q3837, in_X4, Or.inl rfl⟩ (v := .ref (a 38)) rfl dX4_lend_160 rfl ?_
                refine sw_iload (n := 165) F 5 rfl dX4_lend_163 rfl ?_
                refine sw_lload (n := 167) F 0 rfl dX4_lend_165 rfl ?_
                refine sw_lastoreL (n := 168) F 6 rfl (fun _ => rfl) k rfl (by omega) [tmO (xg x) o a (va_up z 8 (ldP u p i9)), aL (xg x) (a 33) 120 Ii, aL (xg x) (a 34) 120 Ip, aL (xg x) (a 35) 120 Io, aL (xg x) (a 36) 120 (va_up Ni1 k (ldI u p i9 k)), aL (xg x) (a 37) 120 (va_up Np1 k (ldY u p i9 k)), aL (xg x) (a 38) 120 (va_up No1 k (ldL u p i9 (k + 1)))] (by rfl) dX4_lend_167 rfl ?_
                refine sw_iinc (n := 171) F 5 (L2 := [(9, .int (jI (↑k + 1))), (7, .long (jL (ldL u p i9 (k + 1)))), (0, .ref o), (1, .long (jL u)), (3, .int (jI p)), (4, .long (jL i9))]) rfl rfl (by decide) dX4_lend_168 rfl ?_
                refine sw_goto F (n := 82) dX4_lend_171 (by decide) ?_
                refine sw_loc [2, 3, 4, 5, 1, 0] (L2 := [(0, .ref o), (1, .long (jL u)), (3, .int (jI p)), (4, .long (jL i9)), (7, .long (jL (ldL u p i9 (k + 1)))), (9, .int (jI (↑k + 1)))]) rfl ?_
                rw [show (↑k + 1 : Int) = ↑(k + 1) by omega]
                exact ih82 (va_up Ni1 k (ldI u p i9 k)) (va_up Np1 k (ldY u p i9 k)) (va_up No1 k (ldL u p i9 (k + 1))) (k + 1) (by omega) (by first | exact ldN_0 | rw [ldN_s, if_pos ⟨hkN, by omega⟩]) (by first | (intro j hj; omega) | (intro j hj; by_cases e : j = k; (subst e; rw [va_up_self]; first | rfl | skip); (rw [va_up_ne _ _ e]; exact hI1 j (by omega)))) (by first | (intro j hj; omega) | (intro j hj; by_cases e : j = k; (subst e; rw [va_up_self]; first | rfl | skip); (rw [va_up_ne _ _ e]; exact hI2 j (by omega)))) (by first | (intro j hj; omega) | (intro j hj; by_cases e : j = k; (subst e; rw [va_up_self]; first | rfl | skip); (rw [va_up_ne _ _ e]; exact hI3 j (by omega)))) (by omega)
      refine sw_loc [2, 3, 4, 5, 1, 0] (L2 := [(0, .ref o), (1, .long (jL u)), (3, .int (jI p)), (4, .long (jL i9)), (7, .long (jL u)), (9, .int (jI 0))]) rfl ?_
      show SW x _ _ _ _ [(0, .ref o), (1, .long (jL u)), (3, .int (jI p)), (4, .long (jL i9)), (7, .long (jL (ldL u p i9 0))), (9, .int (jI 0))] _
      exact K82 _ Ni Np No 0 (by omega) (by first | exact ldN_0 | rw [ldN_s, if_pos ⟨hkN, by omega⟩]) (by first | (intro j hj; omega) | (intro j hj; by_cases e : j = k; (subst e; rw [va_up_self]; first | rfl | skip); (rw [va_up_ne _ _ e]; exact hI1 j (by omega)))) (by first | (intro j hj; omega) | (intro j hj; by_cases e : j = k; (subst e; rw [va_up_self]; first | rfl | skip); (rw [va_up_ne _ _ e]; exact hI2 j (by omega)))) (by first | (intro j hj; omega) | (intro j hj; by_cases e : j = k; (subst e; rw [va_up_self]; first | rfl | skip); (rw [va_up_ne _ _ e]; exact hI3 j (by omega)))) (Nat.lt_succ_self _)
    ·
      refine sw_iconst (n := 75) F (0) (by decide) dX4_lend_74 rfl ?_
      have e0 : ldP u p i9 ≠ 0 := by omega
      have e : cd2 3 (ldP u p i9) (lrI (ldF u p i9) 1) = ldP u p i9 := cd2_n e0
      exact sw_iret F _ rfl (by first | rfl | exact jI_nz (by omega) | exact jI_nc (by omega)) dX4_lend_75 (by rw [hPo]; exact ⟨Ni, Np, No, (by rw [e, if0_n e0]), (by rw [e]; simp only [up0_n e0, cp0_n e0])⟩)
  refine sw_lconst (n := 2) F 1 (by decide) dX4_lend_1 rfl ?_
  refine sw_ldc2 (n := 5) F (1000000000000) q4179 (by decide) dX4_lend_2 rfl ?_
  refine sw_callS (n := 8) F (ct_X4_in (g := xg x) (l := xl x) u 1 1000000000000 hu (by first | omega | assumption) (by first | omega | assumption)) q3963 q3964 q120 q3965 nd_X4_in rfl (by decide) [0, 1, 2, 3, 4, 5, 6] (perm_ok _ 7 (by decide +kernel) rfl) [tmO (xg x) o a z, aL (xg x) (a 33) 120 Ii, aL (xg x) (a 34) 120 Ip, aL (xg x) (a 35) 120 Io, aL (xg x) (a 36) 120 Ni, aL (xg x) (a 37) 120 Np, aL (xg x) (a 38) 120 No] rfl 0 0 ⟨by omega, by omega⟩ [] rfl (Nat.le_of_ble_eq_true rfl) dX4_lend_5 rfl (fun _ _ h => h.elim) (fun v Ws h => ?_)
  obtain ⟨rfl, hs_6, rfl⟩ := h
  show SW x [tmO (xg x) o a z, aL (xg x) (a 33) 120 Ii, aL (xg x) (a 34) 120 Ip, aL (xg x) (a 35) 120 Io, aL (xg x) (a 36) 120 Ni, aL (xg x) (a 37) 120 Np, aL (xg x) (a 38) 120 No] _ _ _ _ [.int (jI (inI u 1 1000000000000))]
  refine sw_if_eq (n := 11) F (by omega) (tgt := 39) dX4_lend_8 (by decide) rfl (fun c_8 => ?_) (fun c_8 => ?_)
  ·
    refine sw_iconst (n := 40) F (0) (by decide) dX4_lend_39 rfl ?_
    refine sw_istore (n := 42) F (L2 := [(6, .int (jI 0)), (0, .ref o), (1, .long (jL u)), (3, .int (jI p)), (4, .long (jL i9))]) rfl (by decide) dX4_lend_40 rfl ?_
    refine sw_aload_n (n := 43) F 1 (some o) rfl rfl rfl dX4_lend_42 rfl ?_
    refine sw_iload (n := 45) F 0 rfl dX4_lend_43 rfl ?_
    refine sw_if_ne (n := 48) F (by decide) (tgt := 52) dX4_lend_45 (by decide) rfl (fun c_45 => ?_) (fun c_45 => ?_)
    · exfalso; exact absurd c_45 (by decide)
    ·
      refine sw_iconst (n := 49) F (1) (by decide) dX4_lend_48 rfl ?_
      refine sw_goto F (n := 68) dX4_lend_49 (by decide) ?_
      refine sw_loc [1, 2, 3, 4] (L2 := [(0, .ref o), (1, .long (jL u)), (3, .int (jI p)), (4, .long (jL i9))]) rfl ?_
      exact K68 1 (by unfold ldP; (repeat' split) <;> omega)
  ·
    refine sw_iload_n (n := 12) F 2 rfl rfl dX4_lend_11 rfl ?_
    refine sw_i2l (n := 13) F (by omega) dX4_lend_12 rfl ?_
    refine sw_lconst (n := 14) F 0 (by decide) dX4_lend_13 rfl ?_
    refine sw_ldc2 (n := 17) F (9999) q4195 (by decide) dX4_lend_14 rfl ?_
    refine sw_callS (n := 20) F (ct_X4_in (g := xg x) (l := xl x) p 0 9999 (by first | omega | assumption) (by first | omega | assumption) (by first | omega | assumption)) q3963 q3964 q120 q3965 nd_X4_in rfl (by decide) [0, 1, 2, 3, 4, 5, 6] (perm_ok _ 7 (by decide +kernel) rfl) [tmO (xg x) o a z, aL (xg x) (a 33) 120 Ii, aL (xg x) (a 34) 120 Ip, aL (xg x) (a 35) 120 Io, aL (xg x) (a 36) 120 Ni, aL (xg x) (a 37) 120 Np, aL (xg x) (a 38) 120 No] rfl 0 0 ⟨by omega, by omega⟩ [] rfl (Nat.le_of_ble_eq_true rfl) dX4_lend_17 rfl (fun _ _ h => h.elim) (fun v Ws h => ?_)
    obtain ⟨rfl, hs_7, rfl⟩ := h
    show SW x [tmO (xg x) o a z, aL (xg x) (a 33) 120 Ii, aL (xg x) (a 34) 120 Ip, aL (xg x) (a 35) 120 Io, aL (xg x) (a 36) 120 Ni, aL (xg x) (a 37) 120 Np, aL (xg x) (a 38) 120 No] _ _ _ _ [.int (jI (inI p 0 9999))]
    refine sw_if_eq (n := 23) F (by omega) (tgt := 39) dX4_lend_20 (by decide) rfl (fun c_20 => ?_) (fun c_20 => ?_)
    ·
      refine sw_iconst (n := 40) F (0) (by decide) dX4_lend_39 rfl ?_
      refine sw_istore (n := 42) F (L2 := [(6, .int (jI 0)), (0, .ref o), (1, .long (jL u)), (3, .int (jI p)), (4, .long (jL i9))]) rfl (by decide) dX4_lend_40 rfl ?_
      refine sw_aload_n (n := 43) F 1 (some o) rfl rfl rfl dX4_lend_42 rfl ?_
      refine sw_iload (n := 45) F 0 rfl dX4_lend_43 rfl ?_
      refine sw_if_ne (n := 48) F (by decide) (tgt := 52) dX4_lend_45 (by decide) rfl (fun c_45 => ?_) (fun c_45 => ?_)
      · exfalso; exact absurd c_45 (by decide)
      ·
        refine sw_iconst (n := 49) F (1) (by decide) dX4_lend_48 rfl ?_
        refine sw_goto F (n := 68) dX4_lend_49 (by decide) ?_
        refine sw_loc [1, 2, 3, 4] (L2 := [(0, .ref o), (1, .long (jL u)), (3, .int (jI p)), (4, .long (jL i9))]) rfl ?_
        exact K68 1 (by unfold ldP; (repeat' split) <;> omega)
    ·
      refine sw_lload (n := 25) F 3 rfl dX4_lend_23 rfl ?_
      refine sw_lconst (n := 26) F 1 (by decide) dX4_lend_25 rfl ?_
      refine sw_ldc2 (n := 29) F (1000000000000) q4179 (by decide) dX4_lend_26 rfl ?_
      refine sw_callS (n := 32) F (ct_X4_in (g := xg x) (l := xl x) i9 1 1000000000000 hi (by first | omega | assumption) (by first | omega | assumption)) q3963 q3964 q120 q3965 nd_X4_in rfl (by decide) [0, 1, 2, 3, 4, 5, 6] (perm_ok _ 7 (by decide +kernel) rfl) [tmO (xg x) o a z, aL (xg x) (a 33) 120 Ii, aL (xg x) (a 34) 120 Ip, aL (xg x) (a 35) 120 Io, aL (xg x) (a 36) 120 Ni, aL (xg x) (a 37) 120 Np, aL (xg x) (a 38) 120 No] rfl 0 0 ⟨by omega, by omega⟩ [] rfl (Nat.le_of_ble_eq_true rfl) dX4_lend_29 rfl (fun _ _ h => h.elim) (fun v Ws h => ?_)
      obtain ⟨rfl, hs_8, rfl⟩ := h
      show SW x [tmO (xg x) o a z, aL (xg x) (a 33) 120 Ii, aL (xg x) (a 34) 120 Ip, aL (xg x) (a 35) 120 Io, aL (xg x) (a 36) 120 Ni, aL (xg x) (a 37) 120 Np, aL (xg x) (a 38) 120 No] _ _ _ _ [.int (jI (inI i9 1 1000000000000))]
      refine sw_if_eq (n := 35) F (by omega) (tgt := 39) dX4_lend_32 (by decide) rfl (fun c_32 => ?_) (fun c_32 => ?_)
      ·
        refine sw_iconst (n := 40) F (0) (by decide) dX4_lend_39 rfl ?_
        refine sw_istore (n := 42) F (L2 := [(6, .int (jI 0)), (0, .ref o), (1, .long (jL u)), (3, .int (jI p)), (4, .long (jL i9))]) rfl (by decide) dX4_lend_40 rfl ?_
        refine sw_aload_n (n := 43) F 1 (some o) rfl rfl rfl dX4_lend_42 rfl ?_
        refine sw_iload (n := 45) F 0 rfl dX4_lend_43 rfl ?_
        refine sw_if_ne (n := 48) F (by decide) (tgt := 52) dX4_lend_45 (by decide) rfl (fun c_45 => ?_) (fun c_45 => ?_)
        · exfalso; exact absurd c_45 (by decide)
        ·
          refine sw_iconst (n := 49) F (1) (by decide) dX4_lend_48 rfl ?_
          refine sw_goto F (n := 68) dX4_lend_49 (by decide) ?_
          refine sw_loc [1, 2, 3, 4] (L2 := [(0, .ref o), (1, .long (jL u)), (3, .int (jI p)), (4, .long (jL i9))]) rfl ?_
          exact K68 1 (by unfold ldP; (repeat' split) <;> omega)
      ·
        refine sw_iconst (n := 36) F (1) (by decide) dX4_lend_35 rfl ?_
        refine sw_goto F (n := 40) dX4_lend_36 (by decide) ?_
        refine sw_istore (n := 42) F (L2 := [(6, .int (jI 1)), (0, .ref o), (1, .long (jL u)), (3, .int (jI p)), (4, .long (jL i9))]) rfl (by decide) dX4_lend_40 rfl ?_
        refine sw_aload_n (n := 43) F 1 (some o) rfl rfl rfl dX4_lend_42 rfl ?_
        refine sw_iload (n := 45) F 0 rfl dX4_lend_43 rfl ?_
        refine sw_if_ne (n := 48) F (by decide) (tgt := 52) dX4_lend_45 (by decide) rfl (fun c_45 => ?_) (fun c_45 => ?_)
        ·
          refine sw_lload_n (n := 53) F 2 rfl rfl dX4_lend_52 rfl ?_
          refine sw_iload_n (n := 54) F 3 rfl rfl dX4_lend_53 rfl ?_
          refine sw_callS (n := 57) F (ct_X4_month (g := xg x) (l := xl x) u p (by first | omega | assumption) (by first | omega | assumption)) q4284 q4285 q120 q4286 nd_X4_month rfl (by decide) [0, 1, 2, 3, 4, 5, 6] (perm_ok _ 7 (by decide +kernel) rfl) [tmO (xg x) o a z, aL (xg x) (a 33) 120 Ii, aL (xg x) (a 34) 120 Ip, aL (xg x) (a 35) 120 Io, aL (xg x) (a 36) 120 Ni, aL (xg x) (a 37) 120 Np, aL (xg x) (a 38) 120 No] rfl 0 0 ⟨by omega, by omega⟩ [.ref o] rfl (Nat.le_of_ble_eq_true rfl) dX4_lend_54 rfl (fun _ _ h => h.elim) (fun v Ws h => ?_)
          obtain ⟨rfl, rfl⟩ := h
          show SW x [tmO (xg x) o a z, aL (xg x) (a 33) 120 Ii, aL (xg x) (a 34) 120 Ip, aL (xg x) (a 35) 120 Io, aL (xg x) (a 36) 120 Ni, aL (xg x) (a 37) 120 Np, aL (xg x) (a 38) 120 No] _ _ _ _ [.long (jL (moV u p)), .ref o]
          have hmv := moV_rng (l := u) (p := p) (by omega) (by omega)
          refine sw_lload (n := 59) F 4 rfl dX4_lend_57 rfl ?_
          refine sw_lcmp (n := 60) F (by omega) (by omega) dX4_lend_59 rfl ?_
          refine sw_if_lt (n := 63) F (by omega) (tgt := 67) dX4_lend_60 (by decide) rfl (fun c_60 => ?_) (fun c_60 => ?_)
          ·
            have c_60 : moV u p < i9 := by revert c_60; (repeat' split) <;> omega
            refine sw_iconst (n := 68) F (0) (by decide) dX4_lend_67 rfl ?_
            refine sw_loc [1, 2, 3, 4] (L2 := [(0, .ref o), (1, .long (jL u)), (3, .int (jI p)), (4, .long (jL i9))]) rfl ?_
            exact K68 0 (by unfold ldP; (repeat' split) <;> omega)
          ·
            have c_60 : moV u p ≥ i9 := by revert c_60; (repeat' split) <;> omega
            refine sw_iconst (n := 64) F (2) (by decide) dX4_lend_63 rfl ?_
            refine sw_goto F (n := 68) dX4_lend_64 (by decide) ?_
            refine sw_loc [1, 2, 3, 4] (L2 := [(0, .ref o), (1, .long (jL u)), (3, .int (jI p)), (4, .long (jL i9))]) rfl ?_
            exact K68 2 (by unfold ldP; (repeat' split) <;> omega)
        · exfalso; exact absurd c_45 (by decide)
