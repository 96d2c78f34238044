theorem nd_X4_taxesOf : yX4_taxesOf.cls ≠ "java/lang/invoke/MethodHandle" ∧ yX4_taxesOf.cls ≠ "java/lang/invoke/VarHandle" ∧ (parseMethodDescriptor yX4_taxesOf.desc).map (fun d => d.parameters.length) = some 1 := by decide +kernel
set_option maxRecDepth 100000 in
set_option maxHeartbeats 16000000 in
theorem ct_X4_taxesOf {g : GG} {l : Launch} (o : Nat) (a : Nat → Nat) (z : Nat → Int) (D : Nat → Nat) (M : Nat → Nat) (Md : Nat → Int) (Cu : Nat → Int) (Ln : Nat → Int) (Bl : Nat → Int) (Nt : Nat → Int) (Lt : Nat → Int) (inv : Nat) (hA : Dok D M) (hMd : MdB Md) (hCu : BD 0 3 Cu) (hLn : BD 0 12 Ln) (hBl : HB Bl) (hNt : BD 0 10000000000000000 Nt) (hLt : BD 0 9999 Lt) (hinv : inv < 20) (hz2 : z 2 = 0 ∨ z 2 = 1) : Ct g l yX4_taxesOf (ws_ yX4_taxesOf cX4_taxesOf 10 (Option.some Jvm.ClassFile.FieldType.long)) 8 176 0 0 [.ref o, .int (jI (↑inv))] [tmO g o a z, aN g 0 (a 0) 2400 D, aN g 0 (a 1) 10 M, aI g 2 (a 11) 4 Md, aI g 0 (a 21) 20 Cu, aI g 0 (a 22) 20 Ln, aI g 4 (a 23) 20 Bl, aL g (a 25) 240 Nt, aI g 0 (a 26) 240 Lt] (fun v9 Ws9 => ∃ D1 : Nat → Nat, ∃ M1 : Nat → Nat, v9 = some (.long (jL (tsS Md Cu Nt Lt inv (Bl inv) (Ln inv).toNat (Ln inv).toNat))) ∧ (RV [0, 1, 2, 3, 5, 6, 7, 8, 9] D M D1 M1) ∧ Ws9 = [tmO g o a (va_up z 2 (tsZ Md Cu Nt Lt inv (Bl inv) (Ln inv).toNat (z 2) (Ln inv).toNat)), aN g 0 (a 0) 2400 D1, aN g 0 (a 1) 10 M1, aI g 2 (a 11) 4 Md, aI g 0 (a 21) 20 Cu, aI g 0 (a 22) 20 Ln, aI g 4 (a 23) 20 Bl, aL g (a 25) 240 Nt, aI g 0 (a 26) 240 Lt]) (nox) := by
  refine Ct.of (cc := cX4_taxesOf) (nL := 10) (ret := (Option.some Jvm.ClassFile.FieldType.long)) (by decide) rfl (Nat.le_of_ble_eq_true rfl) ?_
  intro x hg hl hPo hPx hmc hms F
  subst hg; subst hl
  refine SW.cast (L' := [(0, .ref o), (1, .int (jI (↑inv)))]) ?_ rfl rfl rfl
  have hln := hLn inv
  have hbl := hBl inv
  refine sw_lconst (n := 1) F 0 (by decide) dX4_taxesOf_0 rfl ?_
  refine sw_lstore_n (n := 2) F (L2 := [(2, .long (jL 0)), (0, .ref o), (1, .int (jI (↑inv)))]) rfl (by decide) rfl dX4_taxesOf_1 rfl ?_
  refine sw_iconst (n := 3) F (0) (by decide) dX4_taxesOf_2 rfl ?_
  refine SW.cast (Ps' := [tmO (xg x) o a (va_up z 2 (tsZ Md Cu Nt Lt inv (Bl inv) (Ln inv).toNat (z 2) 0)), aN (xg x) 0 (a 0) 2400 D, aN (xg x) 0 (a 1) 10 M, aI (xg x) 2 (a 11) 4 Md, aI (xg x) 0 (a 21) 20 Cu, aI (xg x) 0 (a 22) 20 Ln, aI (xg x) 4 (a 23) 20 Bl, aL (xg x) (a 25) 240 Nt, aI (xg x) 0 (a 26) 240 Lt]) ?_ (by rw [show va_up z 2 (tsZ Md Cu Nt Lt inv (Bl inv) (Ln inv).toNat (z 2) 0) = z from va_up_idI z 2]) (by rfl) rfl
  refine sw_istore (n := 5) F (L2 := [(4, .int (jI 0)), (2, .long (jL 0)), (0, .ref o), (1, .int (jI (↑inv)))]) rfl (by decide) dX4_taxesOf_3 rfl ?_
  have K5 : ∀ N5 : Nat, ∀ (D1 : Nat → Nat) (M1 : Nat → Nat) (k : Nat), (RV [0, 1, 2, 3, 5, 6, 7, 8, 9] D M D1 M1) → ((k : Int) ≤ Ln inv) → ((13 - k) < N5) → SW x [tmO (xg x) o a (va_up z 2 (tsZ Md Cu Nt Lt inv (Bl inv) (Ln inv).toNat (z 2) k)), aN (xg x) 0 (a 0) 2400 D1, aN (xg x) 0 (a 1) 10 M1, aI (xg x) 2 (a 11) 4 Md, aI (xg x) 0 (a 21) 20 Cu, aI (xg x) 0 (a 22) 20 Ln, aI (xg x) 4 (a 23) 20 Bl, aL (xg x) (a 25) 240 Nt, aI (xg x) 0 (a 26) 240 Lt] 0 0 5 [(0, .ref o), (1, .int (jI (↑inv))), (2, .long (jL (tsS Md Cu Nt Lt inv (Bl inv) (Ln inv).toNat k))), (4, .int (jI (↑k)))] [] := by
    intro N5; induction N5 with
    | zero => intro D1 M1 k hRV hk hmu5; omega
    | succ N5 ih5 =>
      intro D1 M1 k hRV hk hmu5
      have hnk := hNt (12 * inv + k)
      have hlk := hLt (12 * inv + k)
      have hzk := tsZ_01 (Md := Md) (Cu := Cu) (Nt := Nt) (Lt := Lt) (i := inv) (b := Bl inv) (n := (Ln inv).toNat) hz2 k
      have hA1 := hRV.1
      refine sw_iload (n := 7) F 3 rfl dX4_taxesOf_5 rfl ?_
      refine sw_aload_n (n := 8) F 0 (some o) rfl rfl rfl dX4_taxesOf_7 rfl ?_
      refine sw_get (n := 11) F 0 rfl (k := 22) ⟨(RX4, TX4, 50), rfl, by decide, q3821, in_X4, Or.inl rfl⟩ (v := .ref (a 22)) rfl dX4_taxesOf_8 rfl ?_
      refine sw_iload_n (n := 12) F 1 rfl rfl dX4_taxesOf_11 rfl ?_
      refine sw_ialoadI (n := 13) F 5 rfl (fun _ => rfl) inv rfl (by omega) dX4_taxesOf_12 rfl ?_
      refine sw_icmp_ge (n := 16) F (by omega) (by omega) (tgt := 187) dX4_taxesOf_13 (by decide) rfl (fun c_13 => ?_) (fun c_13 => ?_)
      ·
        obtain rfl : k = (Ln inv).toNat := by omega
        refine sw_lload_n (n := 188) F 2 rfl rfl dX4_taxesOf_187 rfl ?_
        exact sw_lret F rfl dX4_taxesOf_188 (by rw [hPo]; exact ⟨D1, M1, (by rfl), (by exact hRV.mono (by simp)), (by rfl)⟩)
      ·
        refine sw_aload_n (n := 17) F 0 (some o) rfl rfl rfl dX4_taxesOf_16 rfl ?_
        refine sw_get (n := 20) F 0 rfl (k := 26) ⟨(RX4, TX4, 50), rfl, by decide, q3825, in_X4, Or.inl rfl⟩ (v := .ref (a 26)) rfl dX4_taxesOf_17 rfl ?_
        refine sw_bipush (n := 22) F (12) (by decide) dX4_taxesOf_20 rfl ?_
        refine sw_iload_n (n := 23) F 1 rfl rfl dX4_taxesOf_22 rfl ?_
        refine sw_imul (n := 24) F dX4_taxesOf_23 rfl ?_
        refine sw_iload (n := 26) F 3 rfl dX4_taxesOf_24 rfl ?_
        refine sw_iadd (n := 27) F dX4_taxesOf_26 rfl ?_
        refine sw_ialoadI (n := 28) F 8 rfl (fun _ => rfl) ((12 * (inv)) + (k)) (by omega) (by omega) dX4_taxesOf_27 rfl ?_
        refine sw_istore (n := 30) F (L2 := [(5, .int (jI (Lt ((12 * (inv)) + (k))))), (0, .ref o), (1, .int (jI (↑inv))), (2, .long (jL (tsS Md Cu Nt Lt inv (Bl inv) (Ln inv).toNat k))), (4, .int (jI (↑k)))]) rfl (by decide) dX4_taxesOf_28 rfl ?_
        have K181 : ∀ (D2 : Nat → Nat) (M2 : Nat → Nat), (RV [0, 1, 2, 3, 5, 6, 7, 8, 9] D M D2 M2) → SW x [tmO (xg x) o a (va_up z 2 (tsZ Md Cu Nt Lt inv (Bl inv) (Ln inv).toNat (z 2) (k + 1))), aN (xg x) 0 (a 0) 2400 D2, aN (xg x) 0 (a 1) 10 M2, aI (xg x) 2 (a 11) 4 Md, aI (xg x) 0 (a 21) 20 Cu, aI (xg x) 0 (a 22) 20 Ln, aI (xg x) 4 (a 23) 20 Bl, aL (xg x) (a 25) 240 Nt, aI (xg x) 0 (a 26) 240 Lt] 0 0 181 [(0, .ref o), (1, .int (jI (↑inv))), (2, .long (jL (tsS Md Cu Nt Lt inv (Bl inv) (Ln inv).toNat (k + 1)))), (4, .int (jI (↑k)))] [] := by
          intro D2 M2 hRV2
          refine sw_iinc (n := 184) F 3 (L2 := [(4, .int (jI (↑k + 1))), (0, .ref o), (1, .int (jI (↑inv))), (2, .long (jL (tsS Md Cu Nt Lt inv (Bl inv) (Ln inv).toNat (k + 1))))]) rfl rfl (by decide) dX4_taxesOf_181 rfl ?_
          refine sw_goto F (n := 5) dX4_taxesOf_184 (by decide) ?_
          refine sw_loc [1, 2, 3, 0] (L2 := [(0, .ref o), (1, .int (jI (↑inv))), (2, .long (jL (tsS Md Cu Nt Lt inv (Bl inv) (Ln inv).toNat (k + 1)))), (4, .int (jI (↑k + 1)))]) rfl ?_
          rw [show (↑k + 1 : Int) = ↑(k + 1) by omega]
          exact ih5 D2 M2 (k + 1) (by first | assumption | (exact RV.rf hA) | exact (RV.rf hA).mono (S := []) (by simp)) (by omega) (by omega)
        refine sw_aload_n (n := 31) F 1 (some o) rfl rfl rfl dX4_taxesOf_30 rfl ?_
        refine sw_get (n := 34) F 0 rfl (k := 23) ⟨(RX4, TX4, 50), rfl, by decide, q3822, in_X4, Or.inl rfl⟩ (v := .ref (a 23)) rfl dX4_taxesOf_31 rfl ?_
        refine sw_iload_n (n := 35) F 2 rfl rfl dX4_taxesOf_34 rfl ?_
        refine sw_zaloadI (n := 36) F 6 rfl (fun _ => rfl) inv rfl (by omega) dX4_taxesOf_35 rfl ?_
        refine sw_if_eq (n := 39) F (by omega) (tgt := 72) dX4_taxesOf_36 (by decide) rfl (fun c_36 => ?_) (fun c_36 => ?_)
        ·
          have K90 : ∀ N90 : Nat, ∀ (j : Nat), ((j : Int) ≤ Ln inv) → ((13 - j) < N90) → SW x [tmO (xg x) o a (va_up z 2 (tsZ Md Cu Nt Lt inv (Bl inv) (Ln inv).toNat (z 2) k)), aN (xg x) 0 (a 0) 2400 D1, aN (xg x) 0 (a 1) 10 M1, aI (xg x) 2 (a 11) 4 Md, aI (xg x) 0 (a 21) 20 Cu, aI (xg x) 0 (a 22) 20 Ln, aI (xg x) 4 (a 23) 20 Bl, aL (xg x) (a 25) 240 Nt, aI (xg x) 0 (a 26) 240 Lt] 0 0 90 [(0, .ref o), (1, .int (jI (↑inv))), (2, .long (jL (tsS Md Cu Nt Lt inv (Bl inv) (Ln inv).toNat k))), (4, .int (jI (↑k))), (5, .int (jI (Lt ((12 * (inv)) + (k))))), (6, .int (jI (tiB Lt inv (Lt (12 * inv + k)) k j))), (7, .long (jL (tiE Lt Nt inv (Lt (12 * inv + k)) j))), (9, .int (jI (↑j)))] [] := by
            intro N90; induction N90 with
            | zero => intro j hj hmu90; omega
            | succ N90 ih90 =>
              intro j hj hmu90
              have hlj := hLt (12 * inv + j)
              have htb := tiB_01 Lt inv (Lt (12 * inv + k)) k j
              refine sw_iload (n := 92) F 7 rfl dX4_taxesOf_90 rfl ?_
              refine sw_aload_n (n := 93) F 0 (some o) rfl rfl rfl dX4_taxesOf_92 rfl ?_
              refine sw_get (n := 96) F 0 rfl (k := 22) ⟨(RX4, TX4, 50), rfl, by decide, q3821, in_X4, Or.inl rfl⟩ (v := .ref (a 22)) rfl dX4_taxesOf_93 rfl ?_
              refine sw_iload_n (n := 97) F 1 rfl rfl dX4_taxesOf_96 rfl ?_
              refine sw_ialoadI (n := 98) F 5 rfl (fun _ => rfl) inv rfl (by omega) dX4_taxesOf_97 rfl ?_
              refine sw_icmp_ge (n := 101) F (by omega) (by omega) (tgt := 161) dX4_taxesOf_98 (by decide) rfl (fun c_98 => ?_) (fun c_98 => ?_)
              ·
                obtain rfl : j = (Ln inv).toNat := by omega
                have hte := tiE_rng (Lt := Lt) (i := inv) (p := Lt (12 * inv + k)) hNt (Ln inv).toNat
                refine sw_iload (n := 163) F 5 rfl dX4_taxesOf_161 rfl ?_
                refine sw_if_eq (n := 166) F (by omega) (tgt := 181) dX4_taxesOf_163 (by decide) rfl (fun c_163 => ?_) (fun c_163 => ?_)
                ·
                  have ez : tsZ Md Cu Nt Lt inv (Bl inv) (Ln inv).toNat (z 2) (k + 1) = tsZ Md Cu Nt Lt inv (Bl inv) (Ln inv).toNat (z 2) k := by simp only [tsZ]; rw [if_pos c_36, if_pos c_163]
                  have es : tsS Md Cu Nt Lt inv (Bl inv) (Ln inv).toNat (k + 1) = tsS Md Cu Nt Lt inv (Bl inv) (Ln inv).toNat k + 0 := by simp only [tsS]; rw [if_pos c_36, if_pos c_163]
                  refine SW.cast (Ps' := [tmO (xg x) o a (va_up z 2 (tsZ Md Cu Nt Lt inv (Bl inv) (Ln inv).toNat (z 2) (k + 1))), aN (xg x) 0 (a 0) 2400 D1, aN (xg x) 0 (a 1) 10 M1, aI (xg x) 2 (a 11) 4 Md, aI (xg x) 0 (a 21) 20 Cu, aI (xg x) 0 (a 22) 20 Ln, aI (xg x) 4 (a 23) 20 Bl, aL (xg x) (a 25) 240 Nt, aI (xg x) 0 (a 26) 240 Lt]) (L' := [(0, .ref o), (1, .int (jI (↑inv))), (2, .long (jL (tsS Md Cu Nt Lt inv (Bl inv) (Ln inv).toNat (k + 1)))), (4, .int (jI (↑k))), (5, .int (jI (Lt ((12 * (inv)) + (k))))), (6, .int (jI (tiB Lt inv (Lt (12 * inv + k)) k ((Ln inv).toNat)))), (7, .long (jL (tiE Lt Nt inv (Lt (12 * inv + k)) ((Ln inv).toNat)))), (9, .int (jI (↑((Ln inv).toNat))))]) ?_ (by rw [ez]) (by rw [es]; simp only [Int.add_zero]) rfl
                  refine sw_loc [0, 1, 2, 3] (L2 := [(0, .ref o), (1, .int (jI (↑inv))), (2, .long (jL (tsS Md Cu Nt Lt inv (Bl inv) (Ln inv).toNat (k + 1)))), (4, .int (jI (↑k)))]) rfl ?_
                  exact K181 D1 M1 (by first | assumption | (refine RV.mono ?_ (by simp); assumption))
                ·
                  refine sw_lload_n (n := 167) F 2 rfl rfl dX4_taxesOf_166 rfl ?_
                  refine sw_aload_n (n := 168) F 0 (some o) rfl rfl rfl dX4_taxesOf_167 rfl ?_
                  refine sw_lload (n := 170) F 6 rfl dX4_taxesOf_168 rfl ?_
                  refine sw_iload (n := 172) F 4 rfl dX4_taxesOf_170 rfl ?_
                  refine sw_ldc2 (n := 175) F (10000000000) q4259 (by decide) dX4_taxesOf_172 rfl ?_
                  refine sw_iload_n (n := 176) F 1 rfl rfl dX4_taxesOf_175 rfl ?_
                  refine sw_callV (n := 179) F (ct_X4_part (g := xg x) (l := xl x) o a (va_up z 2 (tsZ Md Cu Nt Lt inv (Bl inv) (Ln inv).toNat (z 2) k)) D1 M1 Md Cu (tiE Lt Nt inv (Lt (12 * inv + k)) ((Ln inv).toNat)) (Lt ((12 * (inv)) + (k))) 10000000000 inv (by first | assumption | omega) hMd hCu hinv (by first | omega | assumption) (by first | omega | assumption) (by decide) (by first | assumption | (simp only [va_up_self]; first | assumption | exact paZ_01 (by assumption)) | exact hzk)) (rcv_ob F 0 (ci := 3) rfl rfl) q4238 q4240 qs97 q120 q4241 nd_X4_part rfl (by decide) [0, 1, 2, 3, 4, 5, 6, 7, 8] rfl [aI (xg x) 0 (a 22) 20 Ln, aI (xg x) 4 (a 23) 20 Bl, aL (xg x) (a 25) 240 Nt, aI (xg x) 0 (a 26) 240 Lt] rfl 0 0 ⟨by omega, by omega⟩ [.long (jL (tsS Md Cu Nt Lt inv (Bl inv) (Ln inv).toNat k))] rfl (Nat.le_of_ble_eq_true rfl) dX4_taxesOf_176 rfl (fun _ _ h => h.elim) (fun v Ws h => ?_)
                  obtain ⟨D1_1, M1_2, rfl, hV_3, rfl⟩ := h
                  show SW x [tmO (xg x) o a (va_up (va_up z 2 (tsZ Md Cu Nt Lt inv (Bl inv) (Ln inv).toNat (z 2) k)) 2 (paZ Md Cu inv (tiE Lt Nt inv (Lt (12 * inv + k)) ((Ln inv).toNat)) (Lt ((12 * (inv)) + (k))) 10000000000 ((tsZ Md Cu Nt Lt inv (Bl inv) (Ln inv).toNat (z 2) k)))), aN (xg x) 0 (a 0) 2400 D1_1, aN (xg x) 0 (a 1) 10 M1_2, aI (xg x) 2 (a 11) 4 Md, aI (xg x) 0 (a 21) 20 Cu, aI (xg x) 0 (a 22) 20 Ln, aI (xg x) 4 (a 23) 20 Bl, aL (xg x) (a 25) 240 Nt, aI (xg x) 0 (a 26) 240 Lt] _ _ _ _ [.long (jL (↑(paQ Md Cu inv (tiE Lt Nt inv (Lt (12 * inv + k)) ((Ln inv).toNat)) (Lt ((12 * (inv)) + (k))) 10000000000))), .long (jL (tsS Md Cu Nt Lt inv (Bl inv) (Ln inv).toNat k))]
                  have a_4 := hV_3.1
                  have v_5 := (hRV.mono (T := [0, 1, 2, 3, 5, 6, 7, 8, 9]) (by simp)).trans hV_3 (by simp)
                  refine sw_ladd (n := 180) F dX4_taxesOf_179 rfl ?_
                  refine sw_lstore_n (n := 181) F (L2 := [(2, .long (jL ((tsS Md Cu Nt Lt inv (Bl inv) (Ln inv).toNat k) + (↑(paQ Md Cu inv (tiE Lt Nt inv (Lt (12 * inv + k)) ((Ln inv).toNat)) (Lt ((12 * (inv)) + (k))) 10000000000))))), (0, .ref o), (1, .int (jI (↑inv))), (4, .int (jI (↑k))), (5, .int (jI (Lt ((12 * (inv)) + (k))))), (6, .int (jI (tiB Lt inv (Lt (12 * inv + k)) k ((Ln inv).toNat)))), (7, .long (jL (tiE Lt Nt inv (Lt (12 * inv + k)) ((Ln inv).toNat)))), (9, .int (jI (↑((Ln inv).toNat))))]) rfl (by decide) rfl dX4_taxesOf_180 rfl ?_
                  have ez : tsZ Md Cu Nt Lt inv (Bl inv) (Ln inv).toNat (z 2) (k + 1) = paZ Md Cu inv (tiE Lt Nt inv (Lt (12 * inv + k)) (Ln inv).toNat) (Lt (12 * inv + k)) 10000000000 (tsZ Md Cu Nt Lt inv (Bl inv) (Ln inv).toNat (z 2) k) := by simp only [tsZ]; rw [if_pos c_36, if_neg c_163]
                  have es : tsS Md Cu Nt Lt inv (Bl inv) (Ln inv).toNat (k + 1) = tsS Md Cu Nt Lt inv (Bl inv) (Ln inv).toNat k + ↑(paQ Md Cu inv (tiE Lt Nt inv (Lt (12 * inv + k)) (Ln inv).toNat) (Lt (12 * inv + k)) 10000000000) := by simp only [tsS]; rw [if_pos c_36, if_neg c_163]
                  refine SW.cast (Ps' := [tmO (xg x) o a (va_up z 2 (tsZ Md Cu Nt Lt inv (Bl inv) (Ln inv).toNat (z 2) (k + 1))), aN (xg x) 0 (a 0) 2400 D1_1, aN (xg x) 0 (a 1) 10 M1_2, aI (xg x) 2 (a 11) 4 Md, aI (xg x) 0 (a 21) 20 Cu, aI (xg x) 0 (a 22) 20 Ln, aI (xg x) 4 (a 23) 20 Bl, aL (xg x) (a 25) 240 Nt, aI (xg x) 0 (a 26) 240 Lt]) (L' := [(2, .long (jL (tsS Md Cu Nt Lt inv (Bl inv) (Ln inv).toNat (k + 1)))), (0, .ref o), (1, .int (jI (↑inv))), (4, .int (jI (↑k))), (5, .int (jI (Lt ((12 * (inv)) + (k))))), (6, .int (jI (tiB Lt inv (Lt (12 * inv + k)) k ((Ln inv).toNat)))), (7, .long (jL (tiE Lt Nt inv (Lt (12 * inv + k)) ((Ln inv).toNat)))), (9, .int (jI (↑((Ln inv).toNat))))]) ?_ (by rw [ez]; simp only [up_upI]) (by rw [es]) rfl
                  refine sw_loc [1, 2, 0, 3] (L2 := [(0, .ref o), (1, .int (jI (↑inv))), (2, .long (jL (tsS Md Cu Nt Lt inv (Bl inv) (Ln inv).toNat (k + 1)))), (4, .int (jI (↑k)))]) rfl ?_
                  exact K181 D1_1 M1_2 (by first | assumption | (refine RV.mono ?_ (by simp); assumption))
              ·
                refine sw_aload_n (n := 102) F 0 (some o) rfl rfl rfl dX4_taxesOf_101 rfl ?_
                refine sw_get (n := 105) F 0 rfl (k := 26) ⟨(RX4, TX4, 50), rfl, by decide, q3825, in_X4, Or.inl rfl⟩ (v := .ref (a 26)) rfl dX4_taxesOf_102 rfl ?_
                refine sw_bipush (n := 107) F (12) (by decide) dX4_taxesOf_105 rfl ?_
                refine sw_iload_n (n := 108) F 1 rfl rfl dX4_taxesOf_107 rfl ?_
                refine sw_imul (n := 109) F dX4_taxesOf_108 rfl ?_
                refine sw_iload (n := 111) F 7 rfl dX4_taxesOf_109 rfl ?_
                refine sw_iadd (n := 112) F dX4_taxesOf_111 rfl ?_
                refine sw_ialoadI (n := 113) F 8 rfl (fun _ => rfl) ((12 * (inv)) + (j)) (by omega) (by omega) dX4_taxesOf_112 rfl ?_
                refine sw_iload (n := 115) F 4 rfl dX4_taxesOf_113 rfl ?_
                refine sw_icmp_eq (n := 118) F (by omega) (by omega) (tgt := 121) dX4_taxesOf_115 (by decide) rfl (fun c_115 => ?_) (fun c_115 => ?_)
                ·
                  refine sw_iload (n := 123) F 5 rfl dX4_taxesOf_121 rfl ?_
                  refine sw_iload (n := 125) F 7 rfl dX4_taxesOf_123 rfl ?_
                  refine sw_iload (n := 127) F 3 rfl dX4_taxesOf_125 rfl ?_
                  refine sw_icmp_lt (n := 130) F (by omega) (by omega) (tgt := 134) dX4_taxesOf_127 (by decide) rfl (fun c_127 => ?_) (fun c_127 => ?_)
                  ·
                    refine sw_iconst (n := 135) F (0) (by decide) dX4_taxesOf_134 rfl ?_
                    refine sw_iand (n := 136) F _ (jI_and0 (by omega)) dX4_taxesOf_135 rfl ?_
                    refine sw_istore (n := 138) F (L2 := [(6, .int (jI 0)), (0, .ref o), (1, .int (jI (↑inv))), (2, .long (jL (tsS Md Cu Nt Lt inv (Bl inv) (Ln inv).toNat k))), (4, .int (jI (↑k))), (5, .int (jI (Lt ((12 * (inv)) + (k))))), (7, .long (jL (tiE Lt Nt inv (Lt (12 * inv + k)) j))), (9, .int (jI (↑j)))]) rfl (by decide) dX4_taxesOf_136 rfl ?_
                    refine sw_lload (n := 140) F 6 rfl dX4_taxesOf_138 rfl ?_
                    refine sw_aload_n (n := 141) F 1 (some o) rfl rfl rfl dX4_taxesOf_140 rfl ?_
                    refine sw_get (n := 144) F 0 rfl (k := 25) ⟨(RX4, TX4, 50), rfl, by decide, q3824, in_X4, Or.inl rfl⟩ (v := .ref (a 25)) rfl dX4_taxesOf_141 rfl ?_
                    refine sw_bipush (n := 146) F (12) (by decide) dX4_taxesOf_144 rfl ?_
                    refine sw_iload_n (n := 147) F 2 rfl rfl dX4_taxesOf_146 rfl ?_
                    refine sw_imul (n := 148) F dX4_taxesOf_147 rfl ?_
                    refine sw_iload (n := 150) F 7 rfl dX4_taxesOf_148 rfl ?_
                    refine sw_iadd (n := 151) F dX4_taxesOf_150 rfl ?_
                    refine sw_laloadL (n := 152) F 7 rfl (fun _ => rfl) ((12 * (inv)) + (j)) (by omega) (by omega) dX4_taxesOf_151 rfl ?_
                    refine sw_ladd (n := 153) F dX4_taxesOf_152 rfl ?_
                    refine sw_lstore (n := 155) F (L2 := [(7, .long (jL ((tiE Lt Nt inv (Lt (12 * inv + k)) j) + (Nt ((12 * (inv)) + (j)))))), (6, .int (jI 0)), (0, .ref o), (1, .int (jI (↑inv))), (2, .long (jL (tsS Md Cu Nt Lt inv (Bl inv) (Ln inv).toNat k))), (4, .int (jI (↑k))), (5, .int (jI (Lt ((12 * (inv)) + (k))))), (9, .int (jI (↑j)))]) rfl (by decide) dX4_taxesOf_153 rfl ?_
                    have eb : tiB Lt inv (Lt (12 * inv + k)) k (j + 1) = 0 := by simp only [tiB]; rw [if_pos c_115, if_neg (by omega)]
                    have et : tiE Lt Nt inv (Lt (12 * inv + k)) (j + 1) = (tiE Lt Nt inv (Lt (12 * inv + k)) j) + (Nt ((12 * (inv)) + (j))) := by simp only [tiE]; rw [if_pos c_115]
                    refine SW.cast (L' := [(7, .long (jL (tiE Lt Nt inv (Lt (12 * inv + k)) (j + 1)))), (6, .int (jI (tiB Lt inv (Lt (12 * inv + k)) k (j + 1)))), (0, .ref o), (1, .int (jI (↑inv))), (2, .long (jL (tsS Md Cu Nt Lt inv (Bl inv) (Ln inv).toNat k))), (4, .int (jI (↑k))), (5, .int (jI (Lt ((12 * (inv)) + (k))))), (9, .int (jI (↑j)))]) ?_ rfl (by rw [eb, et]) rfl
                    refine sw_iinc (n := 158) F 7 (L2 := [(9, .int (jI (↑j + 1))), (7, .long (jL (tiE Lt Nt inv (Lt (12 * inv + k)) (j + 1)))), (6, .int (jI (tiB Lt inv (Lt (12 * inv + k)) k (j + 1)))), (0, .ref o), (1, .int (jI (↑inv))), (2, .long (jL (tsS Md Cu Nt Lt inv (Bl inv) (Ln inv).toNat k))), (4, .int (jI (↑k))), (5, .int (jI (Lt ((12 * (inv)) + (k)))))]) rfl rfl (by decide) dX4_taxesOf_155 rfl ?_
                    refine sw_goto F (n := 90) dX4_taxesOf_158 (by decide) ?_
                    refine sw_loc [3, 4, 5, 6, 7, 2, 1, 0] (L2 := [(0, .ref o), (1, .int (jI (↑inv))), (2, .long (jL (tsS Md Cu Nt Lt inv (Bl inv) (Ln inv).toNat k))), (4, .int (jI (↑k))), (5, .int (jI (Lt ((12 * (inv)) + (k))))), (6, .int (jI (tiB Lt inv (Lt (12 * inv + k)) k (j + 1)))), (7, .long (jL (tiE Lt Nt inv (Lt (12 * inv + k)) (j + 1)))), (9, .int (jI (↑j + 1)))]) rfl ?_
                    rw [show (↑j + 1 : Int) = ↑(j + 1) by omega]
                    exact ih90 (j + 1) (by omega) (by omega)
                  ·
                    refine sw_iconst (n := 131) F (1) (by decide) dX4_taxesOf_130 rfl ?_
                    refine sw_goto F (n := 135) dX4_taxesOf_131 (by decide) ?_
                    refine sw_iand (n := 136) F _ (jI_and1 (by omega)) dX4_taxesOf_135 rfl ?_
                    refine sw_istore (n := 138) F (L2 := [(6, .int (jI (tiB Lt inv (Lt (12 * inv + k)) k j))), (0, .ref o), (1, .int (jI (↑inv))), (2, .long (jL (tsS Md Cu Nt Lt inv (Bl inv) (Ln inv).toNat k))), (4, .int (jI (↑k))), (5, .int (jI (Lt ((12 * (inv)) + (k))))), (7, .long (jL (tiE Lt Nt inv (Lt (12 * inv + k)) j))), (9, .int (jI (↑j)))]) rfl (by decide) dX4_taxesOf_136 rfl ?_
                    refine sw_lload (n := 140) F 6 rfl dX4_taxesOf_138 rfl ?_
                    refine sw_aload_n (n := 141) F 1 (some o) rfl rfl rfl dX4_taxesOf_140 rfl ?_
                    refine sw_get (n := 144) F 0 rfl (k := 25) ⟨(RX4, TX4, 50), rfl, by decide, q3824, in_X4, Or.inl rfl⟩ (v := .ref (a 25)) rfl dX4_taxesOf_141 rfl ?_
                    refine sw_bipush (n := 146) F (12) (by decide) dX4_taxesOf_144 rfl ?_
                    refine sw_iload_n (n := 147) F 2 rfl rfl dX4_taxesOf_146 rfl ?_
                    refine sw_imul (n := 148) F dX4_taxesOf_147 rfl ?_
                    refine sw_iload (n := 150) F 7 rfl dX4_taxesOf_148 rfl ?_
                    refine sw_iadd (n := 151) F dX4_taxesOf_150 rfl ?_
                    refine sw_laloadL (n := 152) F 7 rfl (fun _ => rfl) ((12 * (inv)) + (j)) (by omega) (by omega) dX4_taxesOf_151 rfl ?_
                    refine sw_ladd (n := 153) F dX4_taxesOf_152 rfl ?_
                    refine sw_lstore (n := 155) F (L2 := [(7, .long (jL ((tiE Lt Nt inv (Lt (12 * inv + k)) j) + (Nt ((12 * (inv)) + (j)))))), (6, .int (jI (tiB Lt inv (Lt (12 * inv + k)) k j))), (0, .ref o), (1, .int (jI (↑inv))), (2, .long (jL (tsS Md Cu Nt Lt inv (Bl inv) (Ln inv).toNat k))), (4, .int (jI (↑k))), (5, .int (jI (Lt ((12 * (inv)) + (k))))), (9, .int (jI (↑j)))]) rfl (by decide) dX4_taxesOf_153 rfl ?_
                    have eb : tiB Lt inv (Lt (12 * inv + k)) k (j + 1) = tiB Lt inv (Lt (12 * inv + k)) k j := by simp only [tiB]; rw [if_pos c_115, if_pos (by omega)]
                    have et : tiE Lt Nt inv (Lt (12 * inv + k)) (j + 1) = (tiE Lt Nt inv (Lt (12 * inv + k)) j) + (Nt ((12 * (inv)) + (j))) := by simp only [tiE]; rw [if_pos c_115]
                    refine SW.cast (L' := [(7, .long (jL (tiE Lt Nt inv (Lt (12 * inv + k)) (j + 1)))), (6, .int (jI (tiB Lt inv (Lt (12 * inv + k)) k (j + 1)))), (0, .ref o), (1, .int (jI (↑inv))), (2, .long (jL (tsS Md Cu Nt Lt inv (Bl inv) (Ln inv).toNat k))), (4, .int (jI (↑k))), (5, .int (jI (Lt ((12 * (inv)) + (k))))), (9, .int (jI (↑j)))]) ?_ rfl (by rw [eb, et]) rfl
                    refine sw_iinc (n := 158) F 7 (L2 := [(9, .int (jI (↑j + 1))), (7, .long (jL (tiE Lt Nt inv (Lt (12 * inv + k)) (j + 1)))), (6, .int (jI (tiB Lt inv (Lt (12 * inv + k)) k (j + 1)))), (0, .ref o), (1, .int (jI (↑inv))), (2, .long (jL (tsS Md Cu Nt Lt inv (Bl inv) (Ln inv).toNat k))), (4, .int (jI (↑k))), (5, .int (jI (Lt ((12 * (inv)) + (k)))))]) rfl rfl (by decide) dX4_taxesOf_155 rfl ?_
                    refine sw_goto F (n := 90) dX4_taxesOf_158 (by decide) ?_
                    refine sw_loc [3, 4, 5, 6, 7, 2, 1, 0] (L2 := [(0, .ref o), (1, .int (jI (↑inv))), (2, .long (jL (tsS Md Cu Nt Lt inv (Bl inv) (Ln inv).toNat k))), (4, .int (jI (↑k))), (5, .int (jI (Lt ((12 * (inv)) + (k))))), (6, .int (jI (tiB Lt inv (Lt (12 * inv + k)) k (j + 1)))), (7, .long (jL (tiE Lt Nt inv (Lt (12 * inv + k)) (j + 1)))), (9, .int (jI (↑j + 1)))]) rfl ?_
                    rw [show (↑j + 1 : Int) = ↑(j + 1) by omega]
                    exact ih90 (j + 1) (by omega) (by omega)
                ·
                  refine sw_goto F (n := 155) dX4_taxesOf_118 (by decide) ?_
                  have eb : tiB Lt inv (Lt (12 * inv + k)) k (j + 1) = tiB Lt inv (Lt (12 * inv + k)) k j := by simp only [tiB]; rw [if_neg c_115]
                  have et : tiE Lt Nt inv (Lt (12 * inv + k)) (j + 1) = tiE Lt Nt inv (Lt (12 * inv + k)) j := by simp only [tiE]; rw [if_neg c_115]
                  refine SW.cast (L' := [(0, .ref o), (1, .int (jI (↑inv))), (2, .long (jL (tsS Md Cu Nt Lt inv (Bl inv) (Ln inv).toNat k))), (4, .int (jI (↑k))), (5, .int (jI (Lt ((12 * (inv)) + (k))))), (6, .int (jI (tiB Lt inv (Lt (12 * inv + k)) k (j + 1)))), (7, .long (jL (tiE Lt Nt inv (Lt (12 * inv + k)) (j + 1)))), (9, .int (jI (↑j)))]) ?_ rfl (by rw [eb, et]) rfl
                  refine sw_iinc (n := 158) F 7 (L2 := [(9, .int (jI (↑j + 1))), (0, .ref o), (1, .int (jI (↑inv))), (2, .long (jL (tsS Md Cu Nt Lt inv (Bl inv) (Ln inv).toNat k))), (4, .int (jI (↑k))), (5, .int (jI (Lt ((12 * (inv)) + (k))))), (6, .int (jI (tiB Lt inv (Lt (12 * inv + k)) k (j + 1)))), (7, .long (jL (tiE Lt Nt inv (Lt (12 * inv + k)) (j + 1))))]) rfl rfl (by decide) dX4_taxesOf_155 rfl ?_
                  refine sw_goto F (n := 90) dX4_taxesOf_158 (by decide) ?_
                  refine sw_loc [1, 2, 3, 4, 5, 6, 7, 0] (L2 := [(0, .ref o), (1, .int (jI (↑inv))), (2, .long (jL (tsS Md Cu Nt Lt inv (Bl inv) (Ln inv).toNat k))), (4, .int (jI (↑k))), (5, .int (jI (Lt ((12 * (inv)) + (k))))), (6, .int (jI (tiB Lt inv (Lt (12 * inv + k)) k (j + 1)))), (7, .long (jL (tiE Lt Nt inv (Lt (12 * inv + k)) (j + 1)))), (9, .int (jI (↑j + 1)))]) rfl ?_
                  rw [show (↑j + 1 : Int) = ↑(j + 1) by omega]
                  exact ih90 (j + 1) (by omega) (by omega)
          refine sw_iload (n := 74) F 0 rfl dX4_taxesOf_72 rfl ?_
          refine sw_if_le (n := 77) F (by omega) (tgt := 81) dX4_taxesOf_74 (by decide) rfl (fun c_74 => ?_) (fun c_74 => ?_)
          ·
            refine sw_iconst (n := 82) F (0) (by decide) dX4_taxesOf_81 rfl ?_
            refine sw_istore (n := 84) F (L2 := [(6, .int (jI 0)), (5, .int (jI (Lt ((12 * (inv)) + (k))))), (0, .ref o), (1, .int (jI (↑inv))), (2, .long (jL (tsS Md Cu Nt Lt inv (Bl inv) (Ln inv).toNat k))), (4, .int (jI (↑k)))]) rfl (by decide) dX4_taxesOf_82 rfl ?_
            refine sw_lconst (n := 85) F 0 (by decide) dX4_taxesOf_84 rfl ?_
            refine sw_lstore (n := 87) F (L2 := [(7, .long (jL 0)), (6, .int (jI 0)), (5, .int (jI (Lt ((12 * (inv)) + (k))))), (0, .ref o), (1, .int (jI (↑inv))), (2, .long (jL (tsS Md Cu Nt Lt inv (Bl inv) (Ln inv).toNat k))), (4, .int (jI (↑k)))]) rfl (by decide) dX4_taxesOf_85 rfl ?_
            refine sw_iconst (n := 88) F (0) (by decide) dX4_taxesOf_87 rfl ?_
            refine sw_istore (n := 90) F (L2 := [(9, .int (jI 0)), (7, .long (jL 0)), (6, .int (jI 0)), (5, .int (jI (Lt ((12 * (inv)) + (k))))), (0, .ref o), (1, .int (jI (↑inv))), (2, .long (jL (tsS Md Cu Nt Lt inv (Bl inv) (Ln inv).toNat k))), (4, .int (jI (↑k)))]) rfl (by decide) dX4_taxesOf_88 rfl ?_
            have eb : tiB Lt inv (Lt (12 * inv + k)) k 0 = 0 := by simp only [tiB]; rw [if_neg (by omega)]
            refine SW.cast (L' := [(9, .int (jI 0)), (7, .long (jL (tiE Lt Nt inv (Lt (12 * inv + k)) 0))), (6, .int (jI (tiB Lt inv (Lt (12 * inv + k)) k 0))), (5, .int (jI (Lt ((12 * (inv)) + (k))))), (0, .ref o), (1, .int (jI (↑inv))), (2, .long (jL (tsS Md Cu Nt Lt inv (Bl inv) (Ln inv).toNat k))), (4, .int (jI (↑k)))]) ?_ rfl (by rw [eb]; rfl) rfl
            refine sw_loc [4, 5, 6, 7, 3, 2, 1, 0] (L2 := [(0, .ref o), (1, .int (jI (↑inv))), (2, .long (jL (tsS Md Cu Nt Lt inv (Bl inv) (Ln inv).toNat k))), (4, .int (jI (↑k))), (5, .int (jI (Lt ((12 * (inv)) + (k))))), (6, .int (jI (tiB Lt inv (Lt (12 * inv + k)) k 0))), (7, .long (jL (tiE Lt Nt inv (Lt (12 * inv + k)) 0))), (9, .int (jI 0))]) rfl ?_
            exact K90 _ 0 (by omega) (Nat.lt_succ_self _)
          ·
            refine sw_iconst (n := 78) F (1) (by decide) dX4_taxesOf_77 rfl ?_
            refine sw_goto F (n := 82) dX4_taxesOf_78 (by decide) ?_
            refine sw_istore (n := 84) F (L2 := [(6, .int (jI 1)), (5, .int (jI (Lt ((12 * (inv)) + (k))))), (0, .ref o), (1, .int (jI (↑inv))), (2, .long (jL (tsS Md Cu Nt Lt inv (Bl inv) (Ln inv).toNat k))), (4, .int (jI (↑k)))]) rfl (by decide) dX4_taxesOf_82 rfl ?_
            refine sw_lconst (n := 85) F 0 (by decide) dX4_taxesOf_84 rfl ?_
            refine sw_lstore (n := 87) F (L2 := [(7, .long (jL 0)), (6, .int (jI 1)), (5, .int (jI (Lt ((12 * (inv)) + (k))))), (0, .ref o), (1, .int (jI (↑inv))), (2, .long (jL (tsS Md Cu Nt Lt inv (Bl inv) (Ln inv).toNat k))), (4, .int (jI (↑k)))]) rfl (by decide) dX4_taxesOf_85 rfl ?_
            refine sw_iconst (n := 88) F (0) (by decide) dX4_taxesOf_87 rfl ?_
            refine sw_istore (n := 90) F (L2 := [(9, .int (jI 0)), (7, .long (jL 0)), (6, .int (jI 1)), (5, .int (jI (Lt ((12 * (inv)) + (k))))), (0, .ref o), (1, .int (jI (↑inv))), (2, .long (jL (tsS Md Cu Nt Lt inv (Bl inv) (Ln inv).toNat k))), (4, .int (jI (↑k)))]) rfl (by decide) dX4_taxesOf_88 rfl ?_
            have eb : tiB Lt inv (Lt (12 * inv + k)) k 0 = 1 := by simp only [tiB]; rw [if_pos (by omega)]
            refine SW.cast (L' := [(9, .int (jI 0)), (7, .long (jL (tiE Lt Nt inv (Lt (12 * inv + k)) 0))), (6, .int (jI (tiB Lt inv (Lt (12 * inv + k)) k 0))), (5, .int (jI (Lt ((12 * (inv)) + (k))))), (0, .ref o), (1, .int (jI (↑inv))), (2, .long (jL (tsS Md Cu Nt Lt inv (Bl inv) (Ln inv).toNat k))), (4, .int (jI (↑k)))]) ?_ rfl (by rw [eb]; rfl) rfl
            refine sw_loc [4, 5, 6, 7, 3, 2, 1, 0] (L2 := [(0, .ref o), (1, .int (jI (↑inv))), (2, .long (jL (tsS Md Cu Nt Lt inv (Bl inv) (Ln inv).toNat k))), (4, .int (jI (↑k))), (5, .int (jI (Lt ((12 * (inv)) + (k))))), (6, .int (jI (tiB Lt inv (Lt (12 * inv + k)) k 0))), (7, .long (jL (tiE Lt Nt inv (Lt (12 * inv + k)) 0))), (9, .int (jI 0))]) rfl ?_
            exact K90 _ 0 (by omega) (Nat.lt_succ_self _)
        ·
          refine sw_lload_n (n := 40) F 3 rfl rfl dX4_taxesOf_39 rfl ?_
          refine sw_aload_n (n := 41) F 1 (some o) rfl rfl rfl dX4_taxesOf_40 rfl ?_
          refine sw_aload_n (n := 42) F 1 (some o) rfl rfl rfl dX4_taxesOf_41 rfl ?_
          refine sw_aload_n (n := 43) F 1 (some o) rfl rfl rfl dX4_taxesOf_42 rfl ?_
          refine sw_get (n := 46) F 0 rfl (k := 25) ⟨(RX4, TX4, 50), rfl, by decide, q3824, in_X4, Or.inl rfl⟩ (v := .ref (a 25)) rfl dX4_taxesOf_43 rfl ?_
          refine sw_bipush (n := 48) F (12) (by decide) dX4_taxesOf_46 rfl ?_
          refine sw_iload_n (n := 49) F 2 rfl rfl dX4_taxesOf_48 rfl ?_
          refine sw_imul (n := 50) F dX4_taxesOf_49 rfl ?_
          refine sw_iload (n := 52) F 4 rfl dX4_taxesOf_50 rfl ?_
          refine sw_iadd (n := 53) F dX4_taxesOf_52 rfl ?_
          refine sw_laloadL (n := 54) F 7 rfl (fun _ => rfl) ((12 * (inv)) + (k)) (by omega) (by omega) dX4_taxesOf_53 rfl ?_
          refine sw_iload_n (n := 55) F 2 rfl rfl dX4_taxesOf_54 rfl ?_
          refine sw_callV (n := 58) F (ct_X4_roundedNet (g := xg x) (l := xl x) o a (va_up z 2 (tsZ Md Cu Nt Lt inv (Bl inv) (Ln inv).toNat (z 2) k)) D1 M1 Md Cu (Nt ((12 * (inv)) + (k))) inv (by first | assumption | omega) hMd hCu hinv (by first | omega | assumption) (by first | assumption | (simp only [va_up_self]; first | assumption | exact paZ_01 (by assumption)) | exact hzk)) (rcv_ob F 0 (ci := 3) rfl rfl) q4233 q4235 qs96 q120 q4236 nd_X4_roundedNet rfl (by decide) [0, 1, 2, 3, 4, 5, 6, 7, 8] rfl [aI (xg x) 0 (a 22) 20 Ln, aI (xg x) 4 (a 23) 20 Bl, aL (xg x) (a 25) 240 Nt, aI (xg x) 0 (a 26) 240 Lt] rfl 0 0 ⟨by omega, by omega⟩ [.ref o, .long (jL (tsS Md Cu Nt Lt inv (Bl inv) (Ln inv).toNat k))] rfl (Nat.le_of_ble_eq_true rfl) dX4_taxesOf_55 rfl (fun _ _ h => h.elim) (fun v Ws h => ?_)
          obtain ⟨D1_6, M1_7, rfl, hV_8, rfl⟩ := h
          show SW x [tmO (xg x) o a (va_up (va_up z 2 (tsZ Md Cu Nt Lt inv (Bl inv) (Ln inv).toNat (z 2) k)) 2 (paZ Md Cu inv (Nt ((12 * (inv)) + (k))) 1 1000000 ((tsZ Md Cu Nt Lt inv (Bl inv) (Ln inv).toNat (z 2) k)))), aN (xg x) 0 (a 0) 2400 D1_6, aN (xg x) 0 (a 1) 10 M1_7, aI (xg x) 2 (a 11) 4 Md, aI (xg x) 0 (a 21) 20 Cu, aI (xg x) 0 (a 22) 20 Ln, aI (xg x) 4 (a 23) 20 Bl, aL (xg x) (a 25) 240 Nt, aI (xg x) 0 (a 26) 240 Lt] _ _ _ _ [.long (jL (↑(paQ Md Cu inv (Nt ((12 * (inv)) + (k))) 1 1000000))), .ref o, .long (jL (tsS Md Cu Nt Lt inv (Bl inv) (Ln inv).toNat k))]
          have a_9 := hV_8.1
          have v_10 := (hRV.mono (T := [0, 1, 2, 3, 5, 6, 7, 8, 9]) (by simp)).trans hV_8 (by simp)
          have hpn := paQ_n (Md := Md) (Cu := Cu) (i := inv) (k := 12 * inv + k) hNt
          refine sw_iload (n := 60) F 0 rfl dX4_taxesOf_58 rfl ?_
          refine sw_ldc2 (n := 63) F (10000) q4258 (by decide) dX4_taxesOf_60 rfl ?_
          refine sw_iload_n (n := 64) F 2 rfl rfl dX4_taxesOf_63 rfl ?_
          refine sw_callV (n := 67) F (ct_X4_part (g := xg x) (l := xl x) o a (va_up (va_up z 2 (tsZ Md Cu Nt Lt inv (Bl inv) (Ln inv).toNat (z 2) k)) 2 (paZ Md Cu inv (Nt ((12 * (inv)) + (k))) 1 1000000 ((tsZ Md Cu Nt Lt inv (Bl inv) (Ln inv).toNat (z 2) k)))) D1_6 M1_7 Md Cu (↑(paQ Md Cu inv (Nt ((12 * (inv)) + (k))) 1 1000000)) (Lt ((12 * (inv)) + (k))) 10000 inv a_9 hMd hCu hinv (by first | omega | assumption) (by first | omega | assumption) (by decide) (by first | assumption | (simp only [va_up_self]; first | assumption | exact paZ_01 (by assumption)) | exact hzk)) (rcv_ob F 0 (ci := 3) rfl rfl) q4238 q4240 qs97 q120 q4241 nd_X4_part rfl (by decide) [0, 1, 2, 3, 4, 5, 6, 7, 8] rfl [aI (xg x) 0 (a 22) 20 Ln, aI (xg x) 4 (a 23) 20 Bl, aL (xg x) (a 25) 240 Nt, aI (xg x) 0 (a 26) 240 Lt] rfl 0 0 ⟨by omega, by omega⟩ [.long (jL (tsS Md Cu Nt Lt inv (Bl inv) (Ln inv).toNat k))] rfl (Nat.le_of_ble_eq_true rfl) dX4_taxesOf_64 rfl (fun _ _ h => h.elim) (fun v Ws h => ?_)
          obtain ⟨D1_11, M1_12, rfl, hV_13, rfl⟩ := h
          show SW x [tmO (xg x) o a (va_up (va_up (va_up z 2 (tsZ Md Cu Nt Lt inv (Bl inv) (Ln inv).toNat (z 2) k)) 2 (paZ Md Cu inv (Nt ((12 * (inv)) + (k))) 1 1000000 ((tsZ Md Cu Nt Lt inv (Bl inv) (Ln inv).toNat (z 2) k)))) 2 (paZ Md Cu inv (↑(paQ Md Cu inv (Nt ((12 * (inv)) + (k))) 1 1000000)) (Lt ((12 * (inv)) + (k))) 10000 ((paZ Md Cu inv (Nt ((12 * (inv)) + (k))) 1 1000000 ((tsZ Md Cu Nt Lt inv (Bl inv) (Ln inv).toNat (z 2) k)))))), aN (xg x) 0 (a 0) 2400 D1_11, aN (xg x) 0 (a 1) 10 M1_12, aI (xg x) 2 (a 11) 4 Md, aI (xg x) 0 (a 21) 20 Cu, aI (xg x) 0 (a 22) 20 Ln, aI (xg x) 4 (a 23) 20 Bl, aL (xg x) (a 25) 240 Nt, aI (xg x) 0 (a 26) 240 Lt] _ _ _ _ [.long (jL (↑(paQ Md Cu inv (↑(paQ Md Cu inv (Nt ((12 * (inv)) + (k))) 1 1000000)) (Lt ((12 * (inv)) + (k))) 10000))), .long (jL (tsS Md Cu Nt Lt inv (Bl inv) (Ln inv).toNat k))]
          have a_14 := hV_13.1
          have v_15 := (v_10.mono (T := [0, 1, 2, 3, 5, 6, 7, 8, 9]) (by simp)).trans hV_13 (by simp)
          refine sw_ladd (n := 68) F dX4_taxesOf_67 rfl ?_
          refine sw_lstore_n (n := 69) F (L2 := [(2, .long (jL ((tsS Md Cu Nt Lt inv (Bl inv) (Ln inv).toNat k) + (↑(paQ Md Cu inv (↑(paQ Md Cu inv (Nt ((12 * (inv)) + (k))) 1 1000000)) (Lt ((12 * (inv)) + (k))) 10000))))), (5, .int (jI (Lt ((12 * (inv)) + (k))))), (0, .ref o), (1, .int (jI (↑inv))), (4, .int (jI (↑k)))]) rfl (by decide) rfl dX4_taxesOf_68 rfl ?_
          refine sw_goto F (n := 181) dX4_taxesOf_69 (by decide) ?_
          have ez : tsZ Md Cu Nt Lt inv (Bl inv) (Ln inv).toNat (z 2) (k + 1) = paZ Md Cu inv (↑(paQ Md Cu inv (Nt (12 * inv + k)) 1 1000000)) (Lt (12 * inv + k)) 10000 (paZ Md Cu inv (Nt (12 * inv + k)) 1 1000000 (tsZ Md Cu Nt Lt inv (Bl inv) (Ln inv).toNat (z 2) k)) := by simp only [tsZ]; rw [if_neg c_36]
          have es : tsS Md Cu Nt Lt inv (Bl inv) (Ln inv).toNat (k + 1) = tsS Md Cu Nt Lt inv (Bl inv) (Ln inv).toNat k + ↑(paQ Md Cu inv (↑(paQ Md Cu inv (Nt (12 * inv + k)) 1 1000000)) (Lt (12 * inv + k)) 10000) := by simp only [tsS]; rw [if_neg c_36]
          refine SW.cast (Ps' := [tmO (xg x) o a (va_up z 2 (tsZ Md Cu Nt Lt inv (Bl inv) (Ln inv).toNat (z 2) (k + 1))), aN (xg x) 0 (a 0) 2400 D1_11, aN (xg x) 0 (a 1) 10 M1_12, aI (xg x) 2 (a 11) 4 Md, aI (xg x) 0 (a 21) 20 Cu, aI (xg x) 0 (a 22) 20 Ln, aI (xg x) 4 (a 23) 20 Bl, aL (xg x) (a 25) 240 Nt, aI (xg x) 0 (a 26) 240 Lt]) (L' := [(2, .long (jL (tsS Md Cu Nt Lt inv (Bl inv) (Ln inv).toNat (k + 1)))), (5, .int (jI (Lt ((12 * (inv)) + (k))))), (0, .ref o), (1, .int (jI (↑inv))), (4, .int (jI (↑k)))]) ?_ (by rw [ez]; simp only [up_upI]) (by rw [es]) rfl
          refine sw_loc [2, 3, 0, 4] (L2 := [(0, .ref o), (1, .int (jI (↑inv))), (2, .long (jL (tsS Md Cu Nt Lt inv (Bl inv) (Ln inv).toNat (k + 1)))), (4, .int (jI (↑k)))]) rfl ?_
          exact K181 D1_11 M1_12 (by first | assumption | (refine RV.mono ?_ (by simp); assumption))
  refine sw_loc [2, 3, 1, 0] (L2 := [(0, .ref o), (1, .int (jI (↑inv))), (2, .long (jL 0)), (4, .int (jI 0))]) rfl ?_
  show SW x _ _ _ _ [(0, .ref o), (1, .int (jI (↑inv))), (2, .long (jL (tsS Md Cu Nt Lt inv (Bl inv) (Ln inv).toNat 0))), (4, .int (jI 0))] _
  exact K5 _ D M 0 (by first | assumption | (exact RV.rf hA) | exact (RV.rf hA).mono (S := []) (by simp)) (by omega) (Nat.lt_succ_self _)
