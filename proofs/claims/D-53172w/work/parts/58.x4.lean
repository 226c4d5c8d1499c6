/-! COMPONENT 6: plans, the fewest presses -/
section C11
variable {l : Launch} {G : GG} {E : State → Prop} {sa : Nat → Nat} {ws wr : va_W}
variable {a b n n2 aS aI pN f1 f2 f3 f4 wN kN sN mN jN : Nat} {R F L M P : Nat → Int32} {z mk : Int32}
theorem hdv_X4_fewest : yX4_fewest.cls = RX4 ∧ yX4_fewest.cls ≠ "java/lang/invoke/MethodHandle" ∧ yX4_fewest.cls ≠ "java/lang/invoke/VarHandle" ∧ (parseMethodDescriptor yX4_fewest.desc).map (fun d => d.parameters.length) = some 2 := by decide +kernel
theorem c_X4_fewest (hE : EnvOK G E) (hJ : EnvJ G E sa) (hR : ROk R) (hW : StWd G sa wr aS R) (hPl : PlF R (nS R) F L) (hw : wN < nW R) : MU vI l G E yX4_fewest cX4_fewest 6 (some .int) 4 0 0 [.ref pN, .int (nI wN), .int mk] ([oC pN 4 [.ref aS, .ref f1, .ref f2, .ref f3, .ref f4, .int z], iC G f1 84 F, iC G f2 22 L, iC G f3 13 M, iC G f4 12 P] ++ wr) (fun r w => ∃ M', (∀ k, k ≤ wL R wN → M' k = nI (lf R wN mk k)) ∧ r = nI (pr R wN mk) ∧ w = [oC pN 4 [.ref aS, .ref f1, .ref f2, .ref f3, .ref f4, .int z], iC G f1 84 F, iC G f2 22 L, iC G f3 13 M', iC G f4 12 P] ++ wr) := by
  refine MUi hE (by decide) (Nat.le_of_ble_eq_true rfl) (fun pR eV sT mI below meth cd QQ ls X hH hl ret => ?_)
  obtain ⟨⟨hx, hb, hml, hown, hts⟩, ⟨hr, hlk⟩, -, -, -⟩ := id X
  have hJs := X.J hJ
  have hl : lv_has ls 6 [(0, .ref pN), (1, .int (nI wN)), (2, .int mk)] := hl
  refine wgen (H := sT.heap) (locs := []) hH (fun H locs hH => ?_)
  obtain ⟨aP, aW, aI, eW, mS, LW, SW⟩ := id (hW)
  obtain ⟨mcW, dW, oW, lW, -, -⟩ := id LW
  have hw7 := hR.w1
  have hM := hR.wl1 hw
  have hS := hR.s1
  obtain ⟨aST, mT, hsT⟩ := id (SW wN hw)
  obtain ⟨qT, fT, xT, zT, yT, -⟩ := id hsT
  refine lv_aload_n hx hb dX4_fewest_0 rfl (lv_at hl 0 rfl) ?_
  refine x_get X hH.1.1 in_X4 (mem_k 0 rfl) rfl 0 (by decide) q227 (fun _ h => h) rfl dX4_fewest_1 ?_
  refine x_getN X hH.1.1 in_X2 (mem_r mS) rfl 1 (by decide) (hJs.nw q181 rfl) (fun _ h => h) rfl dX4_fewest_4 ?_
  refine lv_iload_n hx hb dX4_fewest_7 rfl (lv_at hl 1 rfl) ?_
  refine x_RV (l_get hE (LW.mono (fun _ h => mem_r h)) hw) X hH.2 hH.1.1 (x_rc X hH.1.1 (mem_r (lW _ List.mem_cons_self)) rfl) (lw_V q956 q889 q890 q66 q891) hdv_J2_get ⟨Nat.le_of_ble_eq_true rfl, Nat.le_of_ble_eq_true rfl⟩ rfl hl.1 rfl (Nat.le_of_ble_eq_true rfl) ⟨(Nat.le_of_ble_eq_true rfl), (Nat.le_of_ble_eq_true rfl)⟩ dX4_fewest_8 ?_
  refine x_castS X hH.1.1 (mem_r mT) rfl q967 dX4_fewest_11 ?_
  refine x_getN X hH.1.1 in_X10 (mem_r mT) rfl 0 (by decide) (hJs.nw q816 rfl) (fun _ h => h) rfl dX4_fewest_14 ?_
  refine x_RV (s_len hE hJ (hsT.mono (fun _ h => mem_r h))) X hH.2 hH.1.1 (x_rc X hH.1.1 (mem_r yT) rfl) (lw_V q966 q654 q655 q83 q656) hdv_J12_length ⟨Nat.le_of_ble_eq_true rfl, Nat.le_of_ble_eq_true rfl⟩ rfl hl.1 rfl (Nat.le_of_ble_eq_true rfl) ⟨(Nat.le_of_ble_eq_true rfl), (Nat.le_of_ble_eq_true rfl)⟩ dX4_fewest_17 ?_
  refine lv_istore_n (lv' := [(3, .int (nI (wL R wN))), (0, .ref pN), (1, .int (nI wN)), (2, .int mk)]) hx hb dX4_fewest_20 rfl hl (by decide) rfl (fun ls hl => ?_)
  refine lv_aload_n hx hb dX4_fewest_21 rfl (lv_at hl 1 rfl) ?_
  refine x_get X hH.1.1 in_X4 (mem_k 0 rfl) rfl 3 (by decide) q230 (fun _ h => h) rfl dX4_fewest_22 ?_
  refine lv_iload_n hx hb dX4_fewest_25 rfl (lv_at hl 0 rfl) ?_
  refine lv_iconst (v := nI 0) hx hb dX4_fewest_26 (by decide) ?_
  refine x_iast X hH 3 rfl (by omega) (by decide) dX4_fewest_27 (fun g_1 H locs eg_1 hH => ?_)
  have hH : HH G sT ([oC pN 4 [.ref aS, .ref f1, .ref f2, .ref f3, .ref f4, .int z], iC G f1 84 F, iC G f2 22 L, iC G f3 13 g_1, iC G f4 12 P] ++ wr) H locs := hH
  refine lv_iload_n hx hb dX4_fewest_28 rfl (lv_at hl 0 rfl) ?_
  refine lv_iconst (v := nI 1) hx hb dX4_fewest_29 (by decide) ?_
  refine n_isub hx hb (by omega) dX4_fewest_30 ?_
  refine lv_istore (lv' := [(4, .int (nI ((wL R wN) - 1))), (3, .int (nI (wL R wN))), (0, .ref pN), (1, .int (nI wN)), (2, .int mk)]) hx hb dX4_fewest_31 hl (by decide) rfl (fun ls hl => ?_)
  have hl : lv_has ls 6 [(4, .int (nI (wL R wN) + (-1))), (3, .int (nI (wL R wN))), (0, .ref pN), (1, .int (nI wN)), (2, .int mk)] := by rw [← (show (nI ((wL R wN) - 1) : Int32) = nI (wL R wN) + (-1) from by obtain ⟨z, hz⟩ : ∃ z, wL R wN = z + 1 := ⟨wL R wN - 1, by omega⟩; rw [hz]; exact (pk_m1 z).symm)]; exact hl
  have lp : ∀ (fu : Nat) (jN : Nat) (Mv : Nat → Int32), (jN ≤ wL R wN) → (∀ k, jN ≤ k → k ≤ wL R wN → Mv k = nI (lf R wN mk k)) → jN < fu → ∀ (H : Heap) (locs : List Loc), HH G sT ([oC pN 4 [.ref aS, .ref f1, .ref f2, .ref f3, .ref f4, .int z], iC G f1 84 F, iC G f2 22 L, iC G f3 13 Mv, iC G f4 12 P] ++ wr) H locs → ∀ ls : Array Slot, lv_has ls 6 [(0, .ref pN), (1, .int (nI wN)), (2, .int mk), (3, .int (nI (wL R wN))), (4, .int (nI jN + (-1)))] → W pR l eV (Rm 4 0 0) sT mI ([.ref pN, .int (nI wN), .int mk] : List Value).toArray below meth cd H locs 0 0 QQ (F0 mI 33 ls []) := by
    intro fu
    induction fu with
    | zero => intro jN Mv hj hg hm; exact absurd hm (Nat.not_lt_zero _)
    | succ fu ih_lp =>
      intro jN Mv hj hg hm H locs hH ls hl
      rcases jN with _ | jN
      · refine lv_iload hx hb dX4_fewest_33 (lv_at hl 4 rfl) ?_
        refine lv_if_lt (tgt := 124) hx hb dX4_fewest_35 (by decide) (fun c1 => ?_) (fun c1 => absurd (by decide) c1)
        refine lv_aload_n hx hb dX4_fewest_124 rfl (lv_at hl 0 rfl) ?_
        refine x_get X hH.1.1 in_X4 (mem_k 0 rfl) rfl 3 (by decide) q230 (fun _ h => h) rfl dX4_fewest_125 ?_
        refine lv_iconst (v := nI 0) hx hb dX4_fewest_128 (by decide) ?_
        refine x_iald X hH.1.1 (mem_k 3 rfl) (by decide) (by decide) dX4_fewest_129 ?_
        exact ret _ _ _ _ _ _ _ _ hH (⟨Mv, fun k hk => hg k (Nat.zero_le _) hk, hg 0 (Nat.zero_le _) (Nat.zero_le _), rfl⟩) (Nat.le_of_ble_eq_true rfl) (Nat.le_of_ble_eq_true rfl) dX4_fewest_130
      · have hl : lv_has ls 6 [(0, .ref pN), (1, .int (nI wN)), (2, .int mk), (3, .int (nI (wL R wN))), (4, .int (nI jN))] := by rw [← (show (nI (jN + 1) + (-1) : Int32) = nI jN from pk_m1 jN)]; exact hl
        refine lv_iload hx hb dX4_fewest_33 (lv_at hl 4 rfl) ?_
        refine lv_if_lt (tgt := 124) hx hb dX4_fewest_35 (by decide) (fun c1 => absurd c1 (nI_pos (by omega))) (fun c1 => ?_)
        refine lv_aload_n hx hb dX4_fewest_38 rfl (lv_at hl 0 rfl) ?_
        refine x_get X hH.1.1 in_X4 (mem_k 0 rfl) rfl 3 (by decide) q230 (fun _ h => h) rfl dX4_fewest_39 ?_
        refine lv_iload hx hb dX4_fewest_42 (lv_at hl 4 rfl) ?_
        refine lv_bipush (v := nI 100) hx hb dX4_fewest_44 (by decide) ?_
        refine x_iast X hH 3 rfl (by omega) (by decide) dX4_fewest_46 (fun g_2 H locs eg_2 hH => ?_)
        have hH : HH G sT ([oC pN 4 [.ref aS, .ref f1, .ref f2, .ref f3, .ref f4, .int z], iC G f1 84 F, iC G f2 22 L, iC G f3 13 g_2, iC G f4 12 P] ++ wr) H locs := hH
        refine lv_iconst (v := nI 0) hx hb dX4_fewest_47 (by decide) ?_
        refine lv_istore (lv' := [(5, .int (nI 0)), (0, .ref pN), (1, .int (nI wN)), (2, .int mk), (3, .int (nI (wL R wN))), (4, .int (nI jN))]) hx hb dX4_fewest_48 hl (by decide) rfl (fun ls hl => ?_)
        have lq : ∀ (fu : Nat) (qN : Nat) (Mu : Nat → Int32), (qN ≤ 22) → (∀ k, jN < k → k ≤ wL R wN → Mu k = nI (lf R wN mk k)) → (Mu jN = nI (bsp R wN mk (lf R wN mk) jN qN)) → 22 - qN < fu → ∀ (H : Heap) (locs : List Loc), HH G sT ([oC pN 4 [.ref aS, .ref f1, .ref f2, .ref f3, .ref f4, .int z], iC G f1 84 F, iC G f2 22 L, iC G f3 13 Mu, iC G f4 12 P] ++ wr) H locs → ∀ ls : Array Slot, lv_has ls 6 [(0, .ref pN), (1, .int (nI wN)), (2, .int mk), (3, .int (nI (wL R wN))), (4, .int (nI jN)), (5, .int (nI qN))] → W pR l eV (Rm 4 0 0) sT mI ([.ref pN, .int (nI wN), .int mk] : List Value).toArray below meth cd H locs 0 0 QQ (F0 mI 50 ls []) := by
          intro fu
          induction fu with
          | zero => intro qN Mu hq hgu hbb hm; exact absurd hm (Nat.not_lt_zero _)
          | succ fu ih_lq =>
            intro qN Mu hq hgu hbb hm H locs hH ls hl
            refine lv_iload hx hb dX4_fewest_50 (lv_at hl 5 rfl) ?_
            refine lv_aload_n hx hb dX4_fewest_52 rfl (lv_at hl 0 rfl) ?_
            refine x_get X hH.1.1 in_X4 (mem_k 0 rfl) rfl 2 (by decide) q229 (fun _ h => h) rfl dX4_fewest_53 ?_
            refine x_alen X hH.1.1 (mem_k 2 rfl) (t0 := 0) rfl dX4_fewest_56 ?_
            refine n_icmp_ge (tgt := 118) hx hb (by omega) (by omega) dX4_fewest_57 (by decide) (fun c2 => ?_) (fun c2 => ?_)
            · refine lv_iinc (v := (nI jN) + (-1)) (lv' := [(4, .int ((nI jN) + (-1))), (0, .ref pN), (1, .int (nI wN)), (2, .int mk), (3, .int (nI (wL R wN))), (5, .int (nI qN))]) hx hb dX4_fewest_118 hl (k := 4) rfl rfl (by decide) rfl (fun ls hl => ?_)
              refine lv_goto (tgt := 33) hx hb dX4_fewest_121 (by decide) ?_
              have hl : lv_has ls 6 [(4, .int (nI jN + (-1))), (0, .ref pN), (1, .int (nI wN)), (2, .int mk), (3, .int (nI (wL R wN))), (5, .int (nI qN))] := by rw [← (show ((nI jN) + (-1) : Int32) = nI jN + (-1) from rfl)]; exact hl
              exact ih_lp jN Mu  (by omega) (fun k h1 h2 => by rcases Nat.eq_or_lt_of_le h1 with q | q; exact (by rw [← q, hbb, show qN = 22 by omega, bsp_end hS, ← lf_eq hR (by omega)]); exact hgu k q h2) (by omega) _ _ hH ls (lv_sub hl [1, 2, 3, 4, 0] rfl)
            · refine lv_aload_n hx hb dX4_fewest_60 rfl (lv_at hl 0 rfl) ?_
              refine lv_iload_n hx hb dX4_fewest_61 rfl (lv_at hl 1 rfl) ?_
              refine lv_iload hx hb dX4_fewest_62 (lv_at hl 4 rfl) ?_
              refine lv_iload hx hb dX4_fewest_64 (lv_at hl 5 rfl) ?_
              refine lv_iload_n hx hb dX4_fewest_66 rfl (lv_at hl 2 rfl) ?_
              refine x_RV (c_X4_mayPress hE (mem_k 0 rfl) (mem_k 1 rfl) (by omega) (by omega) (by omega)) X hH.2 hH.1.1 (x_rc X hH.1.1 (mem_k 0 rfl) rfl) (lw_V q1102 q1104 qs13 q70 q1105) hdv_X4_mayPress ⟨Nat.le_of_ble_eq_true rfl, Nat.le_of_ble_eq_true rfl⟩ rfl hl.1 rfl (Nat.le_of_ble_eq_true rfl) ⟨(Nat.le_of_ble_eq_true rfl), (Nat.le_of_ble_eq_true rfl)⟩ dX4_fewest_67 ?_
              refine n_top (y := bI (bitB mk (qN / 2) && pB R (nS R) wN jN qN)) (by rw [hPl.1 wN hw jN (by omega) qN (by omega)]) ?_
              refine b_if_eq (tgt := 112) hx hb dX4_fewest_70 (by decide) (fun c3 => ?_) (fun c3 => ?_)
              · refine lv_iinc (v := nI (qN + 1)) (lv' := [(5, .int (nI (qN + 1))), (0, .ref pN), (1, .int (nI wN)), (2, .int mk), (3, .int (nI (wL R wN))), (4, .int (nI jN))]) hx hb dX4_fewest_112 hl (k := 5) rfl (nI_add _ 1) (by decide) rfl (fun ls hl => ?_)
                refine lv_goto (tgt := 50) hx hb dX4_fewest_115 (by decide) ?_
                exact ih_lq (qN + 1) Mu  (by omega) (hgu) (by rw [hbb]; show _ = nI (if _ then _ else _); rw [c3, if_neg Bool.false_ne_true]) (by omega) _ _ hH ls (lv_sub hl [1, 2, 3, 4, 5, 0] rfl)
              · have c4 := c3
                rw [Bool.and_eq_true] at c4
                obtain ⟨hq1, hq2⟩ := pB_fit c4.2
                have hl5 := hR.sl1 hq1
                have hB1 := lf_le (R := R) (w := wN) (m := mk) (k := jN + sL R (qN / 2))
                have hB2 := bsp_le (R := R) (w := wN) (m := mk) (L := lf R wN mk) (f := jN) qN
                refine lv_aload_n hx hb dX4_fewest_73 rfl (lv_at hl 0 rfl) ?_
                refine x_get X hH.1.1 in_X4 (mem_k 0 rfl) rfl 3 (by decide) q230 (fun _ h => h) rfl dX4_fewest_74 ?_
                refine lv_iload hx hb dX4_fewest_77 (lv_at hl 4 rfl) ?_
                refine lv_aload_n hx hb dX4_fewest_79 rfl (lv_at hl 0 rfl) ?_
                refine x_get X hH.1.1 in_X4 (mem_k 0 rfl) rfl 3 (by decide) q230 (fun _ h => h) rfl dX4_fewest_80 ?_
                refine lv_iload hx hb dX4_fewest_83 (lv_at hl 4 rfl) ?_
                refine x_iald X hH.1.1 (mem_k 3 rfl) (by omega) (by decide) dX4_fewest_85 ?_
                refine n_top (y := nI (bsp R wN mk (lf R wN mk) jN qN)) (hbb) ?_
                refine lv_bipush (v := nI 100) hx hb dX4_fewest_86 (by decide) ?_
                refine lv_aload_n hx hb dX4_fewest_88 rfl (lv_at hl 0 rfl) ?_
                refine x_get X hH.1.1 in_X4 (mem_k 0 rfl) rfl 3 (by decide) q230 (fun _ h => h) rfl dX4_fewest_89 ?_
                refine lv_iload hx hb dX4_fewest_92 (lv_at hl 4 rfl) ?_
                refine lv_aload_n hx hb dX4_fewest_94 rfl (lv_at hl 0 rfl) ?_
                refine x_get X hH.1.1 in_X4 (mem_k 0 rfl) rfl 2 (by decide) q229 (fun _ h => h) rfl dX4_fewest_95 ?_
                refine lv_iload hx hb dX4_fewest_98 (lv_at hl 5 rfl) ?_
                refine x_iald X hH.1.1 (mem_k 2 rfl) (by omega) (by decide) dX4_fewest_100 ?_
                refine n_top (y := nI (sL R (qN / 2))) (hPl.len c4.2) ?_
                refine n_iadd hx hb dX4_fewest_101 ?_
                refine x_iald X hH.1.1 (mem_k 3 rfl) (by omega) (by decide) dX4_fewest_102 ?_
                refine n_top (y := nI (lf R wN mk (jN + sL R (qN / 2)))) (hgu _ (by omega) (by omega)) ?_
                refine lv_iconst (v := nI 1) hx hb dX4_fewest_103 (by decide) ?_
                refine n_iadd hx hb dX4_fewest_104 ?_
                refine x_min X hl.1 q1106 q504 q86 q505 (Nat.le_of_ble_eq_true rfl) (Nat.le_of_ble_eq_true rfl) ⟨(Nat.le_of_ble_eq_true rfl), (Nat.le_of_ble_eq_true rfl)⟩ dX4_fewest_105 ?_
                refine n_top (y := nI (min 100 (lf R wN mk (jN + sL R (qN / 2)) + 1))) (min_nI (by decide) (by omega)) ?_
                refine x_min X hl.1 q1106 q504 q86 q505 (Nat.le_of_ble_eq_true rfl) (Nat.le_of_ble_eq_true rfl) ⟨(Nat.le_of_ble_eq_true rfl), (Nat.le_of_ble_eq_true rfl)⟩ dX4_fewest_108 ?_
                refine n_top (y := nI (min (bsp R wN mk (lf R wN mk) jN qN) (min 100 (lf R wN mk (jN + sL R (qN / 2)) + 1)))) (min_nI (by omega) (by omega)) ?_
                refine x_iast X hH 3 rfl (by omega) (by decide) dX4_fewest_111 (fun g_3 H locs eg_3 hH => ?_)
                have hH : HH G sT ([oC pN 4 [.ref aS, .ref f1, .ref f2, .ref f3, .ref f4, .int z], iC G f1 84 F, iC G f2 22 L, iC G f3 13 g_3, iC G f4 12 P] ++ wr) H locs := hH
                refine lv_iinc (v := nI (qN + 1)) (lv' := [(5, .int (nI (qN + 1))), (0, .ref pN), (1, .int (nI wN)), (2, .int mk), (3, .int (nI (wL R wN))), (4, .int (nI jN))]) hx hb dX4_fewest_112 hl (k := 5) rfl (nI_add _ 1) (by decide) rfl (fun ls hl => ?_)
                refine lv_goto (tgt := 50) hx hb dX4_fewest_115 (by decide) ?_
                exact ih_lq (qN + 1) g_3  (by omega) (fun k h1 h2 => by rw [eg_3, pk_un (by omega)]; exact hgu k h1 h2) (by rw [eg_3, pk_us]; show _ = nI (if _ then _ else _); rw [c3, if_pos rfl]) (by omega) _ _ hH ls (lv_sub hl [1, 2, 3, 4, 5, 0] rfl)
        exact lq _ 0 g_2  (by omega) (fun k h1 h2 => by rw [eg_2, pk_un (by omega)]; exact hg k (by omega) h2) (by rw [eg_2, pk_us]; rfl) (Nat.lt_succ_self _) _ _ hH ls (lv_sub hl [1, 2, 3, 4, 5, 0] rfl)
  exact lp _ (wL R wN) g_1  (Nat.le_refl _) (fun k h1 h2 => by rw [show k = wL R wN by omega, eg_1, pk_us, lf_end (Nat.le_refl _)]) (Nat.lt_succ_self _) _ _ hH ls (lv_sub hl [2, 3, 4, 1, 0] rfl)
theorem hdv_X4_sum : yX4_sum.cls = RX4 ∧ yX4_sum.cls ≠ "java/lang/invoke/MethodHandle" ∧ yX4_sum.cls ≠ "java/lang/invoke/VarHandle" ∧ (parseMethodDescriptor yX4_sum.desc).map (fun d => d.parameters.length) = some 1 := by decide +kernel
theorem c_X4_sum (hE : EnvOK G E) (hJ : EnvJ G E sa) (hR : ROk R) (hW : StWd G sa wr aS R) (hPl : PlF R (nS R) F L) : MU vI l G E yX4_sum cX4_sum 4 (some .int) 5 0 0 [.ref pN, .int mk] ([oC pN 4 [.ref aS, .ref f1, .ref f2, .ref f3, .ref f4, .int z], iC G f1 84 F, iC G f2 22 L, iC G f3 13 M, iC G f4 12 P] ++ wr) (fun r w => ∃ M', r = nI (apN R mk (nW R)) ∧ w = [oC pN 4 [.ref aS, .ref f1, .ref f2, .ref f3, .ref f4, .int z], iC G f1 84 F, iC G f2 22 L, iC G f3 13 M', iC G f4 12 P] ++ wr) := by
  refine MUi hE (by decide) (Nat.le_of_ble_eq_true rfl) (fun pR eV sT mI below meth cd QQ ls X hH hl ret => ?_)
  obtain ⟨⟨hx, hb, hml, hown, hts⟩, ⟨hr, hlk⟩, -, -, -⟩ := id X
  have hJs := X.J hJ
  have hl : lv_has ls 4 [(0, .ref pN), (1, .int mk)] := hl
  refine wgen (H := sT.heap) (locs := []) hH (fun H locs hH => ?_)
  obtain ⟨aP, aW, aI, eW, mS, LW, SW⟩ := id (hW)
  obtain ⟨mcW, dW, oW, lW, -, -⟩ := id LW
  have hw7 := hR.w1
  refine lv_iconst (v := nI 0) hx hb dX4_sum_0 (by decide) ?_
  refine lv_istore_n (lv' := [(2, .int (nI 0)), (0, .ref pN), (1, .int mk)]) hx hb dX4_sum_1 rfl hl (by decide) rfl (fun ls hl => ?_)
  refine lv_iconst (v := nI 0) hx hb dX4_sum_2 (by decide) ?_
  refine lv_istore_n (lv' := [(3, .int (nI 0)), (2, .int (nI 0)), (0, .ref pN), (1, .int mk)]) hx hb dX4_sum_3 rfl hl (by decide) rfl (fun ls hl => ?_)
  have hl : lv_has ls 4 [(3, .int (nI 0)), (2, .int (nI (apN R mk 0))), (0, .ref pN), (1, .int mk)] := by rw [← (show (nI 0 : Int32) = nI (apN R mk 0) from rfl)]; exact hl
  have lp : ∀ (fu : Nat) (kN : Nat) (Mv : Nat → Int32), (kN ≤ nW R) → nW R - kN < fu → ∀ (H : Heap) (locs : List Loc), HH G sT ([oC pN 4 [.ref aS, .ref f1, .ref f2, .ref f3, .ref f4, .int z], iC G f1 84 F, iC G f2 22 L, iC G f3 13 Mv, iC G f4 12 P] ++ wr) H locs → ∀ ls : Array Slot, lv_has ls 4 [(0, .ref pN), (1, .int mk), (2, .int (nI (apN R mk kN))), (3, .int (nI kN))] → W pR l eV (Rm 5 0 0) sT mI ([.ref pN, .int mk] : List Value).toArray below meth cd H locs 0 0 QQ (F0 mI 4 ls []) := by
    intro fu
    induction fu with
    | zero => intro kN Mv hk hm; exact absurd hm (Nat.not_lt_zero _)
    | succ fu ih_lp =>
      intro kN Mv hk hm H locs hH ls hl
      refine lv_iload_n hx hb dX4_sum_4 rfl (lv_at hl 3 rfl) ?_
      refine lv_aload_n hx hb dX4_sum_5 rfl (lv_at hl 0 rfl) ?_
      refine x_get X hH.1.1 in_X4 (mem_k 0 rfl) rfl 0 (by decide) q227 (fun _ h => h) rfl dX4_sum_6 ?_
      refine x_getN X hH.1.1 in_X2 (mem_r mS) rfl 1 (by decide) (hJs.nw q181 rfl) (fun _ h => h) rfl dX4_sum_9 ?_
      refine x_RV (l_size hE (LW.mono (fun _ h => mem_r h))) X hH.2 hH.1.1 (x_rc X hH.1.1 (mem_r (lW _ List.mem_cons_self)) rfl) (lw_V q955 q349 q350 q66 q351) hdv_J2_size ⟨Nat.le_of_ble_eq_true rfl, Nat.le_of_ble_eq_true rfl⟩ rfl hl.1 rfl (Nat.le_of_ble_eq_true rfl) ⟨(Nat.le_of_ble_eq_true rfl), (Nat.le_of_ble_eq_true rfl)⟩ dX4_sum_12 ?_
      refine n_icmp_ge (tgt := 33) hx hb (by omega) (by omega) dX4_sum_15 (by decide) (fun c1 => ?_) (fun c1 => ?_)
      · refine lv_iload_n hx hb dX4_sum_33 rfl (lv_at hl 2 rfl) ?_
        exact ret _ _ _ _ _ _ _ _ hH (⟨Mv, by rw [show kN = nW R by omega], rfl⟩) (Nat.le_of_ble_eq_true rfl) (Nat.le_of_ble_eq_true rfl) dX4_sum_34
      · refine lv_iload_n hx hb dX4_sum_18 rfl (lv_at hl 2 rfl) ?_
        refine lv_aload_n hx hb dX4_sum_19 rfl (lv_at hl 0 rfl) ?_
        refine lv_iload_n hx hb dX4_sum_20 rfl (lv_at hl 3 rfl) ?_
        refine lv_iload_n hx hb dX4_sum_21 rfl (lv_at hl 1 rfl) ?_
        refine x_MVi (c_X4_fewest hE hJ hR hW hPl c1) X hH (x_rc X hH.1.1 (mem_k 0 rfl) rfl) (lw_V q1098 q1099 q1100 q70 q1101) hdv_X4_fewest ⟨Nat.le_of_ble_eq_true rfl, Nat.le_of_ble_eq_true rfl⟩ rfl hl.1 rfl (Nat.le_of_ble_eq_true rfl) ⟨(Nat.le_of_ble_eq_true rfl), (Nat.le_of_ble_eq_true rfl)⟩ dX4_sum_22 (fun r w H locs hq hH => ?_)
        obtain ⟨M_1, -, rfl, rfl⟩ := hq
        have hH : HH G sT ([oC pN 4 [.ref aS, .ref f1, .ref f2, .ref f3, .ref f4, .int z], iC G f1 84 F, iC G f2 22 L, iC G f3 13 M_1, iC G f4 12 P] ++ wr) H locs := hH
        refine n_iadd hx hb dX4_sum_25 ?_
        refine n_top (y := nI (apN R mk (kN + 1))) (rfl) ?_
        refine lv_istore_n (lv' := [(2, .int (nI (apN R mk (kN + 1)))), (0, .ref pN), (1, .int mk), (3, .int (nI kN))]) hx hb dX4_sum_26 rfl hl (by decide) rfl (fun ls hl => ?_)
        refine lv_iinc (v := nI (kN + 1)) (lv' := [(3, .int (nI (kN + 1))), (2, .int (nI (apN R mk (kN + 1)))), (0, .ref pN), (1, .int mk)]) hx hb dX4_sum_27 hl (k := 3) rfl (nI_add _ 1) (by decide) rfl (fun ls hl => ?_)
        refine lv_goto (tgt := 4) hx hb dX4_sum_30 (by decide) ?_
        exact ih_lp (kN + 1) M_1  (by omega) (by omega) _ _ hH ls (lv_sub hl [2, 3, 1, 0] rfl)
  exact lp _ 0 M  (Nat.zero_le _) (Nat.lt_succ_self _) _ _ hH ls (lv_sub hl [2, 3, 1, 0] rfl)
end C11
