/-! COMPONENT 7: plans laid -/
section C12
variable {l : Launch} {G : GG} {E : State → Prop} {sa : Nat → Nat} {ws wr : va_W}
variable {a b n n2 aS aI pN f1 f2 f3 f4 wN kN sN mN jN : Nat} {R F L M P : Nat → Int32} {z mk : Int32}
theorem hdv_X4_hasAll : yX4_hasAll.cls = RX4 ∧ yX4_hasAll.cls ≠ "java/lang/invoke/MethodHandle" ∧ yX4_hasAll.cls ≠ "java/lang/invoke/VarHandle" ∧ (parseMethodDescriptor yX4_hasAll.desc).map (fun d => d.parameters.length) = some 1 := by decide +kernel
theorem c_X4_hasAll (hE : EnvOK G E) (hJ : EnvJ G E sa) (hR : ROk R) (hW : StWd G sa wr aS R) (hPl : PlF R (nS R) F L) : MU vI l G E yX4_hasAll cX4_hasAll 4 (some .boolean) 5 0 0 [.ref pN, .int mk] ([oC pN 4 [.ref aS, .ref f1, .ref f2, .ref f3, .ref f4, .int z], iC G f1 84 F, iC G f2 22 L, iC G f3 13 M, iC G f4 12 P] ++ wr) (fun r w => ∃ M', r = bI (allW R mk (nW R)) ∧ w = [oC pN 4 [.ref aS, .ref f1, .ref f2, .ref f3, .ref f4, .int z], iC G f1 84 F, iC G f2 22 L, iC G f3 13 M', iC G f4 12 P] ++ wr) := by
  refine MUz hE (by decide) (Nat.le_of_ble_eq_true rfl) (fun pR eV sT mI below meth cd QQ ls X hH hl ret => ?_)
  obtain ⟨⟨hx, hb, hml, hown, hts⟩, ⟨hr, hlk⟩, -, -, -⟩ := id X
  have hJs := X.J hJ
  have hl : lv_has ls 4 [(0, .ref pN), (1, .int mk)] := hl
  refine wgen (H := sT.heap) (locs := []) hH (fun H locs hH => ?_)
  obtain ⟨aP, aW, aI, eW, mS, LW, SW⟩ := id (hW)
  obtain ⟨mcW, dW, oW, lW, -, -⟩ := id LW
  have hw7 := hR.w1
  refine lv_iconst (v := nI 1) hx hb dX4_hasAll_0 (by decide) ?_
  refine lv_istore_n (lv' := [(2, .int (nI 1)), (0, .ref pN), (1, .int mk)]) hx hb dX4_hasAll_1 rfl hl (by decide) rfl (fun ls hl => ?_)
  refine lv_iconst (v := nI 0) hx hb dX4_hasAll_2 (by decide) ?_
  refine lv_istore_n (lv' := [(3, .int (nI 0)), (2, .int (nI 1)), (0, .ref pN), (1, .int mk)]) hx hb dX4_hasAll_3 rfl hl (by decide) rfl (fun ls hl => ?_)
  have hl : lv_has ls 4 [(3, .int (nI 0)), (2, .int (bI (allB 0 (fun w => decide (pr R w mk ≠ 100))))), (0, .ref pN), (1, .int mk)] := by rw [← (show (nI 1 : Int32) = bI (allB 0 (fun w => decide (pr R w mk ≠ 100))) from rfl)]; exact hl
  have lp : ∀ (fu : Nat) (kN : Nat) (Mv : Nat → Int32), (kN ≤ nW R) → nW R - kN < fu → ∀ (H : Heap) (locs : List Loc), HH G sT ([oC pN 4 [.ref aS, .ref f1, .ref f2, .ref f3, .ref f4, .int z], iC G f1 84 F, iC G f2 22 L, iC G f3 13 Mv, iC G f4 12 P] ++ wr) H locs → ∀ ls : Array Slot, lv_has ls 4 [(0, .ref pN), (1, .int mk), (2, .int (bI (allB kN (fun w => decide (pr R w mk ≠ 100))))), (3, .int (nI kN))] → W pR l eV (Rm 5 0 0) sT mI ([.ref pN, .int mk] : List Value).toArray below meth cd H locs 0 0 QQ (F0 mI 4 ls []) := by
    intro fu
    induction fu with
    | zero => intro kN Mv hk hm; exact absurd hm (Nat.not_lt_zero _)
    | succ fu ih_lp =>
      intro kN Mv hk hm H locs hH ls hl
      refine lv_iload_n hx hb dX4_hasAll_4 rfl (lv_at hl 3 rfl) ?_
      refine lv_aload_n hx hb dX4_hasAll_5 rfl (lv_at hl 0 rfl) ?_
      refine x_get X hH.1.1 in_X4 (mem_k 0 rfl) rfl 0 (by decide) q227 (fun _ h => h) rfl dX4_hasAll_6 ?_
      refine x_getN X hH.1.1 in_X2 (mem_r mS) rfl 1 (by decide) (hJs.nw q181 rfl) (fun _ h => h) rfl dX4_hasAll_9 ?_
      refine x_RV (l_size hE (LW.mono (fun _ h => mem_r h))) X hH.2 hH.1.1 (x_rc X hH.1.1 (mem_r (lW _ List.mem_cons_self)) rfl) (lw_V q955 q349 q350 q66 q351) hdv_J2_size ⟨Nat.le_of_ble_eq_true rfl, Nat.le_of_ble_eq_true rfl⟩ rfl hl.1 rfl (Nat.le_of_ble_eq_true rfl) ⟨(Nat.le_of_ble_eq_true rfl), (Nat.le_of_ble_eq_true rfl)⟩ dX4_hasAll_12 ?_
      refine n_icmp_ge (tgt := 45) hx hb (by omega) (by omega) dX4_hasAll_15 (by decide) (fun c1 => ?_) (fun c1 => ?_)
      · refine lv_iload_n hx hb dX4_hasAll_45 rfl (lv_at hl 2 rfl) ?_
        exact ret _ _ _ _ _ _ _ _ hH (⟨Mv, by unfold allW; rw [show kN = nW R by omega], rfl⟩) (bI_nar _) (Nat.le_of_ble_eq_true rfl) (Nat.le_of_ble_eq_true rfl) dX4_hasAll_46
      · refine lv_iload_n hx hb dX4_hasAll_18 rfl (lv_at hl 2 rfl) ?_
        refine b_if_eq (tgt := 45) hx hb dX4_hasAll_19 (by decide) (fun c2 => ?_) (fun c2 => ?_)
        · refine lv_iload_n hx hb dX4_hasAll_45 rfl (lv_at hl 2 rfl) ?_
          exact ret _ _ _ _ _ _ _ _ hH (⟨Mv, by rw [c2]; unfold allW; rw [allB_le (by omega) c2], rfl⟩) (bI_nar _) (Nat.le_of_ble_eq_true rfl) (Nat.le_of_ble_eq_true rfl) dX4_hasAll_46
        · refine lv_aload_n hx hb dX4_hasAll_22 rfl (lv_at hl 0 rfl) ?_
          refine lv_iload_n hx hb dX4_hasAll_23 rfl (lv_at hl 3 rfl) ?_
          refine lv_iload_n hx hb dX4_hasAll_24 rfl (lv_at hl 1 rfl) ?_
          have hle : pr R kN mk ≤ 100 := lf_le
          refine x_MVi (c_X4_fewest hE hJ hR hW hPl c1) X hH (x_rc X hH.1.1 (mem_k 0 rfl) rfl) (lw_V q1098 q1099 q1100 q70 q1101) hdv_X4_fewest ⟨Nat.le_of_ble_eq_true rfl, Nat.le_of_ble_eq_true rfl⟩ rfl hl.1 rfl (Nat.le_of_ble_eq_true rfl) ⟨(Nat.le_of_ble_eq_true rfl), (Nat.le_of_ble_eq_true rfl)⟩ dX4_hasAll_25 (fun r w H locs hq hH => ?_)
          obtain ⟨M_1, -, rfl, rfl⟩ := hq
          have hH : HH G sT ([oC pN 4 [.ref aS, .ref f1, .ref f2, .ref f3, .ref f4, .int z], iC G f1 84 F, iC G f2 22 L, iC G f3 13 M_1, iC G f4 12 P] ++ wr) H locs := hH
          refine lv_bipush (v := nI 100) hx hb dX4_hasAll_28 (by decide) ?_
          refine n_icmp_ge (tgt := 37) hx hb (by omega) (by omega) dX4_hasAll_30 (by decide) (fun c3 => ?_) (fun c3 => ?_)
          · refine lv_iconst (v := nI 0) hx hb dX4_hasAll_37 (by decide) ?_
            refine n_top (y := bI (allB (kN + 1) (fun w => decide (pr R w mk ≠ 100)))) (bI_f (by simp only [allB, show pr R kN mk = 100 by omega, ne_eq, not_true_eq_false, decide_false, Bool.and_false])) ?_
            refine lv_istore_n (lv' := [(2, .int (bI (allB (kN + 1) (fun w => decide (pr R w mk ≠ 100))))), (0, .ref pN), (1, .int mk), (3, .int (nI kN))]) hx hb dX4_hasAll_38 rfl hl (by decide) rfl (fun ls hl => ?_)
            refine lv_iinc (v := nI (kN + 1)) (lv' := [(3, .int (nI (kN + 1))), (2, .int (bI (allB (kN + 1) (fun w => decide (pr R w mk ≠ 100))))), (0, .ref pN), (1, .int mk)]) hx hb dX4_hasAll_39 hl (k := 3) rfl (nI_add _ 1) (by decide) rfl (fun ls hl => ?_)
            refine lv_goto (tgt := 4) hx hb dX4_hasAll_42 (by decide) ?_
            exact ih_lp (kN + 1) M_1  (by omega) (by omega) _ _ hH ls (lv_sub hl [2, 3, 1, 0] rfl)
          · refine lv_iconst (v := nI 1) hx hb dX4_hasAll_33 (by decide) ?_
            refine lv_goto (tgt := 38) hx hb dX4_hasAll_34 (by decide) ?_
            refine n_top (y := bI (allB (kN + 1) (fun w => decide (pr R w mk ≠ 100)))) (bI_t (by simp only [allB, c2, Bool.true_and, decide_eq_true_eq]; omega)) ?_
            refine lv_istore_n (lv' := [(2, .int (bI (allB (kN + 1) (fun w => decide (pr R w mk ≠ 100))))), (0, .ref pN), (1, .int mk), (3, .int (nI kN))]) hx hb dX4_hasAll_38 rfl hl (by decide) rfl (fun ls hl => ?_)
            refine lv_iinc (v := nI (kN + 1)) (lv' := [(3, .int (nI (kN + 1))), (2, .int (bI (allB (kN + 1) (fun w => decide (pr R w mk ≠ 100))))), (0, .ref pN), (1, .int mk)]) hx hb dX4_hasAll_39 hl (k := 3) rfl (nI_add _ 1) (by decide) rfl (fun ls hl => ?_)
            refine lv_goto (tgt := 4) hx hb dX4_hasAll_42 (by decide) ?_
            exact ih_lp (kN + 1) M_1  (by omega) (by omega) _ _ hH ls (lv_sub hl [2, 3, 1, 0] rfl)
  exact lp _ 0 M  (Nat.zero_le _) (Nat.lt_succ_self _) _ _ hH ls (lv_sub hl [2, 3, 1, 0] rfl)
theorem okP_pB {w f q : Nat} (hq : q / 2 < nS R) : okP R w mk f q = (bitB mk (q / 2) && pB R (nS R) w f q && decide (lf R w mk (f + sL R (q / 2)) + 1 = lf R w mk f)) := by
  unfold okP pB fitB
  rw [decide_eq_true hq]
  cases bitB mk (q / 2) <;> cases decide (f + sL R (q / 2) ≤ wL R w) <;> cases decide (lf R w mk (f + sL R (q / 2)) + 1 = lf R w mk f) <;> cases (!decide (q % 2 = 1) || cntB R (q / 2)) <;> simp
theorem hdv_X4_lay : yX4_lay.cls = RX4 ∧ yX4_lay.cls ≠ "java/lang/invoke/MethodHandle" ∧ yX4_lay.cls ≠ "java/lang/invoke/VarHandle" ∧ (parseMethodDescriptor yX4_lay.desc).map (fun d => d.parameters.length) = some 2 := by decide +kernel
theorem c_X4_lay (hE : EnvOK G E) (hJ : EnvJ G E sa) (hR : ROk R) (hW : StWd G sa wr aS R) (hPl : PlF R (nS R) F L) (hw : wN < nW R) : MU vI l G E yX4_lay cX4_lay 6 (some .boolean) 5 0 0 [.ref pN, .int (nI wN), .int mk] ([oC pN 4 [.ref aS, .ref f1, .ref f2, .ref f3, .ref f4, .int z], iC G f1 84 F, iC G f2 22 L, iC G f3 13 M, iC G f4 12 P] ++ wr) (fun r w => ∃ M' P', (∀ x, x < pmN R wN mk → P' x = nI (plP R wN mk x)) ∧ r = bI (decide (pr R wN mk ≠ 100)) ∧ w = [oC pN 4 [.ref aS, .ref f1, .ref f2, .ref f3, .ref f4, .int (nI (pmN R wN mk))], iC G f1 84 F, iC G f2 22 L, iC G f3 13 M', iC G f4 12 P'] ++ wr) := by
  refine MUz hE (by decide) (Nat.le_of_ble_eq_true rfl) (fun pR eV sT mI below meth cd QQ ls X hH hl ret => ?_)
  obtain ⟨⟨hx, hb, hml, hown, hts⟩, ⟨hr, hlk⟩, -, -, -⟩ := id X
  have hJs := X.J hJ
  have hl : lv_has ls 6 [(0, .ref pN), (1, .int (nI wN)), (2, .int mk)] := hl
  refine wgen (H := sT.heap) (locs := []) hH (fun H locs hH => ?_)
  obtain ⟨aP, aW, aI, eW, mS, LW, SW⟩ := id (hW)
  obtain ⟨mcW, dW, oW, lW, -, -⟩ := id LW
  have hw7 := hR.w1
  have hM := hR.wl1 hw
  have hS := hR.s1
  obtain ⟨aST, mT, hsT⟩ := id (SW wN hw)
  obtain ⟨qT, fT, xT, zT, yT, -⟩ := id hsT
  have hle : pr R wN mk ≤ 100 := lf_le
  refine lv_aload_n hx hb dX4_lay_0 rfl (lv_at hl 0 rfl) ?_
  refine lv_iconst (v := nI 0) hx hb dX4_lay_1 (by decide) ?_
  refine x_put X hH in_X4 tyX4 tyX4_ok nmX4 0 rfl rfl 5 (by decide) q233 (fun _ h => h) rfl (ty := .int) (by decide +kernel) rfl rfl (Nat.le_of_ble_eq_true rfl) dX4_lay_2 (fun H locs hH => ?_)
  have hH : HH G sT ([oC pN 4 [.ref aS, .ref f1, .ref f2, .ref f3, .ref f4, .int (nI 0)], iC G f1 84 F, iC G f2 22 L, iC G f3 13 M, iC G f4 12 P] ++ wr) H locs := hH
  refine lv_aload_n hx hb dX4_lay_5 rfl (lv_at hl 0 rfl) ?_
  refine lv_iload_n hx hb dX4_lay_6 rfl (lv_at hl 1 rfl) ?_
  refine lv_iload_n hx hb dX4_lay_7 rfl (lv_at hl 2 rfl) ?_
  refine x_MVi (c_X4_fewest hE hJ hR hW hPl hw) X hH (x_rc X hH.1.1 (mem_k 0 rfl) rfl) (lw_V q1098 q1099 q1100 q70 q1101) hdv_X4_fewest ⟨Nat.le_of_ble_eq_true rfl, Nat.le_of_ble_eq_true rfl⟩ rfl hl.1 rfl (Nat.le_of_ble_eq_true rfl) ⟨(Nat.le_of_ble_eq_true rfl), (Nat.le_of_ble_eq_true rfl)⟩ dX4_lay_8 (fun r w H locs hq hH => ?_)
  obtain ⟨M', hM', rfl, rfl⟩ := hq
  have hH : HH G sT ([oC pN 4 [.ref aS, .ref f1, .ref f2, .ref f3, .ref f4, .int (nI 0)], iC G f1 84 F, iC G f2 22 L, iC G f3 13 M', iC G f4 12 P] ++ wr) H locs := hH
  refine lv_bipush (v := nI 100) hx hb dX4_lay_11 (by decide) ?_
  refine n_icmp_ne (tgt := 18) hx hb (by omega) (by omega) dX4_lay_13 (by decide) (fun c1 => ?_) (fun c1 => ?_)
  · have hpm : pmN R wN mk = pr R wN mk := by unfold pmN; rw [if_neg c1]
    have hpl := pr_le hR c1
    refine lv_aload_n hx hb dX4_lay_18 rfl (lv_at hl 0 rfl) ?_
    refine x_get X hH.1.1 in_X4 (mem_k 0 rfl) rfl 0 (by decide) q227 (fun _ h => h) rfl dX4_lay_19 ?_
    refine x_getN X hH.1.1 in_X2 (mem_r mS) rfl 1 (by decide) (hJs.nw q181 rfl) (fun _ h => h) rfl dX4_lay_22 ?_
    refine lv_iload_n hx hb dX4_lay_25 rfl (lv_at hl 1 rfl) ?_
    refine x_RV (l_get hE (LW.mono (fun _ h => mem_r h)) hw) X hH.2 hH.1.1 (x_rc X hH.1.1 (mem_r (lW _ List.mem_cons_self)) rfl) (lw_V q956 q889 q890 q66 q891) hdv_J2_get ⟨Nat.le_of_ble_eq_true rfl, Nat.le_of_ble_eq_true rfl⟩ rfl hl.1 rfl (Nat.le_of_ble_eq_true rfl) ⟨(Nat.le_of_ble_eq_true rfl), (Nat.le_of_ble_eq_true rfl)⟩ dX4_lay_26 ?_
    refine x_castS X hH.1.1 (mem_r mT) rfl q967 dX4_lay_29 ?_
    refine x_getN X hH.1.1 in_X10 (mem_r mT) rfl 0 (by decide) (hJs.nw q816 rfl) (fun _ h => h) rfl dX4_lay_32 ?_
    refine x_RV (s_len hE hJ (hsT.mono (fun _ h => mem_r h))) X hH.2 hH.1.1 (x_rc X hH.1.1 (mem_r yT) rfl) (lw_V q966 q654 q655 q83 q656) hdv_J12_length ⟨Nat.le_of_ble_eq_true rfl, Nat.le_of_ble_eq_true rfl⟩ rfl hl.1 rfl (Nat.le_of_ble_eq_true rfl) ⟨(Nat.le_of_ble_eq_true rfl), (Nat.le_of_ble_eq_true rfl)⟩ dX4_lay_35 ?_
    refine lv_istore_n (lv' := [(3, .int (nI (wL R wN))), (0, .ref pN), (1, .int (nI wN)), (2, .int mk)]) hx hb dX4_lay_38 rfl hl (by decide) rfl (fun ls hl => ?_)
    refine lv_iconst (v := nI 0) hx hb dX4_lay_39 (by decide) ?_
    refine lv_istore (lv' := [(4, .int (nI 0)), (3, .int (nI (wL R wN))), (0, .ref pN), (1, .int (nI wN)), (2, .int mk)]) hx hb dX4_lay_40 hl (by decide) rfl (fun ls hl => ?_)
    have hl : lv_has ls 6 [(4, .int (nI (posF R wN mk 0))), (3, .int (nI (wL R wN))), (0, .ref pN), (1, .int (nI wN)), (2, .int mk)] := by rw [← (show (nI 0 : Int32) = nI (posF R wN mk 0) from rfl)]; exact hl
    have lp : ∀ (fu : Nat) (iN : Nat) (Pv : Nat → Int32), (iN ≤ pr R wN mk) → (∀ x, x < iN → Pv x = nI (plP R wN mk x)) → 12 - iN < fu → ∀ (H : Heap) (locs : List Loc), HH G sT ([oC pN 4 [.ref aS, .ref f1, .ref f2, .ref f3, .ref f4, .int (nI iN)], iC G f1 84 F, iC G f2 22 L, iC G f3 13 M', iC G f4 12 Pv] ++ wr) H locs → ∀ ls : Array Slot, lv_has ls 6 [(0, .ref pN), (1, .int (nI wN)), (2, .int mk), (3, .int (nI (wL R wN))), (4, .int (nI (posF R wN mk iN)))] → W pR l eV (Rm 5 0 0) sT mI ([.ref pN, .int (nI wN), .int mk] : List Value).toArray below meth cd H locs 0 0 QQ (F0 mI 42 ls []) := by
      intro fu
      induction fu with
      | zero => intro iN Pv hi0 hPv hm; exact absurd hm (Nat.not_lt_zero _)
      | succ fu ih_lp =>
        intro iN Pv hi0 hPv hm H locs hH ls hl
        have hinv := plan_inv hR c1 iN hi0
        refine lv_iload hx hb dX4_lay_42 (lv_at hl 4 rfl) ?_
        refine lv_iload_n hx hb dX4_lay_44 rfl (lv_at hl 3 rfl) ?_
        refine n_icmp_ge (tgt := 133) hx hb (by omega) (by omega) dX4_lay_45 (by decide) (fun c2 => ?_) (fun c2 => ?_)
        · have hi : iN = pr R wN mk := by rcases Nat.lt_or_ge iN (pr R wN mk) with q | q; exact absurd (posF_lt hR c1 q) (by omega); omega
          refine lv_iconst (v := nI 1) hx hb dX4_lay_133 (by decide) ?_
          exact ret _ _ _ _ _ _ _ _ hH (⟨M', Pv, by rw [hpm, ← hi]; exact hPv, bI_t (decide_eq_true c1), by rw [hpm, ← hi]⟩) (by decide) (Nat.le_of_ble_eq_true rfl) (Nat.le_of_ble_eq_true rfl) dX4_lay_134
        · have hi : iN < pr R wN mk := by rcases Nat.lt_or_ge iN (pr R wN mk) with q | q; exact q; exact absurd (posF_end hR c1) (by rw [show pr R wN mk = iN by omega]; omega)
          obtain ⟨hp2, hok⟩ := plP_ok hR c1 hi
          have hlp := lf_pos hR (m := mk) c2
          have hf22 : plP R wN mk iN < 22 := by omega
          refine lv_iconst (v := nI 0) hx hb dX4_lay_48 (by decide) ?_
          refine lv_istore (lv' := [(5, .int (nI 0)), (0, .ref pN), (1, .int (nI wN)), (2, .int mk), (3, .int (nI (wL R wN))), (4, .int (nI (posF R wN mk iN)))]) hx hb dX4_lay_49 hl (by decide) rfl (fun ls hl => ?_)
          have lq : ∀ (fu : Nat) (qN : Nat), (qN ≤ plP R wN mk iN) → 22 - qN < fu → ∀ (H : Heap) (locs : List Loc), HH G sT ([oC pN 4 [.ref aS, .ref f1, .ref f2, .ref f3, .ref f4, .int (nI iN)], iC G f1 84 F, iC G f2 22 L, iC G f3 13 M', iC G f4 12 Pv] ++ wr) H locs → ∀ ls : Array Slot, lv_has ls 6 [(0, .ref pN), (1, .int (nI wN)), (2, .int mk), (3, .int (nI (wL R wN))), (4, .int (nI (posF R wN mk iN))), (5, .int (nI qN))] → W pR l eV (Rm 5 0 0) sT mI ([.ref pN, .int (nI wN), .int mk] : List Value).toArray below meth cd H locs 0 0 QQ (F0 mI 51 ls []) := by
            intro fu
            induction fu with
            | zero => intro qN hq hm; exact absurd hm (Nat.not_lt_zero _)
            | succ fu ih_lq =>
              intro qN hq hm H locs hH ls hl
              have hq2 : qN / 2 < nS R := by omega
              have hl5 := hR.sl1 hq2
              refine lv_aload_n hx hb dX4_lay_51 rfl (lv_at hl 0 rfl) ?_
              refine lv_iload_n hx hb dX4_lay_52 rfl (lv_at hl 1 rfl) ?_
              refine lv_iload hx hb dX4_lay_53 (lv_at hl 4 rfl) ?_
              refine lv_iload hx hb dX4_lay_55 (lv_at hl 5 rfl) ?_
              refine lv_iload_n hx hb dX4_lay_57 rfl (lv_at hl 2 rfl) ?_
              refine x_RV (c_X4_mayPress hE (mem_k 0 rfl) (mem_k 1 rfl) (by omega) (by omega) (by omega)) X hH.2 hH.1.1 (x_rc X hH.1.1 (mem_k 0 rfl) rfl) (lw_V q1102 q1104 qs13 q70 q1105) hdv_X4_mayPress ⟨Nat.le_of_ble_eq_true rfl, Nat.le_of_ble_eq_true rfl⟩ rfl hl.1 rfl (Nat.le_of_ble_eq_true rfl) ⟨(Nat.le_of_ble_eq_true rfl), (Nat.le_of_ble_eq_true rfl)⟩ dX4_lay_58 ?_
              refine n_top (y := bI (bitB mk (qN / 2) && pB R (nS R) wN (posF R wN mk iN) qN)) (by rw [hPl.1 wN hw _ c2 qN (by omega)]) ?_
              refine b_if_eq (tgt := 91) hx hb dX4_lay_61 (by decide) (fun c3 => ?_) (fun c3 => ?_)
              · have hno : okP R wN mk (posF R wN mk iN) qN = false := by rw [okP_pB hq2, c3, Bool.false_and]
                refine lv_iinc (v := nI (qN + 1)) (lv' := [(5, .int (nI (qN + 1))), (0, .ref pN), (1, .int (nI wN)), (2, .int mk), (3, .int (nI (wL R wN))), (4, .int (nI (posF R wN mk iN)))]) hx hb dX4_lay_91 hl (k := 5) rfl (nI_add _ 1) (by decide) rfl (fun ls hl => ?_)
                refine lv_goto (tgt := 51) hx hb dX4_lay_94 (by decide) ?_
                exact ih_lq (qN + 1)  (by rcases Nat.eq_or_lt_of_le hq with q | q; exact absurd hok (by unfold plP at q; rw [show plP R wN mk iN = qN from q.symm, hno]; exact Bool.false_ne_true); omega) (by omega) _ _ hH ls (lv_sub hl [1, 2, 3, 4, 5, 0] rfl)
              · have c4 := c3
                rw [Bool.and_eq_true] at c4
                obtain ⟨-, hfit⟩ := pB_fit c4.2
                refine lv_aload_n hx hb dX4_lay_64 rfl (lv_at hl 0 rfl) ?_
                refine x_get X hH.1.1 in_X4 (mem_k 0 rfl) rfl 3 (by decide) q230 (fun _ h => h) rfl dX4_lay_65 ?_
                refine lv_iload hx hb dX4_lay_68 (lv_at hl 4 rfl) ?_
                refine lv_aload_n hx hb dX4_lay_70 rfl (lv_at hl 0 rfl) ?_
                refine x_get X hH.1.1 in_X4 (mem_k 0 rfl) rfl 2 (by decide) q229 (fun _ h => h) rfl dX4_lay_71 ?_
                refine lv_iload hx hb dX4_lay_74 (lv_at hl 5 rfl) ?_
                refine x_iald X hH.1.1 (mem_k 2 rfl) (by omega) (by decide) dX4_lay_76 ?_
                refine n_top (y := nI (sL R (qN / 2))) (hPl.len c4.2) ?_
                refine n_iadd hx hb dX4_lay_77 ?_
                refine x_iald X hH.1.1 (mem_k 3 rfl) (by omega) (by decide) dX4_lay_78 ?_
                refine n_top (y := nI (lf R wN mk (posF R wN mk iN + sL R (qN / 2)))) (hM' _ hfit) ?_
                refine lv_aload_n hx hb dX4_lay_79 rfl (lv_at hl 0 rfl) ?_
                refine x_get X hH.1.1 in_X4 (mem_k 0 rfl) rfl 3 (by decide) q230 (fun _ h => h) rfl dX4_lay_80 ?_
                refine lv_iload hx hb dX4_lay_83 (lv_at hl 4 rfl) ?_
                refine x_iald X hH.1.1 (mem_k 3 rfl) (by omega) (by decide) dX4_lay_85 ?_
                refine n_top (y := nI (lf R wN mk (posF R wN mk iN))) (hM' _ (by omega)) ?_
                have hB1 := lf_le (R := R) (w := wN) (m := mk) (k := posF R wN mk iN + sL R (qN / 2))
                have hB2 := lf_le (R := R) (w := wN) (m := mk) (k := posF R wN mk iN)
                refine lv_iconst (v := nI 1) hx hb dX4_lay_86 (by decide) ?_
                refine n_isub hx hb (by omega) dX4_lay_87 ?_
                refine n_icmp_eq (tgt := 97) hx hb (by omega) (by omega) dX4_lay_88 (by decide) (fun c5 => ?_) (fun c5 => ?_)
                · have hyes : okP R wN mk (posF R wN mk iN) qN = true := by rw [okP_pB hq2, c3, decide_eq_true (by omega)]; rfl
                  have hqp : plP R wN mk iN = qN := fstP_eq (by omega) hyes (fun x hx => (fstP_spec 22).2.1 x (by have e : fstP (okP R wN mk (posF R wN mk iN)) 22 = plP R wN mk iN := rfl; rw [e]; omega))
                  refine lv_aload_n hx hb dX4_lay_97 rfl (lv_at hl 0 rfl) ?_
                  refine x_get X hH.1.1 in_X4 (mem_k 0 rfl) rfl 4 (by decide) q231 (fun _ h => h) rfl dX4_lay_98 ?_
                  refine lv_aload_n hx hb dX4_lay_101 rfl (lv_at hl 0 rfl) ?_
                  refine x_get X hH.1.1 in_X4 (mem_k 0 rfl) rfl 5 (by decide) q233 (fun _ h => h) rfl dX4_lay_102 ?_
                  refine lv_iload hx hb dX4_lay_105 (lv_at hl 5 rfl) ?_
                  refine x_iast X hH 4 rfl (by omega) (by decide) dX4_lay_107 (fun g_1 H locs eg_1 hH => ?_)
                  have hH : HH G sT ([oC pN 4 [.ref aS, .ref f1, .ref f2, .ref f3, .ref f4, .int (nI iN)], iC G f1 84 F, iC G f2 22 L, iC G f3 13 M', iC G f4 12 g_1] ++ wr) H locs := hH
                  refine lv_aload_n hx hb dX4_lay_108 rfl (lv_at hl 0 rfl) ?_
                  refine lv_dup hx hb dX4_lay_109 rfl ?_
                  refine x_get X hH.1.1 in_X4 (mem_k 0 rfl) rfl 5 (by decide) q233 (fun _ h => h) rfl dX4_lay_110 ?_
                  refine lv_iconst (v := nI 1) hx hb dX4_lay_113 (by decide) ?_
                  refine n_iadd hx hb dX4_lay_114 ?_
                  refine x_put X hH in_X4 tyX4 tyX4_ok nmX4 0 rfl rfl 5 (by decide) q233 (fun _ h => h) rfl (ty := .int) (by decide +kernel) rfl rfl (Nat.le_of_ble_eq_true rfl) dX4_lay_115 (fun H locs hH => ?_)
                  have hH : HH G sT ([oC pN 4 [.ref aS, .ref f1, .ref f2, .ref f3, .ref f4, .int (nI (iN + 1))], iC G f1 84 F, iC G f2 22 L, iC G f3 13 M', iC G f4 12 g_1] ++ wr) H locs := hH
                  refine lv_iload hx hb dX4_lay_118 (lv_at hl 4 rfl) ?_
                  refine lv_aload_n hx hb dX4_lay_120 rfl (lv_at hl 0 rfl) ?_
                  refine x_get X hH.1.1 in_X4 (mem_k 0 rfl) rfl 2 (by decide) q229 (fun _ h => h) rfl dX4_lay_121 ?_
                  refine lv_iload hx hb dX4_lay_124 (lv_at hl 5 rfl) ?_
                  refine x_iald X hH.1.1 (mem_k 2 rfl) (by omega) (by decide) dX4_lay_126 ?_
                  refine n_top (y := nI (sL R (qN / 2))) (hPl.len c4.2) ?_
                  refine n_iadd hx hb dX4_lay_127 ?_
                  refine n_top (y := nI (posF R wN mk (iN + 1))) (by show _ = nI (posF R wN mk iN + sL R (pP R wN mk (posF R wN mk iN) / 2)); rw [show pP R wN mk (posF R wN mk iN) = qN from hqp]) ?_
                  refine lv_istore (lv' := [(4, .int (nI (posF R wN mk (iN + 1)))), (0, .ref pN), (1, .int (nI wN)), (2, .int mk), (3, .int (nI (wL R wN))), (5, .int (nI qN))]) hx hb dX4_lay_128 hl (by decide) rfl (fun ls hl => ?_)
                  refine lv_goto (tgt := 42) hx hb dX4_lay_130 (by decide) ?_
                  exact ih_lp (iN + 1) g_1  (by omega) (fun x hx => by rw [eg_1]; by_cases q : x = iN; exact (by rw [q, pk_us, hqp]); exact (by rw [pk_un q]; exact hPv x (by omega))) (by omega) _ _ hH ls (lv_sub hl [1, 2, 3, 4, 0] rfl)
                · have hno : okP R wN mk (posF R wN mk iN) qN = false := by rw [okP_pB hq2, c3, decide_eq_false (by omega), Bool.and_false]
                  refine lv_iinc (v := nI (qN + 1)) (lv' := [(5, .int (nI (qN + 1))), (0, .ref pN), (1, .int (nI wN)), (2, .int mk), (3, .int (nI (wL R wN))), (4, .int (nI (posF R wN mk iN)))]) hx hb dX4_lay_91 hl (k := 5) rfl (nI_add _ 1) (by decide) rfl (fun ls hl => ?_)
                  refine lv_goto (tgt := 51) hx hb dX4_lay_94 (by decide) ?_
                  exact ih_lq (qN + 1)  (by rcases Nat.eq_or_lt_of_le hq with q | q; exact absurd hok (by unfold plP at q; rw [show plP R wN mk iN = qN from q.symm, hno]; exact Bool.false_ne_true); omega) (by omega) _ _ hH ls (lv_sub hl [1, 2, 3, 4, 5, 0] rfl)
          exact lq _ 0  (Nat.zero_le _) (Nat.lt_succ_self _) _ _ hH ls (lv_sub hl [1, 2, 3, 4, 5, 0] rfl)
    exact lp _ 0 P  (Nat.zero_le _) (fun x hx => absurd hx (Nat.not_lt_zero _)) (Nat.lt_succ_self _) _ _ hH ls (lv_sub hl [2, 3, 4, 1, 0] rfl)
  · refine lv_iconst (v := nI 0) hx hb dX4_lay_16 (by decide) ?_
    exact ret _ _ _ _ _ _ _ _ hH (⟨M', P, fun i hi => absurd hi (by unfold pmN; rw [if_pos c1]; exact Nat.not_lt_zero _), bI_f (decide_eq_false (fun q => q c1)), by unfold pmN; rw [if_pos c1]⟩) (by decide) (Nat.le_of_ble_eq_true rfl) (Nat.le_of_ble_eq_true rfl) dX4_lay_17
end C12
