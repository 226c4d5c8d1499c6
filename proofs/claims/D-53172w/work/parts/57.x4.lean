/-! COMPONENT 5: plans made -/
section C10
variable {l : Launch} {G : GG} {E : State → Prop} {sa : Nat → Nat} {ws wr : va_W}
variable {a b n n2 aS aI pN f1 f2 f3 f4 wN kN sN mN jN : Nat} {R F L M P : Nat → Int32} {z mk : Int32}
theorem hdv_X4_add : yX4_add.cls = RX4 ∧ yX4_add.cls ≠ "java/lang/invoke/MethodHandle" ∧ yX4_add.cls ≠ "java/lang/invoke/VarHandle" ∧ (parseMethodDescriptor yX4_add.desc).map (fun d => d.parameters.length) = some 3 := by decide +kernel
theorem c_X4_add (hE : EnvOK G E) (hJ : EnvJ G E sa) {aL : Nat} {o : Option Nat} (hL : Str G wr aL (fun i => 97 + sC R jN i) (sL R jN)) (hf : canT R jN = false → o = none) (ht : canT R jN = true → ∃ t, o = some t ∧ t ≠ aL ∧ Str G wr t (fun i => tuC (97 + sC R jN (sL R jN - 1 - i))) (sL R jN)) (hR : ROk R) (hW : StWd G sa wr aS R) (hj : jN < nS R) (hPl : PlF R jN F L) : MU vV l G E yX4_add cX4_add 4 none 5 0 0 [.ref pN, .int (nI jN), .ref aL, (va_rf o)] ([oC pN 4 [.ref aS, .ref f1, .ref f2, .ref f3, .ref f4, .int z], iC G f1 84 F, iC G f2 22 L, iC G f3 13 M, iC G f4 12 P] ++ wr) (fun _ w => ∃ F' L', PlF R (jN + 1) F' L' ∧ w = [oC pN 4 [.ref aS, .ref f1, .ref f2, .ref f3, .ref f4, .int z], iC G f1 84 F', iC G f2 22 L', iC G f3 13 M, iC G f4 12 P] ++ wr) := by
  refine MUv hE (by decide) (by cases o <;> exact Nat.le_of_ble_eq_true rfl) (fun pR eV sT mI below meth cd QQ ls X hH hl ret => ?_)
  obtain ⟨⟨hx, hb, hml, hown, hts⟩, ⟨hr, hlk⟩, -, -, -⟩ := id X
  have hJs := X.J hJ
  have hl : lv_has ls 4 [(0, .ref pN), (1, .int (nI jN)), (2, .ref aL), (3, (va_rf o))] := hl
  refine wgen (H := sT.heap) (locs := []) hH (fun H locs hH => ?_)
  have hS := hR.s1
  have hl5 := hR.sl1 hj
  cases hcT : canT R jN with
  | false =>
    have hc : cntB R jN = false := by unfold cntB; rw [hcT]; rfl
    obtain rfl := hf hcT
    refine lv_aload_n hx hb dX4_add_0 rfl (lv_at hl 0 rfl) ?_
    refine lv_iconst (v := nI 2) hx hb dX4_add_1 (by decide) ?_
    refine lv_iload_n hx hb dX4_add_2 rfl (lv_at hl 1 rfl) ?_
    refine n_imul hx hb dX4_add_3 ?_
    refine lv_aload_n hx hb dX4_add_4 rfl (lv_at hl 2 rfl) ?_
    refine x_MVv (c_X4_mark (t := (fun i => 97 + sC R jN i)) (n := sL R jN) hE hJ hR hW hL (by omega) (by omega)) X hH (x_rc X hH.1.1 (mem_k 0 rfl) rfl) (lw_V q962 q964 qs12 q70 q965) hdv_X4_mark ⟨Nat.le_of_ble_eq_true rfl, Nat.le_of_ble_eq_true rfl⟩ rfl hl.1 rfl (Nat.le_of_ble_eq_true rfl) ⟨(Nat.le_of_ble_eq_true rfl), (Nat.le_of_ble_eq_true rfl)⟩ dX4_add_5 (fun w H locs hq hH => ?_)
    obtain ⟨F1, hF1, rfl⟩ := hq
    have hH : HH G sT ([oC pN 4 [.ref aS, .ref f1, .ref f2, .ref f3, .ref f4, .int z], iC G f1 84 F1, iC G f2 22 (upd L (2 * jN) (nI (sL R jN))), iC G f3 13 M, iC G f4 12 P] ++ wr) H locs := hH
    refine lv_aload_nN hx hb dX4_add_8 rfl (lv_at hl 3 rfl) ?_
    refine lv_ifnullN (tgt := 30) hx hb dX4_add_9 (by decide) ?_
    exact ret _ _ _ _ _ _ _ hH (⟨_, _, hPl.one hR hj hc hF1, rfl⟩) (Nat.le_of_ble_eq_true rfl) (Nat.le_of_ble_eq_true rfl) dX4_add_30
  | true =>
    obtain ⟨tT, rfl, hne, hsT⟩ := ht hcT
    obtain ⟨qT, gT, xT, zT, yT, -⟩ := id hsT
    refine lv_aload_n hx hb dX4_add_0 rfl (lv_at hl 0 rfl) ?_
    refine lv_iconst (v := nI 2) hx hb dX4_add_1 (by decide) ?_
    refine lv_iload_n hx hb dX4_add_2 rfl (lv_at hl 1 rfl) ?_
    refine n_imul hx hb dX4_add_3 ?_
    refine lv_aload_n hx hb dX4_add_4 rfl (lv_at hl 2 rfl) ?_
    refine x_MVv (c_X4_mark (t := (fun i => 97 + sC R jN i)) (n := sL R jN) hE hJ hR hW hL (by omega) (by omega)) X hH (x_rc X hH.1.1 (mem_k 0 rfl) rfl) (lw_V q962 q964 qs12 q70 q965) hdv_X4_mark ⟨Nat.le_of_ble_eq_true rfl, Nat.le_of_ble_eq_true rfl⟩ rfl hl.1 rfl (Nat.le_of_ble_eq_true rfl) ⟨(Nat.le_of_ble_eq_true rfl), (Nat.le_of_ble_eq_true rfl)⟩ dX4_add_5 (fun w H locs hq hH => ?_)
    obtain ⟨F1, hF1, rfl⟩ := hq
    have hH : HH G sT ([oC pN 4 [.ref aS, .ref f1, .ref f2, .ref f3, .ref f4, .int z], iC G f1 84 F1, iC G f2 22 (upd L (2 * jN) (nI (sL R jN))), iC G f3 13 M, iC G f4 12 P] ++ wr) H locs := hH
    refine lv_aload_n hx hb dX4_add_8 rfl (lv_at hl 3 rfl) ?_
    refine lv_ifnull hx hb dX4_add_9 ?_
    refine lv_aload_n hx hb dX4_add_12 rfl (lv_at hl 3 rfl) ?_
    refine lv_aload_n hx hb dX4_add_13 rfl (lv_at hl 2 rfl) ?_
    refine x_RV (s_eq hE hJ (hsT.mono (fun _ h => mem_r h)) (hL.mono (fun _ h => mem_r h)) hne) X hH.2 hH.1.1 (x_rc X hH.1.1 (mem_r yT) rfl) (lw_V q1078 q1079 q1080 q83 q1081) hdv_J12_equals ⟨Nat.le_of_ble_eq_true rfl, Nat.le_of_ble_eq_true rfl⟩ rfl hl.1 rfl (Nat.le_of_ble_eq_true rfl) ⟨(Nat.le_of_ble_eq_true rfl), (Nat.le_of_ble_eq_true rfl)⟩ dX4_add_14 ?_
    refine n_top (y := bI (samB R jN)) (by rw [eq_sam hR hj hcT]) ?_
    refine b_if_ne (tgt := 30) hx hb dX4_add_17 (by decide) (fun c1 => ?_) (fun c1 => ?_)
    · have hc : cntB R jN = false := by unfold cntB; rw [c1, Bool.not_true, Bool.and_false]
      exact ret _ _ _ _ _ _ _ hH (⟨_, _, hPl.one hR hj hc hF1, rfl⟩) (Nat.le_of_ble_eq_true rfl) (Nat.le_of_ble_eq_true rfl) dX4_add_30
    · have hc : cntB R jN = true := by unfold cntB; rw [c1, hcT]; rfl
      refine lv_aload_n hx hb dX4_add_20 rfl (lv_at hl 0 rfl) ?_
      refine lv_iconst (v := nI 2) hx hb dX4_add_21 (by decide) ?_
      refine lv_iload_n hx hb dX4_add_22 rfl (lv_at hl 1 rfl) ?_
      refine n_imul hx hb dX4_add_23 ?_
      refine lv_iconst (v := nI 1) hx hb dX4_add_24 (by decide) ?_
      refine n_iadd hx hb dX4_add_25 ?_
      refine lv_aload_n hx hb dX4_add_26 rfl (lv_at hl 3 rfl) ?_
      refine x_MVv (c_X4_mark (t := (fun i => tuC (97 + sC R jN (sL R jN - 1 - i)))) (n := sL R jN) hE hJ hR hW hsT (by omega) (by omega)) X hH (x_rc X hH.1.1 (mem_k 0 rfl) rfl) (lw_V q962 q964 qs12 q70 q965) hdv_X4_mark ⟨Nat.le_of_ble_eq_true rfl, Nat.le_of_ble_eq_true rfl⟩ rfl hl.1 rfl (Nat.le_of_ble_eq_true rfl) ⟨(Nat.le_of_ble_eq_true rfl), (Nat.le_of_ble_eq_true rfl)⟩ dX4_add_27 (fun w H locs hq hH => ?_)
      obtain ⟨F2, hF2, rfl⟩ := hq
      have hH : HH G sT ([oC pN 4 [.ref aS, .ref f1, .ref f2, .ref f3, .ref f4, .int z], iC G f1 84 F2, iC G f2 22 (upd (upd L (2 * jN) (nI (sL R jN))) (2 * jN + 1) (nI (sL R jN))), iC G f3 13 M, iC G f4 12 P] ++ wr) H locs := hH
      exact ret _ _ _ _ _ _ _ hH (⟨_, _, hPl.two hR hj hc hF1 hF2, rfl⟩) (Nat.le_of_ble_eq_true rfl) (Nat.le_of_ble_eq_true rfl) dX4_add_30
theorem hdv_X4_make : yX4_make.cls = RX4 ∧ yX4_make.cls ≠ "java/lang/invoke/MethodHandle" ∧ yX4_make.cls ≠ "java/lang/invoke/VarHandle" ∧ (parseMethodDescriptor yX4_make.desc).map (fun d => d.parameters.length) = some 1 := by decide +kernel
theorem c_X4_make (hE : EnvOK G E) (hJ : EnvJ G E sa) {os : Option Nat} (hR : ROk R) (hB : StB G sa wr aS aI R) : MU vA l G E yX4_make cX4_make 3 (some (.object "RubberStamps$Plans")) 6 0 0 [.ref pN, .ref aS] ([oC pN 4 [(va_rf os), .ref f1, .ref f2, .ref f3, .ref f4, .int z], iC G f1 84 F, iC G f2 22 L, iC G f3 13 M, iC G f4 12 P] ++ wr) (fun r w => pN = r ∧ ∃ F' L', PlF R (nS R) F' L' ∧ w = [oC pN 4 [.ref aS, .ref f1, .ref f2, .ref f3, .ref f4, .int z], iC G f1 84 F', iC G f2 22 L', iC G f3 13 M, iC G f4 12 P] ++ wr) := by
  refine MUa hE (by decide) (Nat.le_of_ble_eq_true rfl) (Or.inl ⟨_, rfl⟩) (fun pR eV sT mI below meth cd QQ ls X hH hl ret => ?_)
  obtain ⟨⟨hx, hb, hml, hown, hts⟩, ⟨hr, hlk⟩, -, -, -⟩ := id X
  have hJs := X.J hJ
  have hl : lv_has ls 3 [(0, .ref pN), (1, .ref aS)] := hl
  refine wgen (H := sT.heap) (locs := []) hH (fun H locs hH => ?_)
  obtain ⟨aP, aW, eP, eW, mS, LP, LW, SP, SW⟩ := id hB
  obtain ⟨mcP, dP, oP, lP, -, -⟩ := id LP
  obtain ⟨mcW, dW, oW, lW, -, -⟩ := id LW
  have hS := hR.s1
  refine lv_aload_n hx hb dX4_make_0 rfl (lv_at hl 0 rfl) ?_
  refine lv_aload_n hx hb dX4_make_1 rfl (lv_at hl 1 rfl) ?_
  refine x_put X hH in_X4 tyX4 tyX4_ok nmX4 0 rfl rfl 0 (by decide) q227 (fun _ h => h) rfl (ty := .object "RubberStamps$State") (by decide +kernel) rfl rfl (Nat.le_of_ble_eq_true rfl) dX4_make_2 (fun H locs hH => ?_)
  have hH : HH G sT ([oC pN 4 [.ref aS, .ref f1, .ref f2, .ref f3, .ref f4, .int z], iC G f1 84 F, iC G f2 22 L, iC G f3 13 M, iC G f4 12 P] ++ wr) H locs := hH
  refine lv_aload_n hx hb dX4_make_5 rfl (lv_at hl 0 rfl) ?_
  refine x_get X hH.1.1 in_X4 (mem_k 0 rfl) rfl 1 (by decide) q228 (fun _ h => h) rfl dX4_make_6 ?_
  refine lv_iconst (v := nI 0) hx hb dX4_make_9 (by decide) ?_
  have hH : HH G sT ([iC G f1 84 F, oC pN 4 [.ref aS, .ref f1, .ref f2, .ref f3, .ref f4, .int z], iC G f2 22 L, iC G f3 13 M, iC G f4 12 P] ++ wr) H locs := HH.pickN hH 5 [1, 0, 2, 3, 4] rfl (by decide) rfl
  refine x_MSv (c_J3_fill (wr := ([oC pN 4 [.ref aS, .ref f1, .ref f2, .ref f3, .ref f4, .int z], iC G f2 22 L, iC G f3 13 M, iC G f4 12 P] ++ wr)) hE (by decide)) X hH (lw_S q954 q146 q68 q147) hds_J3_fill ⟨Nat.le_of_ble_eq_true rfl, Nat.le_of_ble_eq_true rfl⟩ rfl hl.1 rfl (Nat.le_of_ble_eq_true rfl) ⟨(Nat.le_of_ble_eq_true rfl), (Nat.le_of_ble_eq_true rfl)⟩ dX4_make_10 (fun w H locs hq hH => ?_)
  obtain ⟨Fz, hFz, rfl⟩ := hq
  have hH : HH G sT ([iC G f1 84 Fz, oC pN 4 [.ref aS, .ref f1, .ref f2, .ref f3, .ref f4, .int z], iC G f2 22 L, iC G f3 13 M, iC G f4 12 P] ++ wr) H locs := hH
  have hH : HH G sT ([oC pN 4 [.ref aS, .ref f1, .ref f2, .ref f3, .ref f4, .int z], iC G f1 84 Fz, iC G f2 22 L, iC G f3 13 M, iC G f4 12 P] ++ wr) H locs := HH.pickN hH 5 [1, 0, 2, 3, 4] rfl (by decide) rfl
  refine lv_iconst (v := nI 0) hx hb dX4_make_13 (by decide) ?_
  refine lv_istore_n (lv' := [(2, .int (nI 0)), (0, .ref pN), (1, .ref aS)]) hx hb dX4_make_14 rfl hl (by decide) rfl (fun ls hl => ?_)
  have lp : ∀ (fu : Nat) (kN : Nat) (Fv : Nat → Int32) (Lv : Nat → Int32), (kN ≤ nS R) → (PlF R kN Fv Lv) → nS R - kN < fu → ∀ (H : Heap) (locs : List Loc), HH G sT ([oC pN 4 [.ref aS, .ref f1, .ref f2, .ref f3, .ref f4, .int z], iC G f1 84 Fv, iC G f2 22 Lv, iC G f3 13 M, iC G f4 12 P] ++ wr) H locs → ∀ ls : Array Slot, lv_has ls 3 [(0, .ref pN), (1, .ref aS), (2, .int (nI kN))] → W pR l eV (Rm 6 0 0) sT mI ([.ref pN, .ref aS] : List Value).toArray below meth cd H locs 0 0 QQ (F0 mI 15 ls []) := by
    intro fu
    induction fu with
    | zero => intro kN Fv Lv hk hP hm; exact absurd hm (Nat.not_lt_zero _)
    | succ fu ih_lp =>
      intro kN Fv Lv hk hP hm H locs hH ls hl
      refine lv_iload_n hx hb dX4_make_15 rfl (lv_at hl 2 rfl) ?_
      refine lv_aload_n hx hb dX4_make_16 rfl (lv_at hl 0 rfl) ?_
      refine x_get X hH.1.1 in_X4 (mem_k 0 rfl) rfl 0 (by decide) q227 (fun _ h => h) rfl dX4_make_17 ?_
      refine x_getN X hH.1.1 in_X2 (mem_r mS) rfl 0 (by decide) (hJs.nw q177 rfl) (fun _ h => h) rfl dX4_make_20 ?_
      refine x_RV (l_size hE (LP.mono (fun _ h => mem_r h))) X hH.2 hH.1.1 (x_rc X hH.1.1 (mem_r (lP _ List.mem_cons_self)) rfl) (lw_V q955 q349 q350 q66 q351) hdv_J2_size ⟨Nat.le_of_ble_eq_true rfl, Nat.le_of_ble_eq_true rfl⟩ rfl hl.1 rfl (Nat.le_of_ble_eq_true rfl) ⟨(Nat.le_of_ble_eq_true rfl), (Nat.le_of_ble_eq_true rfl)⟩ dX4_make_23 ?_
      refine n_icmp_ge (tgt := 74) hx hb (by omega) (by omega) dX4_make_26 (by decide) (fun c1 => ?_) (fun c1 => ?_)
      · refine lv_aload_n hx hb dX4_make_74 rfl (lv_at hl 0 rfl) ?_
        exact ret _ _ _ _ _ _ _ _ hH (⟨rfl, Fv, Lv, by rw [show nS R = kN by omega]; exact hP, rfl⟩) (Nat.le_of_ble_eq_true rfl) (Nat.le_of_ble_eq_true rfl) dX4_make_75
      · obtain ⟨aST, oT, mT, hsT, hfT, htT⟩ := id (SP kN c1)
        obtain ⟨qT, fT, xT, zT, yT, -⟩ := id hsT
        refine lv_aload_n hx hb dX4_make_29 rfl (lv_at hl 0 rfl) ?_
        refine lv_iload_n hx hb dX4_make_30 rfl (lv_at hl 2 rfl) ?_
        refine lv_aload_n hx hb dX4_make_31 rfl (lv_at hl 0 rfl) ?_
        refine x_get X hH.1.1 in_X4 (mem_k 0 rfl) rfl 0 (by decide) q227 (fun _ h => h) rfl dX4_make_32 ?_
        refine x_getN X hH.1.1 in_X2 (mem_r mS) rfl 0 (by decide) (hJs.nw q177 rfl) (fun _ h => h) rfl dX4_make_35 ?_
        refine lv_iload_n hx hb dX4_make_38 rfl (lv_at hl 2 rfl) ?_
        refine x_RV (l_get hE (LP.mono (fun _ h => mem_r h)) c1) X hH.2 hH.1.1 (x_rc X hH.1.1 (mem_r (lP _ List.mem_cons_self)) rfl) (lw_V q956 q889 q890 q66 q891) hdv_J2_get ⟨Nat.le_of_ble_eq_true rfl, Nat.le_of_ble_eq_true rfl⟩ rfl hl.1 rfl (Nat.le_of_ble_eq_true rfl) ⟨(Nat.le_of_ble_eq_true rfl), (Nat.le_of_ble_eq_true rfl)⟩ dX4_make_39 ?_
        refine x_castS X hH.1.1 (mem_r mT) rfl q957 dX4_make_42 ?_
        refine x_getN X hH.1.1 in_X9 (mem_r mT) rfl 0 (by decide) (hJs.nw q747 rfl) (fun _ h => h) rfl dX4_make_45 ?_
        refine lv_aload_n hx hb dX4_make_48 rfl (lv_at hl 0 rfl) ?_
        refine x_get X hH.1.1 in_X4 (mem_k 0 rfl) rfl 0 (by decide) q227 (fun _ h => h) rfl dX4_make_49 ?_
        refine x_getN X hH.1.1 in_X2 (mem_r mS) rfl 0 (by decide) (hJs.nw q177 rfl) (fun _ h => h) rfl dX4_make_52 ?_
        refine lv_iload_n hx hb dX4_make_55 rfl (lv_at hl 2 rfl) ?_
        refine x_RV (l_get hE (LP.mono (fun _ h => mem_r h)) c1) X hH.2 hH.1.1 (x_rc X hH.1.1 (mem_r (lP _ List.mem_cons_self)) rfl) (lw_V q956 q889 q890 q66 q891) hdv_J2_get ⟨Nat.le_of_ble_eq_true rfl, Nat.le_of_ble_eq_true rfl⟩ rfl hl.1 rfl (Nat.le_of_ble_eq_true rfl) ⟨(Nat.le_of_ble_eq_true rfl), (Nat.le_of_ble_eq_true rfl)⟩ dX4_make_56 ?_
        refine x_castS X hH.1.1 (mem_r mT) rfl q957 dX4_make_59 ?_
        refine x_getN X hH.1.1 in_X9 (mem_r mT) rfl 1 (by decide) (hJs.nw q751 rfl) (fun _ h => h) rfl dX4_make_62 ?_
        refine x_MVv (c_X4_add hE hJ hsT hfT htT hR hB.wd c1 hP) X hH (x_rc X hH.1.1 (mem_k 0 rfl) rfl) (lw_V q958 q959 q960 q70 q961) hdv_X4_add ⟨Nat.le_of_ble_eq_true rfl, Nat.le_of_ble_eq_true rfl⟩ rfl hl.1 rfl (Nat.le_of_ble_eq_true rfl) ⟨(Nat.le_of_ble_eq_true rfl), (Nat.le_of_ble_eq_true rfl)⟩ dX4_make_65 (fun w H locs hq hH => ?_)
        obtain ⟨F', L', hP', rfl⟩ := hq
        have hH : HH G sT ([oC pN 4 [.ref aS, .ref f1, .ref f2, .ref f3, .ref f4, .int z], iC G f1 84 F', iC G f2 22 L', iC G f3 13 M, iC G f4 12 P] ++ wr) H locs := hH
        refine lv_iinc (v := nI (kN + 1)) (lv' := [(2, .int (nI (kN + 1))), (0, .ref pN), (1, .ref aS)]) hx hb dX4_make_68 hl (k := 2) rfl (nI_add _ 1) (by decide) rfl (fun ls hl => ?_)
        refine lv_goto (tgt := 15) hx hb dX4_make_71 (by decide) ?_
        exact ih_lp (kN + 1) F' L'  (by omega) (hP') (by omega) _ _ hH ls (lv_sub hl [1, 2, 0] rfl)
  exact lp _ 0 Fz L  (Nat.zero_le _) (PlF.zero hR hFz) (Nat.lt_succ_self _) _ _ hH ls (lv_sub hl [1, 2, 0] rfl)
end C10
