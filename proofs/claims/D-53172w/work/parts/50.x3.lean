/-! COMPONENT 1: inks -/
section C6
variable {l : Launch} {G : GG} {E : State → Prop} {sa : Nat → Nat} {ws wr : va_W}
variable {aI i1 i2 i3 sN : Nat} {R g1 g2 g3 : Nat → Int32}
theorem hds_X3_init : yX3_init.cls ≠ "java/lang/invoke/MethodHandle" ∧ yX3_init.cls ≠ "java/lang/invoke/VarHandle" ∧ (parseMethodDescriptor yX3_init.desc).map (fun d => d.parameters.length) = some 0 := by decide +kernel
theorem c_X3_init (hE : EnvOK G E) : MU vV l G E yX3_init cX3_init 1 none 2 3 30 [.ref aI] ([oC aI 3 [.null, .null, .null, .int (nI 0), .int (nI 0), .int (nI 0)]] ++ wr) (fun _ w => ∃ i1 i2 i3 g1, (∀ k, k < 10 → g1 k = -1) ∧ w = [oC aI 3 [.ref i1, .ref i2, .ref i3, .int (nI 0), .int (nI 0), .int (nI 0)], iC G i1 10 g1, iC G i2 10 (fun _ => nI 0), iC G i3 10 (fun _ => nI 0)] ++ wr) := by
  refine MUc hE (by decide) (Nat.le_of_ble_eq_true rfl) (fun pR eV sT mI below meth cd QQ ls hin X hH hl ret => ?_)
  obtain ⟨⟨hx, hb, hml, hown, hts⟩, ⟨hr, hlk⟩, -, -, -⟩ := id X
  have hl : lv_has ls 1 [(0, .ref aI)] := hl
  refine wgen (H := sT.heap) (locs := []) hH (fun H locs hH => ?_)
  refine lv_aload_n hx hb dX3_init_0 rfl (lv_at hl 0 rfl) ?_
  refine x_obj X hl.1 q144 q105 q106 (Nat.le_of_ble_eq_true rfl) (Nat.le_of_ble_eq_true rfl) dX3_init_1 ?_
  refine lv_aload_n hx hb dX3_init_4 rfl (lv_at hl 0 rfl) ?_
  refine lv_bipush (v := nI 10) hx hb dX3_init_5 (by decide) ?_
  refine x_newi X hH (by decide) (Nat.le_of_ble_eq_true rfl) (Nat.le_of_ble_eq_true rfl) dX3_init_7 (fun i1 H hH => ?_)
  refine x_widen (k2 := 1) (n2 := 10) (Nat.le_of_ble_eq_true rfl) (Nat.le_of_ble_eq_true rfl) ?_
  have hH : HH G sT ([iC G i1 10 (fun _ => nI 0), oC aI 3 [.null, .null, .null, .int (nI 0), .int (nI 0), .int (nI 0)]] ++ wr) H locs := hH
  refine x_putF X hH in_X3 tyX3 tyX3_ok nmX3 1 rfl rfl 0 (by decide) q148 (fun _ h => h) rfl hin rfl (ty := .array (.int)) (by decide +kernel) rfl rfl (Nat.le_of_ble_eq_true rfl) dX3_init_9 (fun H locs hH => ?_)
  have hH : HH G sT ([iC G i1 10 (fun _ => nI 0), oC aI 3 [.ref i1, .null, .null, .int (nI 0), .int (nI 0), .int (nI 0)]] ++ wr) H locs := hH
  refine lv_aload_n hx hb dX3_init_12 rfl (lv_at hl 0 rfl) ?_
  refine lv_bipush (v := nI 10) hx hb dX3_init_13 (by decide) ?_
  refine x_newi X hH (by decide) (Nat.le_of_ble_eq_true rfl) (Nat.le_of_ble_eq_true rfl) dX3_init_15 (fun i2 H hH => ?_)
  refine x_widen (k2 := 2) (n2 := 20) (Nat.le_of_ble_eq_true rfl) (Nat.le_of_ble_eq_true rfl) ?_
  have hH : HH G sT ([iC G i2 10 (fun _ => nI 0), iC G i1 10 (fun _ => nI 0), oC aI 3 [.ref i1, .null, .null, .int (nI 0), .int (nI 0), .int (nI 0)]] ++ wr) H locs := hH
  refine x_putF X hH in_X3 tyX3 tyX3_ok nmX3 2 rfl rfl 1 (by decide) q150 (fun _ h => h) rfl hin rfl (ty := .array (.int)) (by decide +kernel) rfl rfl (Nat.le_of_ble_eq_true rfl) dX3_init_17 (fun H locs hH => ?_)
  have hH : HH G sT ([iC G i2 10 (fun _ => nI 0), iC G i1 10 (fun _ => nI 0), oC aI 3 [.ref i1, .ref i2, .null, .int (nI 0), .int (nI 0), .int (nI 0)]] ++ wr) H locs := hH
  refine lv_aload_n hx hb dX3_init_20 rfl (lv_at hl 0 rfl) ?_
  refine lv_bipush (v := nI 10) hx hb dX3_init_21 (by decide) ?_
  refine x_newi X hH (by decide) (Nat.le_of_ble_eq_true rfl) (Nat.le_of_ble_eq_true rfl) dX3_init_23 (fun i3 H hH => ?_)
  refine x_widen (k2 := 3) (n2 := 30) (Nat.le_of_ble_eq_true rfl) (Nat.le_of_ble_eq_true rfl) ?_
  have hH : HH G sT ([iC G i3 10 (fun _ => nI 0), iC G i2 10 (fun _ => nI 0), iC G i1 10 (fun _ => nI 0), oC aI 3 [.ref i1, .ref i2, .null, .int (nI 0), .int (nI 0), .int (nI 0)]] ++ wr) H locs := hH
  refine x_putF X hH in_X3 tyX3 tyX3_ok nmX3 3 rfl rfl 2 (by decide) q152 (fun _ h => h) rfl hin rfl (ty := .array (.int)) (by decide +kernel) rfl rfl (Nat.le_of_ble_eq_true rfl) dX3_init_25 (fun H locs hH => ?_)
  have hH : HH G sT ([iC G i3 10 (fun _ => nI 0), iC G i2 10 (fun _ => nI 0), iC G i1 10 (fun _ => nI 0), oC aI 3 [.ref i1, .ref i2, .ref i3, .int (nI 0), .int (nI 0), .int (nI 0)]] ++ wr) H locs := hH
  refine lv_aload_n hx hb dX3_init_28 rfl (lv_at hl 0 rfl) ?_
  refine x_get X hH.1.1 in_X3 (mem_k 3 rfl) rfl 0 (by decide) q148 (fun _ h => h) rfl dX3_init_29 ?_
  refine lv_iconst (v := (-1)) hx hb dX3_init_32 (by decide) ?_
  have hH : HH G sT ([iC G i1 10 (fun _ => nI 0), oC aI 3 [.ref i1, .ref i2, .ref i3, .int (nI 0), .int (nI 0), .int (nI 0)], iC G i2 10 (fun _ => nI 0), iC G i3 10 (fun _ => nI 0)] ++ wr) H locs := HH.pickN hH 4 [2, 3, 1, 0] rfl (by decide) rfl
  refine x_MSv (c_J3_fill (wr := ([oC aI 3 [.ref i1, .ref i2, .ref i3, .int (nI 0), .int (nI 0), .int (nI 0)], iC G i2 10 (fun _ => nI 0), iC G i3 10 (fun _ => nI 0)] ++ wr)) hE (by decide)) X hH (lw_S q145 q146 q68 q147) hds_J3_fill ⟨Nat.le_of_ble_eq_true rfl, Nat.le_of_ble_eq_true rfl⟩ rfl hl.1 rfl (Nat.le_of_ble_eq_true rfl) ⟨(Nat.le_of_ble_eq_true rfl), (Nat.le_of_ble_eq_true rfl)⟩ dX3_init_33 (fun w H locs hq hH => ?_)
  obtain ⟨g, hg, rfl⟩ := hq
  have hH : HH G sT ([iC G i1 10 g, oC aI 3 [.ref i1, .ref i2, .ref i3, .int (nI 0), .int (nI 0), .int (nI 0)], iC G i2 10 (fun _ => nI 0), iC G i3 10 (fun _ => nI 0)] ++ wr) H locs := hH
  have hH : HH G sT ([oC aI 3 [.ref i1, .ref i2, .ref i3, .int (nI 0), .int (nI 0), .int (nI 0)], iC G i1 10 g, iC G i2 10 (fun _ => nI 0), iC G i3 10 (fun _ => nI 0)] ++ wr) H locs := HH.pickN hH 4 [1, 0, 2, 3] rfl (by decide) rfl
  exact ret _ _ _ _ _ _ _ hH (⟨i1, i2, i3, g, hg, rfl⟩) (Nat.le_of_ble_eq_true rfl) (Nat.le_of_ble_eq_true rfl) dX3_init_36
theorem updUpd (f : Nat → Int32) (i : Nat) (x y : Int32) : upd (upd f i x) i y = upd f i y := by
  funext k
  unfold upd
  split <;> rfl
theorem hdv_X3_press : yX3_press.cls = RX3 ∧ yX3_press.cls ≠ "java/lang/invoke/MethodHandle" ∧ yX3_press.cls ≠ "java/lang/invoke/VarHandle" ∧ (parseMethodDescriptor yX3_press.desc).map (fun d => d.parameters.length) = some 3 := by decide +kernel
theorem c_X3_press (hE : EnvOK G E) {cl : Int32} (hK : InkR R g1 g2 g3) (hS : nS R ≤ 10) (hs : sN < nS R) : MU vV l G E yX3_press cX3_press 4 none 1 0 0 [.ref aI, .int (nI sN), .int cl, .int (R 3)] ([oC aI 3 [.ref i1, .ref i2, .ref i3, .int (R 4), .int (R 5), .int (R 6)], iC G i1 10 g1, iC G i2 10 g2, iC G i3 10 g3] ++ wr) (fun _ w => ∃ h1 h2 h3, InkR (prsR R sN cl) h1 h2 h3 ∧ w = inkW G aI i1 i2 i3 (prsR R sN cl) h1 h2 h3 ++ wr) := by
  refine MUv hE (by decide) (Nat.le_of_ble_eq_true rfl) (fun pR eV sT mI below meth cd QQ ls X hH hl ret => ?_)
  obtain ⟨⟨hx, hb, hml, hown, hts⟩, ⟨hr, hlk⟩, -, -, -⟩ := id X
  have hl : lv_has ls 4 [(0, .ref aI), (1, .int (nI sN)), (2, .int cl), (3, .int (R 3))] := hl
  refine wgen (H := sT.heap) (locs := []) hH (fun H locs hH => ?_)
  obtain ⟨e1, e2, e3⟩ := hK.1 sN hs
  have hs10 : sN < 10 := by omega
  refine lv_aload_n hx hb dX3_press_0 rfl (lv_at hl 0 rfl) ?_
  refine x_get X hH.1.1 in_X3 (mem_k 0 rfl) rfl 0 (by decide) q148 (fun _ h => h) rfl dX3_press_1 ?_
  refine lv_iload_n hx hb dX3_press_4 rfl (lv_at hl 1 rfl) ?_
  refine x_iald X hH.1.1 (mem_k 1 rfl) (by omega) (by decide) dX3_press_5 ?_
  refine lv_iload_n hx hb dX3_press_6 rfl (lv_at hl 2 rfl) ?_
  refine lv_icmp_ne (tgt := 19) hx hb dX3_press_7 (by decide) (fun c1 => ?_) (fun c1 => ?_)
  · refine lv_aload_n hx hb dX3_press_19 rfl (lv_at hl 0 rfl) ?_
    refine lv_dup hx hb dX3_press_20 rfl ?_
    refine x_get X hH.1.1 in_X3 (mem_k 0 rfl) rfl 4 (by decide) q157 (fun _ h => h) rfl dX3_press_21 ?_
    refine lv_iconst (v := nI 1) hx hb dX3_press_24 (by decide) ?_
    refine lv_iadd hx hb dX3_press_25 ?_
    refine x_put X hH in_X3 tyX3 tyX3_ok nmX3 0 rfl rfl 4 (by decide) q157 (fun _ h => h) rfl (ty := .int) (by decide +kernel) rfl rfl (Nat.le_of_ble_eq_true rfl) dX3_press_26 (fun H locs hH => ?_)
    have hH : HH G sT ([oC aI 3 [.ref i1, .ref i2, .ref i3, .int (R 4), .int ((R 5) + (nI 1)), .int (R 6)], iC G i1 10 g1, iC G i2 10 g2, iC G i3 10 g3] ++ wr) H locs := hH
    refine lv_aload_n hx hb dX3_press_29 rfl (lv_at hl 0 rfl) ?_
    refine lv_dup hx hb dX3_press_30 rfl ?_
    refine x_get X hH.1.1 in_X3 (mem_k 0 rfl) rfl 5 (by decide) q159 (fun _ h => h) rfl dX3_press_31 ?_
    refine lv_aload_n hx hb dX3_press_34 rfl (lv_at hl 0 rfl) ?_
    refine x_get X hH.1.1 in_X3 (mem_k 0 rfl) rfl 0 (by decide) q148 (fun _ h => h) rfl dX3_press_35 ?_
    refine lv_iload_n hx hb dX3_press_38 rfl (lv_at hl 1 rfl) ?_
    refine x_iald X hH.1.1 (mem_k 1 rfl) (by omega) (by decide) dX3_press_39 ?_
    refine lv_iload_n hx hb dX3_press_40 rfl (lv_at hl 2 rfl) ?_
    refine lv_icmp_eq (tgt := 58) hx hb dX3_press_41 (by decide) (fun c3 => absurd c3 c1) (fun c3 => ?_)
    refine lv_aload_n hx hb dX3_press_44 rfl (lv_at hl 0 rfl) ?_
    refine x_get X hH.1.1 in_X3 (mem_k 0 rfl) rfl 0 (by decide) q148 (fun _ h => h) rfl dX3_press_45 ?_
    refine lv_iload_n hx hb dX3_press_48 rfl (lv_at hl 1 rfl) ?_
    refine x_iald X hH.1.1 (mem_k 1 rfl) (by omega) (by decide) dX3_press_49 ?_
    refine lv_iconst (v := (-1)) hx hb dX3_press_50 (by decide) ?_
    refine lv_icmp_eq (tgt := 58) hx hb dX3_press_51 (by decide) (fun c4 => ?_) (fun c4 => ?_)
    · refine lv_iconst (v := nI 0) hx hb dX3_press_58 (by decide) ?_
      refine lv_iadd hx hb dX3_press_59 ?_
      refine x_put X hH in_X3 tyX3 tyX3_ok nmX3 0 rfl rfl 5 (by decide) q159 (fun _ h => h) rfl (ty := .int) (by decide +kernel) rfl rfl (Nat.le_of_ble_eq_true rfl) dX3_press_60 (fun H locs hH => ?_)
      have hH : HH G sT ([oC aI 3 [.ref i1, .ref i2, .ref i3, .int (R 4), .int ((R 5) + (nI 1)), .int ((R 6) + (nI 0))], iC G i1 10 g1, iC G i2 10 g2, iC G i3 10 g3] ++ wr) H locs := hH
      refine lv_aload_n hx hb dX3_press_63 rfl (lv_at hl 0 rfl) ?_
      refine x_get X hH.1.1 in_X3 (mem_k 0 rfl) rfl 0 (by decide) q148 (fun _ h => h) rfl dX3_press_64 ?_
      refine lv_iload_n hx hb dX3_press_67 rfl (lv_at hl 1 rfl) ?_
      refine lv_iload_n hx hb dX3_press_68 rfl (lv_at hl 2 rfl) ?_
      refine x_iast X hH 1 rfl (by omega) (by decide) dX3_press_69 (fun g_1 H locs eg_1 hH => ?_)
      have hH : HH G sT ([oC aI 3 [.ref i1, .ref i2, .ref i3, .int (R 4), .int ((R 5) + (nI 1)), .int ((R 6) + (nI 0))], iC G i1 10 g_1, iC G i2 10 g2, iC G i3 10 g3] ++ wr) H locs := hH
      refine lv_aload_n hx hb dX3_press_70 rfl (lv_at hl 0 rfl) ?_
      refine x_get X hH.1.1 in_X3 (mem_k 0 rfl) rfl 1 (by decide) q150 (fun _ h => h) rfl dX3_press_71 ?_
      refine lv_iload_n hx hb dX3_press_74 rfl (lv_at hl 1 rfl) ?_
      refine lv_iload_n hx hb dX3_press_75 rfl (lv_at hl 3 rfl) ?_
      refine x_iast X hH 2 rfl (by omega) (by decide) dX3_press_76 (fun g_2 H locs eg_2 hH => ?_)
      have hH : HH G sT ([oC aI 3 [.ref i1, .ref i2, .ref i3, .int (R 4), .int ((R 5) + (nI 1)), .int ((R 6) + (nI 0))], iC G i1 10 g_1, iC G i2 10 g_2, iC G i3 10 g3] ++ wr) H locs := hH
      have hc : cAB R sN cl = true := by unfold cAB; rw [← e1, ← e2, decide_eq_true c1, Bool.true_or]
      refine lv_aload_n hx hb dX3_press_77 rfl (lv_at hl 0 rfl) ?_
      refine x_get X hH.1.1 in_X3 (mem_k 0 rfl) rfl 1 (by decide) q150 (fun _ h => h) rfl dX3_press_78 ?_
      refine lv_iload_n hx hb dX3_press_81 rfl (lv_at hl 1 rfl) ?_
      refine lv_dup2_11 hx hb dX3_press_82 rfl rfl ?_
      refine x_iald X hH.1.1 (mem_k 2 rfl) (by omega) (by decide) dX3_press_83 ?_
      refine lv_iconst (v := nI 1) hx hb dX3_press_84 (by decide) ?_
      refine lv_isub hx hb dX3_press_85 ?_
      refine x_iast X hH 2 rfl (by omega) (by decide) dX3_press_86 (fun g_3 H locs eg_3 hH => ?_)
      have hH : HH G sT ([oC aI 3 [.ref i1, .ref i2, .ref i3, .int (R 4), .int ((R 5) + (nI 1)), .int ((R 6) + (nI 0))], iC G i1 10 g_1, iC G i2 10 g_3, iC G i3 10 g3] ++ wr) H locs := hH
      refine lv_aload_n hx hb dX3_press_87 rfl (lv_at hl 0 rfl) ?_
      refine x_get X hH.1.1 in_X3 (mem_k 0 rfl) rfl 2 (by decide) q152 (fun _ h => h) rfl dX3_press_88 ?_
      refine lv_iload_n hx hb dX3_press_91 rfl (lv_at hl 1 rfl) ?_
      refine lv_dup2_11 hx hb dX3_press_92 rfl rfl ?_
      refine x_iald X hH.1.1 (mem_k 3 rfl) (by omega) (by decide) dX3_press_93 ?_
      refine lv_iconst (v := nI 1) hx hb dX3_press_94 (by decide) ?_
      refine lv_iadd hx hb dX3_press_95 ?_
      refine x_iast X hH 3 rfl (by omega) (by decide) dX3_press_96 (fun g_4 H locs eg_4 hH => ?_)
      have hH : HH G sT ([oC aI 3 [.ref i1, .ref i2, .ref i3, .int (R 4), .int ((R 5) + (nI 1)), .int ((R 6) + (nI 0))], iC G i1 10 g_1, iC G i2 10 g_3, iC G i3 10 g_4] ++ wr) H locs := hH
      refine lv_aload_n hx hb dX3_press_97 rfl (lv_at hl 0 rfl) ?_
      refine lv_dup hx hb dX3_press_98 rfl ?_
      refine x_get X hH.1.1 in_X3 (mem_k 0 rfl) rfl 3 (by decide) q155 (fun _ h => h) rfl dX3_press_99 ?_
      refine lv_iconst (v := nI 1) hx hb dX3_press_102 (by decide) ?_
      refine lv_iadd hx hb dX3_press_103 ?_
      refine x_put X hH in_X3 tyX3 tyX3_ok nmX3 0 rfl rfl 3 (by decide) q155 (fun _ h => h) rfl (ty := .int) (by decide +kernel) rfl rfl (Nat.le_of_ble_eq_true rfl) dX3_press_104 (fun H locs hH => ?_)
      have hH : HH G sT ([oC aI 3 [.ref i1, .ref i2, .ref i3, .int ((R 4) + (nI 1)), .int ((R 5) + (nI 1)), .int ((R 6) + (nI 0))], iC G i1 10 g_1, iC G i2 10 g_3, iC G i3 10 g_4] ++ wr) H locs := hH
      exact ret _ _ _ _ _ _ _ hH (⟨_, _, _, hK.prs hs, by unfold inkW; rw [prs_4, prs_5, prs_6, hc, if_pos rfl, if_pos rfl, if_pos rfl, if_pos rfl, show (decide (R (7 + 9 * sN + 6) ≠ cl) && decide (R (7 + 9 * sN + 6) ≠ -1)) = false from by rw [← e1, c4]; simp, if_neg Bool.false_ne_true, eg_4, eg_3, eg_2, updUpd, updEq, eg_1]⟩) (Nat.le_of_ble_eq_true rfl) (Nat.le_of_ble_eq_true rfl) dX3_press_107
    · refine lv_iconst (v := nI 1) hx hb dX3_press_54 (by decide) ?_
      refine lv_goto (tgt := 59) hx hb dX3_press_55 (by decide) ?_
      refine lv_iadd hx hb dX3_press_59 ?_
      refine x_put X hH in_X3 tyX3 tyX3_ok nmX3 0 rfl rfl 5 (by decide) q159 (fun _ h => h) rfl (ty := .int) (by decide +kernel) rfl rfl (Nat.le_of_ble_eq_true rfl) dX3_press_60 (fun H locs hH => ?_)
      have hH : HH G sT ([oC aI 3 [.ref i1, .ref i2, .ref i3, .int (R 4), .int ((R 5) + (nI 1)), .int ((R 6) + (nI 1))], iC G i1 10 g1, iC G i2 10 g2, iC G i3 10 g3] ++ wr) H locs := hH
      refine lv_aload_n hx hb dX3_press_63 rfl (lv_at hl 0 rfl) ?_
      refine x_get X hH.1.1 in_X3 (mem_k 0 rfl) rfl 0 (by decide) q148 (fun _ h => h) rfl dX3_press_64 ?_
      refine lv_iload_n hx hb dX3_press_67 rfl (lv_at hl 1 rfl) ?_
      refine lv_iload_n hx hb dX3_press_68 rfl (lv_at hl 2 rfl) ?_
      refine x_iast X hH 1 rfl (by omega) (by decide) dX3_press_69 (fun g_5 H locs eg_5 hH => ?_)
      have hH : HH G sT ([oC aI 3 [.ref i1, .ref i2, .ref i3, .int (R 4), .int ((R 5) + (nI 1)), .int ((R 6) + (nI 1))], iC G i1 10 g_5, iC G i2 10 g2, iC G i3 10 g3] ++ wr) H locs := hH
      refine lv_aload_n hx hb dX3_press_70 rfl (lv_at hl 0 rfl) ?_
      refine x_get X hH.1.1 in_X3 (mem_k 0 rfl) rfl 1 (by decide) q150 (fun _ h => h) rfl dX3_press_71 ?_
      refine lv_iload_n hx hb dX3_press_74 rfl (lv_at hl 1 rfl) ?_
      refine lv_iload_n hx hb dX3_press_75 rfl (lv_at hl 3 rfl) ?_
      refine x_iast X hH 2 rfl (by omega) (by decide) dX3_press_76 (fun g_6 H locs eg_6 hH => ?_)
      have hH : HH G sT ([oC aI 3 [.ref i1, .ref i2, .ref i3, .int (R 4), .int ((R 5) + (nI 1)), .int ((R 6) + (nI 1))], iC G i1 10 g_5, iC G i2 10 g_6, iC G i3 10 g3] ++ wr) H locs := hH
      have hc : cAB R sN cl = true := by unfold cAB; rw [← e1, ← e2, decide_eq_true c1, Bool.true_or]
      refine lv_aload_n hx hb dX3_press_77 rfl (lv_at hl 0 rfl) ?_
      refine x_get X hH.1.1 in_X3 (mem_k 0 rfl) rfl 1 (by decide) q150 (fun _ h => h) rfl dX3_press_78 ?_
      refine lv_iload_n hx hb dX3_press_81 rfl (lv_at hl 1 rfl) ?_
      refine lv_dup2_11 hx hb dX3_press_82 rfl rfl ?_
      refine x_iald X hH.1.1 (mem_k 2 rfl) (by omega) (by decide) dX3_press_83 ?_
      refine lv_iconst (v := nI 1) hx hb dX3_press_84 (by decide) ?_
      refine lv_isub hx hb dX3_press_85 ?_
      refine x_iast X hH 2 rfl (by omega) (by decide) dX3_press_86 (fun g_7 H locs eg_7 hH => ?_)
      have hH : HH G sT ([oC aI 3 [.ref i1, .ref i2, .ref i3, .int (R 4), .int ((R 5) + (nI 1)), .int ((R 6) + (nI 1))], iC G i1 10 g_5, iC G i2 10 g_7, iC G i3 10 g3] ++ wr) H locs := hH
      refine lv_aload_n hx hb dX3_press_87 rfl (lv_at hl 0 rfl) ?_
      refine x_get X hH.1.1 in_X3 (mem_k 0 rfl) rfl 2 (by decide) q152 (fun _ h => h) rfl dX3_press_88 ?_
      refine lv_iload_n hx hb dX3_press_91 rfl (lv_at hl 1 rfl) ?_
      refine lv_dup2_11 hx hb dX3_press_92 rfl rfl ?_
      refine x_iald X hH.1.1 (mem_k 3 rfl) (by omega) (by decide) dX3_press_93 ?_
      refine lv_iconst (v := nI 1) hx hb dX3_press_94 (by decide) ?_
      refine lv_iadd hx hb dX3_press_95 ?_
      refine x_iast X hH 3 rfl (by omega) (by decide) dX3_press_96 (fun g_8 H locs eg_8 hH => ?_)
      have hH : HH G sT ([oC aI 3 [.ref i1, .ref i2, .ref i3, .int (R 4), .int ((R 5) + (nI 1)), .int ((R 6) + (nI 1))], iC G i1 10 g_5, iC G i2 10 g_7, iC G i3 10 g_8] ++ wr) H locs := hH
      refine lv_aload_n hx hb dX3_press_97 rfl (lv_at hl 0 rfl) ?_
      refine lv_dup hx hb dX3_press_98 rfl ?_
      refine x_get X hH.1.1 in_X3 (mem_k 0 rfl) rfl 3 (by decide) q155 (fun _ h => h) rfl dX3_press_99 ?_
      refine lv_iconst (v := nI 1) hx hb dX3_press_102 (by decide) ?_
      refine lv_iadd hx hb dX3_press_103 ?_
      refine x_put X hH in_X3 tyX3 tyX3_ok nmX3 0 rfl rfl 3 (by decide) q155 (fun _ h => h) rfl (ty := .int) (by decide +kernel) rfl rfl (Nat.le_of_ble_eq_true rfl) dX3_press_104 (fun H locs hH => ?_)
      have hH : HH G sT ([oC aI 3 [.ref i1, .ref i2, .ref i3, .int ((R 4) + (nI 1)), .int ((R 5) + (nI 1)), .int ((R 6) + (nI 1))], iC G i1 10 g_5, iC G i2 10 g_7, iC G i3 10 g_8] ++ wr) H locs := hH
      exact ret _ _ _ _ _ _ _ hH (⟨_, _, _, hK.prs hs, by unfold inkW; rw [prs_4, prs_5, prs_6, hc, if_pos rfl, if_pos rfl, if_pos rfl, if_pos rfl, show (decide (R (7 + 9 * sN + 6) ≠ cl) && decide (R (7 + 9 * sN + 6) ≠ -1)) = true from by rw [← e1, decide_eq_true c1, decide_eq_true c4]; rfl, if_pos rfl, eg_8, eg_7, eg_6, updUpd, updEq, eg_5]⟩) (Nat.le_of_ble_eq_true rfl) (Nat.le_of_ble_eq_true rfl) dX3_press_107
  · refine lv_aload_n hx hb dX3_press_10 rfl (lv_at hl 0 rfl) ?_
    refine x_get X hH.1.1 in_X3 (mem_k 0 rfl) rfl 1 (by decide) q150 (fun _ h => h) rfl dX3_press_11 ?_
    refine lv_iload_n hx hb dX3_press_14 rfl (lv_at hl 1 rfl) ?_
    refine x_iald X hH.1.1 (mem_k 2 rfl) (by omega) (by decide) dX3_press_15 ?_
    refine lv_if_ne (tgt := 77) hx hb dX3_press_16 (by decide) (fun c2 => ?_) (fun c2 => ?_)
    · have hc : cAB R sN cl = false := by unfold cAB; rw [← e1, ← e2, c1, show decide (g2 sN = nI 0) = false from decide_eq_false c2]; simp
      refine lv_aload_n hx hb dX3_press_77 rfl (lv_at hl 0 rfl) ?_
      refine x_get X hH.1.1 in_X3 (mem_k 0 rfl) rfl 1 (by decide) q150 (fun _ h => h) rfl dX3_press_78 ?_
      refine lv_iload_n hx hb dX3_press_81 rfl (lv_at hl 1 rfl) ?_
      refine lv_dup2_11 hx hb dX3_press_82 rfl rfl ?_
      refine x_iald X hH.1.1 (mem_k 2 rfl) (by omega) (by decide) dX3_press_83 ?_
      refine lv_iconst (v := nI 1) hx hb dX3_press_84 (by decide) ?_
      refine lv_isub hx hb dX3_press_85 ?_
      refine x_iast X hH 2 rfl (by omega) (by decide) dX3_press_86 (fun g_9 H locs eg_9 hH => ?_)
      have hH : HH G sT ([oC aI 3 [.ref i1, .ref i2, .ref i3, .int (R 4), .int (R 5), .int (R 6)], iC G i1 10 g1, iC G i2 10 g_9, iC G i3 10 g3] ++ wr) H locs := hH
      refine lv_aload_n hx hb dX3_press_87 rfl (lv_at hl 0 rfl) ?_
      refine x_get X hH.1.1 in_X3 (mem_k 0 rfl) rfl 2 (by decide) q152 (fun _ h => h) rfl dX3_press_88 ?_
      refine lv_iload_n hx hb dX3_press_91 rfl (lv_at hl 1 rfl) ?_
      refine lv_dup2_11 hx hb dX3_press_92 rfl rfl ?_
      refine x_iald X hH.1.1 (mem_k 3 rfl) (by omega) (by decide) dX3_press_93 ?_
      refine lv_iconst (v := nI 1) hx hb dX3_press_94 (by decide) ?_
      refine lv_iadd hx hb dX3_press_95 ?_
      refine x_iast X hH 3 rfl (by omega) (by decide) dX3_press_96 (fun g_10 H locs eg_10 hH => ?_)
      have hH : HH G sT ([oC aI 3 [.ref i1, .ref i2, .ref i3, .int (R 4), .int (R 5), .int (R 6)], iC G i1 10 g1, iC G i2 10 g_9, iC G i3 10 g_10] ++ wr) H locs := hH
      refine lv_aload_n hx hb dX3_press_97 rfl (lv_at hl 0 rfl) ?_
      refine lv_dup hx hb dX3_press_98 rfl ?_
      refine x_get X hH.1.1 in_X3 (mem_k 0 rfl) rfl 3 (by decide) q155 (fun _ h => h) rfl dX3_press_99 ?_
      refine lv_iconst (v := nI 1) hx hb dX3_press_102 (by decide) ?_
      refine lv_iadd hx hb dX3_press_103 ?_
      refine x_put X hH in_X3 tyX3 tyX3_ok nmX3 0 rfl rfl 3 (by decide) q155 (fun _ h => h) rfl (ty := .int) (by decide +kernel) rfl rfl (Nat.le_of_ble_eq_true rfl) dX3_press_104 (fun H locs hH => ?_)
      have hH : HH G sT ([oC aI 3 [.ref i1, .ref i2, .ref i3, .int ((R 4) + (nI 1)), .int (R 5), .int (R 6)], iC G i1 10 g1, iC G i2 10 g_9, iC G i3 10 g_10] ++ wr) H locs := hH
      exact ret _ _ _ _ _ _ _ hH (⟨_, _, _, hK.prs hs, by unfold inkW; rw [prs_4, prs_5, prs_6, hc, if_neg Bool.false_ne_true, if_neg Bool.false_ne_true, if_neg Bool.false_ne_true, if_neg Bool.false_ne_true, eg_10, eg_9]⟩) (Nat.le_of_ble_eq_true rfl) (Nat.le_of_ble_eq_true rfl) dX3_press_107
    · refine lv_aload_n hx hb dX3_press_19 rfl (lv_at hl 0 rfl) ?_
      refine lv_dup hx hb dX3_press_20 rfl ?_
      refine x_get X hH.1.1 in_X3 (mem_k 0 rfl) rfl 4 (by decide) q157 (fun _ h => h) rfl dX3_press_21 ?_
      refine lv_iconst (v := nI 1) hx hb dX3_press_24 (by decide) ?_
      refine lv_iadd hx hb dX3_press_25 ?_
      refine x_put X hH in_X3 tyX3 tyX3_ok nmX3 0 rfl rfl 4 (by decide) q157 (fun _ h => h) rfl (ty := .int) (by decide +kernel) rfl rfl (Nat.le_of_ble_eq_true rfl) dX3_press_26 (fun H locs hH => ?_)
      have hH : HH G sT ([oC aI 3 [.ref i1, .ref i2, .ref i3, .int (R 4), .int ((R 5) + (nI 1)), .int (R 6)], iC G i1 10 g1, iC G i2 10 g2, iC G i3 10 g3] ++ wr) H locs := hH
      refine lv_aload_n hx hb dX3_press_29 rfl (lv_at hl 0 rfl) ?_
      refine lv_dup hx hb dX3_press_30 rfl ?_
      refine x_get X hH.1.1 in_X3 (mem_k 0 rfl) rfl 5 (by decide) q159 (fun _ h => h) rfl dX3_press_31 ?_
      refine lv_aload_n hx hb dX3_press_34 rfl (lv_at hl 0 rfl) ?_
      refine x_get X hH.1.1 in_X3 (mem_k 0 rfl) rfl 0 (by decide) q148 (fun _ h => h) rfl dX3_press_35 ?_
      refine lv_iload_n hx hb dX3_press_38 rfl (lv_at hl 1 rfl) ?_
      refine x_iald X hH.1.1 (mem_k 1 rfl) (by omega) (by decide) dX3_press_39 ?_
      refine lv_iload_n hx hb dX3_press_40 rfl (lv_at hl 2 rfl) ?_
      refine lv_icmp_eq (tgt := 58) hx hb dX3_press_41 (by decide) (fun c3 => ?_) (fun c3 => absurd c1 c3)
      refine lv_iconst (v := nI 0) hx hb dX3_press_58 (by decide) ?_
      refine lv_iadd hx hb dX3_press_59 ?_
      refine x_put X hH in_X3 tyX3 tyX3_ok nmX3 0 rfl rfl 5 (by decide) q159 (fun _ h => h) rfl (ty := .int) (by decide +kernel) rfl rfl (Nat.le_of_ble_eq_true rfl) dX3_press_60 (fun H locs hH => ?_)
      have hH : HH G sT ([oC aI 3 [.ref i1, .ref i2, .ref i3, .int (R 4), .int ((R 5) + (nI 1)), .int ((R 6) + (nI 0))], iC G i1 10 g1, iC G i2 10 g2, iC G i3 10 g3] ++ wr) H locs := hH
      refine lv_aload_n hx hb dX3_press_63 rfl (lv_at hl 0 rfl) ?_
      refine x_get X hH.1.1 in_X3 (mem_k 0 rfl) rfl 0 (by decide) q148 (fun _ h => h) rfl dX3_press_64 ?_
      refine lv_iload_n hx hb dX3_press_67 rfl (lv_at hl 1 rfl) ?_
      refine lv_iload_n hx hb dX3_press_68 rfl (lv_at hl 2 rfl) ?_
      refine x_iast X hH 1 rfl (by omega) (by decide) dX3_press_69 (fun g_11 H locs eg_11 hH => ?_)
      have hH : HH G sT ([oC aI 3 [.ref i1, .ref i2, .ref i3, .int (R 4), .int ((R 5) + (nI 1)), .int ((R 6) + (nI 0))], iC G i1 10 g_11, iC G i2 10 g2, iC G i3 10 g3] ++ wr) H locs := hH
      refine lv_aload_n hx hb dX3_press_70 rfl (lv_at hl 0 rfl) ?_
      refine x_get X hH.1.1 in_X3 (mem_k 0 rfl) rfl 1 (by decide) q150 (fun _ h => h) rfl dX3_press_71 ?_
      refine lv_iload_n hx hb dX3_press_74 rfl (lv_at hl 1 rfl) ?_
      refine lv_iload_n hx hb dX3_press_75 rfl (lv_at hl 3 rfl) ?_
      refine x_iast X hH 2 rfl (by omega) (by decide) dX3_press_76 (fun g_12 H locs eg_12 hH => ?_)
      have hH : HH G sT ([oC aI 3 [.ref i1, .ref i2, .ref i3, .int (R 4), .int ((R 5) + (nI 1)), .int ((R 6) + (nI 0))], iC G i1 10 g_11, iC G i2 10 g_12, iC G i3 10 g3] ++ wr) H locs := hH
      have hc : cAB R sN cl = true := by unfold cAB; rw [← e1, ← e2, c2, show decide ((0 : Int32) = nI 0) = true from rfl, Bool.or_true]
      refine lv_aload_n hx hb dX3_press_77 rfl (lv_at hl 0 rfl) ?_
      refine x_get X hH.1.1 in_X3 (mem_k 0 rfl) rfl 1 (by decide) q150 (fun _ h => h) rfl dX3_press_78 ?_
      refine lv_iload_n hx hb dX3_press_81 rfl (lv_at hl 1 rfl) ?_
      refine lv_dup2_11 hx hb dX3_press_82 rfl rfl ?_
      refine x_iald X hH.1.1 (mem_k 2 rfl) (by omega) (by decide) dX3_press_83 ?_
      refine lv_iconst (v := nI 1) hx hb dX3_press_84 (by decide) ?_
      refine lv_isub hx hb dX3_press_85 ?_
      refine x_iast X hH 2 rfl (by omega) (by decide) dX3_press_86 (fun g_13 H locs eg_13 hH => ?_)
      have hH : HH G sT ([oC aI 3 [.ref i1, .ref i2, .ref i3, .int (R 4), .int ((R 5) + (nI 1)), .int ((R 6) + (nI 0))], iC G i1 10 g_11, iC G i2 10 g_13, iC G i3 10 g3] ++ wr) H locs := hH
      refine lv_aload_n hx hb dX3_press_87 rfl (lv_at hl 0 rfl) ?_
      refine x_get X hH.1.1 in_X3 (mem_k 0 rfl) rfl 2 (by decide) q152 (fun _ h => h) rfl dX3_press_88 ?_
      refine lv_iload_n hx hb dX3_press_91 rfl (lv_at hl 1 rfl) ?_
      refine lv_dup2_11 hx hb dX3_press_92 rfl rfl ?_
      refine x_iald X hH.1.1 (mem_k 3 rfl) (by omega) (by decide) dX3_press_93 ?_
      refine lv_iconst (v := nI 1) hx hb dX3_press_94 (by decide) ?_
      refine lv_iadd hx hb dX3_press_95 ?_
      refine x_iast X hH 3 rfl (by omega) (by decide) dX3_press_96 (fun g_14 H locs eg_14 hH => ?_)
      have hH : HH G sT ([oC aI 3 [.ref i1, .ref i2, .ref i3, .int (R 4), .int ((R 5) + (nI 1)), .int ((R 6) + (nI 0))], iC G i1 10 g_11, iC G i2 10 g_13, iC G i3 10 g_14] ++ wr) H locs := hH
      refine lv_aload_n hx hb dX3_press_97 rfl (lv_at hl 0 rfl) ?_
      refine lv_dup hx hb dX3_press_98 rfl ?_
      refine x_get X hH.1.1 in_X3 (mem_k 0 rfl) rfl 3 (by decide) q155 (fun _ h => h) rfl dX3_press_99 ?_
      refine lv_iconst (v := nI 1) hx hb dX3_press_102 (by decide) ?_
      refine lv_iadd hx hb dX3_press_103 ?_
      refine x_put X hH in_X3 tyX3 tyX3_ok nmX3 0 rfl rfl 3 (by decide) q155 (fun _ h => h) rfl (ty := .int) (by decide +kernel) rfl rfl (Nat.le_of_ble_eq_true rfl) dX3_press_104 (fun H locs hH => ?_)
      have hH : HH G sT ([oC aI 3 [.ref i1, .ref i2, .ref i3, .int ((R 4) + (nI 1)), .int ((R 5) + (nI 1)), .int ((R 6) + (nI 0))], iC G i1 10 g_11, iC G i2 10 g_13, iC G i3 10 g_14] ++ wr) H locs := hH
      exact ret _ _ _ _ _ _ _ hH (⟨_, _, _, hK.prs hs, by unfold inkW; rw [prs_4, prs_5, prs_6, hc, if_pos rfl, if_pos rfl, if_pos rfl, if_pos rfl, show (decide (R (7 + 9 * sN + 6) ≠ cl) && decide (R (7 + 9 * sN + 6) ≠ -1)) = false from by rw [← e1, c1]; simp, if_neg Bool.false_ne_true, eg_14, eg_13, eg_12, updUpd, updEq, eg_11]⟩) (Nat.le_of_ble_eq_true rfl) (Nat.le_of_ble_eq_true rfl) dX3_press_107
theorem InkR.cpy {f1 f2 f3 : Nat → Int32} (hK : InkR R f1 f2 f3) (hS : nS R ≤ 10) : InkR R (va_cpy f1 g1 0 0 10) (va_cpy f2 g2 0 0 10) (va_cpy f3 g3 0 0 10) := by
  have e : ∀ (f g : Nat → Int32) s, s < 10 → va_cpy f g 0 0 10 s = f s := fun f g s h => by have := cpyAt (f := f) (g := g) (sp := 0) (dp := 0) h; rw [Nat.zero_add] at this; exact this
  exact ⟨fun s hs => by rw [e _ _ s (by omega), e _ _ s (by omega), e _ _ s (by omega)]; exact hK.1 s hs, fun s h1 h2 => by rw [e _ _ s h2, e _ _ s h2, e _ _ s h2]; exact hK.2 s h1 h2⟩
theorem hdv_X3_takes : yX3_takes.cls = RX3 ∧ yX3_takes.cls ≠ "java/lang/invoke/MethodHandle" ∧ yX3_takes.cls ≠ "java/lang/invoke/VarHandle" ∧ (parseMethodDescriptor yX3_takes.desc).map (fun d => d.parameters.length) = some 1 := by decide +kernel
theorem c_X3_takes (hE : EnvOK G E) {aO : Nat} {x y z : Int32} (hI : Ink G wr aO R) (hS : nS R ≤ 10) : MU vA l G E yX3_takes cX3_takes 2 (some (.object "RubberStamps$Inks")) 1 0 0 [.ref aI, .ref aO] ([oC aI 3 [.ref i1, .ref i2, .ref i3, .int x, .int y, .int z], iC G i1 10 g1, iC G i2 10 g2, iC G i3 10 g3] ++ wr) (fun r w => ∃ h1 h2 h3, InkR R h1 h2 h3 ∧ aI = r ∧ w = inkW G aI i1 i2 i3 R h1 h2 h3 ++ wr) := by
  refine MUa hE (by decide) (Nat.le_of_ble_eq_true rfl) (Or.inl ⟨_, rfl⟩) (fun pR eV sT mI below meth cd QQ ls X hH hl ret => ?_)
  obtain ⟨⟨hx, hb, hml, hown, hts⟩, ⟨hr, hlk⟩, -, -, -⟩ := id X
  have hl : lv_has ls 2 [(0, .ref aI), (1, .ref aO)] := hl
  refine wgen (H := sT.heap) (locs := []) hH (fun H locs hH => ?_)
  obtain ⟨j1, j2, j3, f1, f2, f3, hm, hK⟩ := hI
  refine lv_aload_n hx hb dX3_takes_0 rfl (lv_at hl 1 rfl) ?_
  refine x_get X hH.1.1 in_X3 (mem_r (hm _ (mem_k (ws := inkW G aO j1 j2 j3 R f1 f2 f3) 0 rfl))) rfl 0 (by decide) q148 (fun _ h => h) rfl dX3_takes_1 ?_
  refine lv_iconst (v := nI 0) hx hb dX3_takes_4 (by decide) ?_
  refine lv_aload_n hx hb dX3_takes_5 rfl (lv_at hl 0 rfl) ?_
  refine x_get X hH.1.1 in_X3 (mem_k 0 rfl) rfl 0 (by decide) q148 (fun _ h => h) rfl dX3_takes_6 ?_
  refine lv_iconst (v := nI 0) hx hb dX3_takes_9 (by decide) ?_
  refine lv_bipush (v := nI 10) hx hb dX3_takes_10 (by decide) ?_
  refine x_copyi X hl.1 q912 q508 q507 q87 hH 1 (mem_r (hm _ (mem_k (ws := inkW G aO j1 j2 j3 R f1 f2 f3) 1 rfl))) rfl (by omega) (by omega) (by decide) (by decide) (Nat.le_of_ble_eq_true rfl) (Nat.le_of_ble_eq_true rfl) dX3_takes_12 (fun H locs hH => ?_)
  have hH : HH G sT ([oC aI 3 [.ref i1, .ref i2, .ref i3, .int x, .int y, .int z], iC G i1 10 (va_cpy f1 g1 0 0 10), iC G i2 10 g2, iC G i3 10 g3] ++ wr) H locs := hH
  refine lv_aload_n hx hb dX3_takes_15 rfl (lv_at hl 1 rfl) ?_
  refine x_get X hH.1.1 in_X3 (mem_r (hm _ (mem_k (ws := inkW G aO j1 j2 j3 R f1 f2 f3) 0 rfl))) rfl 1 (by decide) q150 (fun _ h => h) rfl dX3_takes_16 ?_
  refine lv_iconst (v := nI 0) hx hb dX3_takes_19 (by decide) ?_
  refine lv_aload_n hx hb dX3_takes_20 rfl (lv_at hl 0 rfl) ?_
  refine x_get X hH.1.1 in_X3 (mem_k 0 rfl) rfl 1 (by decide) q150 (fun _ h => h) rfl dX3_takes_21 ?_
  refine lv_iconst (v := nI 0) hx hb dX3_takes_24 (by decide) ?_
  refine lv_bipush (v := nI 10) hx hb dX3_takes_25 (by decide) ?_
  refine x_copyi X hl.1 q912 q508 q507 q87 hH 2 (mem_r (hm _ (mem_k (ws := inkW G aO j1 j2 j3 R f1 f2 f3) 2 rfl))) rfl (by omega) (by omega) (by decide) (by decide) (Nat.le_of_ble_eq_true rfl) (Nat.le_of_ble_eq_true rfl) dX3_takes_27 (fun H locs hH => ?_)
  have hH : HH G sT ([oC aI 3 [.ref i1, .ref i2, .ref i3, .int x, .int y, .int z], iC G i1 10 (va_cpy f1 g1 0 0 10), iC G i2 10 (va_cpy f2 g2 0 0 10), iC G i3 10 g3] ++ wr) H locs := hH
  refine lv_aload_n hx hb dX3_takes_30 rfl (lv_at hl 1 rfl) ?_
  refine x_get X hH.1.1 in_X3 (mem_r (hm _ (mem_k (ws := inkW G aO j1 j2 j3 R f1 f2 f3) 0 rfl))) rfl 2 (by decide) q152 (fun _ h => h) rfl dX3_takes_31 ?_
  refine lv_iconst (v := nI 0) hx hb dX3_takes_34 (by decide) ?_
  refine lv_aload_n hx hb dX3_takes_35 rfl (lv_at hl 0 rfl) ?_
  refine x_get X hH.1.1 in_X3 (mem_k 0 rfl) rfl 2 (by decide) q152 (fun _ h => h) rfl dX3_takes_36 ?_
  refine lv_iconst (v := nI 0) hx hb dX3_takes_39 (by decide) ?_
  refine lv_bipush (v := nI 10) hx hb dX3_takes_40 (by decide) ?_
  refine x_copyi X hl.1 q912 q508 q507 q87 hH 3 (mem_r (hm _ (mem_k (ws := inkW G aO j1 j2 j3 R f1 f2 f3) 3 rfl))) rfl (by omega) (by omega) (by decide) (by decide) (Nat.le_of_ble_eq_true rfl) (Nat.le_of_ble_eq_true rfl) dX3_takes_42 (fun H locs hH => ?_)
  have hH : HH G sT ([oC aI 3 [.ref i1, .ref i2, .ref i3, .int x, .int y, .int z], iC G i1 10 (va_cpy f1 g1 0 0 10), iC G i2 10 (va_cpy f2 g2 0 0 10), iC G i3 10 (va_cpy f3 g3 0 0 10)] ++ wr) H locs := hH
  refine lv_aload_n hx hb dX3_takes_45 rfl (lv_at hl 0 rfl) ?_
  refine lv_aload_n hx hb dX3_takes_46 rfl (lv_at hl 1 rfl) ?_
  refine x_get X hH.1.1 in_X3 (mem_r (hm _ (mem_k (ws := inkW G aO j1 j2 j3 R f1 f2 f3) 0 rfl))) rfl 3 (by decide) q155 (fun _ h => h) rfl dX3_takes_47 ?_
  refine x_put X hH in_X3 tyX3 tyX3_ok nmX3 0 rfl rfl 3 (by decide) q155 (fun _ h => h) rfl (ty := .int) (by decide +kernel) rfl rfl (Nat.le_of_ble_eq_true rfl) dX3_takes_50 (fun H locs hH => ?_)
  have hH : HH G sT ([oC aI 3 [.ref i1, .ref i2, .ref i3, .int (R 4), .int y, .int z], iC G i1 10 (va_cpy f1 g1 0 0 10), iC G i2 10 (va_cpy f2 g2 0 0 10), iC G i3 10 (va_cpy f3 g3 0 0 10)] ++ wr) H locs := hH
  refine lv_aload_n hx hb dX3_takes_53 rfl (lv_at hl 0 rfl) ?_
  refine lv_aload_n hx hb dX3_takes_54 rfl (lv_at hl 1 rfl) ?_
  refine x_get X hH.1.1 in_X3 (mem_r (hm _ (mem_k (ws := inkW G aO j1 j2 j3 R f1 f2 f3) 0 rfl))) rfl 4 (by decide) q157 (fun _ h => h) rfl dX3_takes_55 ?_
  refine x_put X hH in_X3 tyX3 tyX3_ok nmX3 0 rfl rfl 4 (by decide) q157 (fun _ h => h) rfl (ty := .int) (by decide +kernel) rfl rfl (Nat.le_of_ble_eq_true rfl) dX3_takes_58 (fun H locs hH => ?_)
  have hH : HH G sT ([oC aI 3 [.ref i1, .ref i2, .ref i3, .int (R 4), .int (R 5), .int z], iC G i1 10 (va_cpy f1 g1 0 0 10), iC G i2 10 (va_cpy f2 g2 0 0 10), iC G i3 10 (va_cpy f3 g3 0 0 10)] ++ wr) H locs := hH
  refine lv_aload_n hx hb dX3_takes_61 rfl (lv_at hl 0 rfl) ?_
  refine lv_aload_n hx hb dX3_takes_62 rfl (lv_at hl 1 rfl) ?_
  refine x_get X hH.1.1 in_X3 (mem_r (hm _ (mem_k (ws := inkW G aO j1 j2 j3 R f1 f2 f3) 0 rfl))) rfl 5 (by decide) q159 (fun _ h => h) rfl dX3_takes_63 ?_
  refine x_put X hH in_X3 tyX3 tyX3_ok nmX3 0 rfl rfl 5 (by decide) q159 (fun _ h => h) rfl (ty := .int) (by decide +kernel) rfl rfl (Nat.le_of_ble_eq_true rfl) dX3_takes_66 (fun H locs hH => ?_)
  have hH : HH G sT ([oC aI 3 [.ref i1, .ref i2, .ref i3, .int (R 4), .int (R 5), .int (R 6)], iC G i1 10 (va_cpy f1 g1 0 0 10), iC G i2 10 (va_cpy f2 g2 0 0 10), iC G i3 10 (va_cpy f3 g3 0 0 10)] ++ wr) H locs := hH
  refine lv_aload_n hx hb dX3_takes_69 rfl (lv_at hl 0 rfl) ?_
  exact ret _ _ _ _ _ _ _ _ hH (⟨_, _, _, InkR.cpy hK hS, rfl, rfl⟩) (Nat.le_of_ble_eq_true rfl) (Nat.le_of_ble_eq_true rfl) dX3_takes_70
theorem hdv_X3_usable : yX3_usable.cls = RX3 ∧ yX3_usable.cls ≠ "java/lang/invoke/MethodHandle" ∧ yX3_usable.cls ≠ "java/lang/invoke/VarHandle" ∧ (parseMethodDescriptor yX3_usable.desc).map (fun d => d.parameters.length) = some 2 := by decide +kernel
theorem c_X3_usable (hE : EnvOK G E) {x y z : Int32} (h0 : oC aI 3 [.ref i1, .ref i2, .ref i3, .int x, .int y, .int z] ∈ ws) (h3 : iC G i3 10 g3 ∈ ws) (hg : ∀ s, s < nS R → g3 s = R (7 + 9 * s + 8)) (hS : nS R ≤ 10) : RO l G E yX3_usable cX3_usable 5 .int 1 [.ref aI, .int (nI (nS R)), .int (R 2)] (va_P G.1 cls (ws)) (.int (frM R)) := by
  refine ROi hE (by decide) (Nat.le_of_ble_eq_true rfl) (fun pR eV sT mI below meth cd QQ ls X hP hl ret => ?_)
  obtain ⟨⟨hx, hb, hml, hown, hts⟩, ⟨hr, hlk⟩, -, -, -⟩ := id X
  have hl : lv_has ls 5 [(0, .ref aI), (1, .int (nI (nS R))), (2, .int (R 2))] := hl
  refine lv_iconst (v := nI 0) hx hb dX3_usable_0 (by decide) ?_
  refine lv_istore_n (lv' := [(3, .int (nI 0)), (0, .ref aI), (1, .int (nI (nS R))), (2, .int (R 2))]) hx hb dX3_usable_1 rfl hl (by decide) rfl (fun ls hl => ?_)
  refine lv_iconst (v := nI 0) hx hb dX3_usable_2 (by decide) ?_
  refine lv_istore (lv' := [(4, .int (nI 0)), (3, .int (nI 0)), (0, .ref aI), (1, .int (nI (nS R))), (2, .int (R 2))]) hx hb dX3_usable_3 hl (by decide) rfl (fun ls hl => ?_)
  have hl : lv_has ls 5 [(4, .int (nI 0)), (3, .int (frI R 0)), (0, .ref aI), (1, .int (nI (nS R))), (2, .int (R 2))] := by rw [← (show (nI 0 : Int32) = frI R 0 from rfl)]; exact hl
  have lp : ∀ (fu : Nat) (kN : Nat), (kN ≤ nS R) → nS R - kN < fu → ∀ ls : Array Slot, lv_has ls 5 [(0, .ref aI), (1, .int (nI (nS R))), (2, .int (R 2)), (3, .int (frI R kN)), (4, .int (nI kN))] → W pR l eV (Rm 1 0 0) sT mI ([.ref aI, .int (nI (nS R)), .int (R 2)] : List Value).toArray below meth cd sT.heap [] 0 0 QQ (F0 mI 5 ls []) := by
    intro fu
    induction fu with
    | zero => intro kN hk hm; exact absurd hm (Nat.not_lt_zero _)
    | succ fu ih_lp =>
      intro kN hk hm  ls hl
      refine lv_iload hx hb dX3_usable_5 (lv_at hl 4 rfl) ?_
      refine lv_iload_n hx hb dX3_usable_7 rfl (lv_at hl 1 rfl) ?_
      refine n_icmp_ge (tgt := 39) hx hb (by omega) (by omega) dX3_usable_8 (by decide) (fun c1 => ?_) (fun c1 => ?_)
      · refine lv_iload_n hx hb dX3_usable_39 rfl (lv_at hl 3 rfl) ?_
        exact ret _ _ _ (by rw [show kN = nS R by omega]; rfl) dX3_usable_40
      · refine lv_iload_n hx hb dX3_usable_11 rfl (lv_at hl 3 rfl) ?_
        refine lv_aload_n hx hb dX3_usable_12 rfl (lv_at hl 0 rfl) ?_
        refine x_get X hP in_X3 h0 rfl 2 (by decide) q152 (fun _ h => h) rfl dX3_usable_13 ?_
        refine lv_iload hx hb dX3_usable_16 (lv_at hl 4 rfl) ?_
        refine x_iald X hP h3 (by omega) (by decide) dX3_usable_18 ?_
        refine lv_iload_n hx hb dX3_usable_19 rfl (lv_at hl 2 rfl) ?_
        have e3 := hg kN c1
        refine lv_icmp_lt (tgt := 27) hx hb dX3_usable_20 (by decide) (fun c2 => ?_) (fun c2 => ?_)
        · refine lv_iconst (v := nI 1) hx hb dX3_usable_27 (by decide) ?_
          refine lv_iload hx hb dX3_usable_28 (lv_at hl 4 rfl) ?_
          refine lv_ishl hx hb dX3_usable_30 ?_
          refine lv_ior hx hb dX3_usable_31 ?_
          refine n_top (y := frI R (kN + 1)) (by rw [frI, show wornB R kN = false from decide_eq_false (by rw [← e3]; exact Int32.not_le.mpr c2), if_neg Bool.false_ne_true]) ?_
          refine lv_istore_n (lv' := [(3, .int (frI R (kN + 1))), (0, .ref aI), (1, .int (nI (nS R))), (2, .int (R 2)), (4, .int (nI kN))]) hx hb dX3_usable_32 rfl hl (by decide) rfl (fun ls hl => ?_)
          refine lv_iinc (v := nI (kN + 1)) (lv' := [(4, .int (nI (kN + 1))), (3, .int (frI R (kN + 1))), (0, .ref aI), (1, .int (nI (nS R))), (2, .int (R 2))]) hx hb dX3_usable_33 hl (k := 4) rfl (nI_add _ 1) (by decide) rfl (fun ls hl => ?_)
          refine lv_goto (tgt := 5) hx hb dX3_usable_36 (by decide) ?_
          exact ih_lp (kN + 1)  (by omega) (by omega) ls (lv_sub hl [2, 3, 4, 1, 0] rfl)
        · refine lv_iconst (v := nI 0) hx hb dX3_usable_23 (by decide) ?_
          refine lv_goto (tgt := 31) hx hb dX3_usable_24 (by decide) ?_
          refine lv_ior hx hb dX3_usable_31 ?_
          refine n_top (y := frI R (kN + 1)) (by rw [frI, show wornB R kN = true from decide_eq_true (by rw [← e3]; exact Int32.not_lt.mp c2), if_pos rfl]) ?_
          refine lv_istore_n (lv' := [(3, .int (frI R (kN + 1))), (0, .ref aI), (1, .int (nI (nS R))), (2, .int (R 2)), (4, .int (nI kN))]) hx hb dX3_usable_32 rfl hl (by decide) rfl (fun ls hl => ?_)
          refine lv_iinc (v := nI (kN + 1)) (lv' := [(4, .int (nI (kN + 1))), (3, .int (frI R (kN + 1))), (0, .ref aI), (1, .int (nI (nS R))), (2, .int (R 2))]) hx hb dX3_usable_33 hl (k := 4) rfl (nI_add _ 1) (by decide) rfl (fun ls hl => ?_)
          refine lv_goto (tgt := 5) hx hb dX3_usable_36 (by decide) ?_
          exact ih_lp (kN + 1)  (by omega) (by omega) ls (lv_sub hl [2, 3, 4, 1, 0] rfl)
  exact lp _ 0  (Nat.zero_le _) (Nat.lt_succ_self _) ls (lv_sub hl [2, 3, 4, 1, 0] rfl)
theorem cln_at {had : Int32} {k : Nat} : clnR R sN had k = if k = 7 + 9 * sN + 7 then nI 0 else if k = 7 + 9 * sN + 6 then -1 else if k = 6 then R 6 + had else R k := rfl
theorem cln_o {had : Int32} {k : Nat} (h1 : k ≠ 7 + 9 * sN + 7) (h2 : k ≠ 7 + 9 * sN + 6) (h3 : k ≠ 6) : clnR R sN had k = R k := by rw [cln_at, if_neg h1, if_neg h2, if_neg h3]
theorem cln_4 {had : Int32} : clnR R sN had 4 = R 4 := cln_o (by omega) (by omega) (by omega)
theorem cln_5 {had : Int32} : clnR R sN had 5 = R 5 := cln_o (by omega) (by omega) (by omega)
theorem cln_6 {had : Int32} : clnR R sN had 6 = R 6 + had := by rw [cln_at, if_neg (by omega), if_neg (by omega), if_pos rfl]
theorem cln_nS {had : Int32} : nS (clnR R sN had) = nS R := rn_congr (cln_o (by omega) (by omega) (by omega))
theorem InkR.cln {had : Int32} (hK : InkR R g1 g2 g3) (hs : sN < nS R) : InkR (clnR R sN had) (upd g1 sN (-1)) (upd g2 sN (nI 0)) g3 := by
  refine ⟨fun s h => ?_, fun s h1 h2 => ?_⟩
  · rw [cln_nS] at h
    obtain ⟨e1, e2, e3⟩ := hK.1 s h
    rw [cln_o (k := 7 + 9 * s + 8) (by omega) (by omega) (by omega)]
    by_cases q : s = sN
    · subst q
      rw [pk_us, pk_us, cln_at, if_neg (by omega), if_pos rfl, cln_at, if_pos rfl]
      exact ⟨rfl, rfl, e3⟩
    · rw [pk_un q, pk_un q, cln_o (by omega) (by omega) (by omega), cln_o (by omega) (by omega) (by omega)]
      exact ⟨e1, e2, e3⟩
  · rw [cln_nS] at h1
    rw [pk_un (by omega), pk_un (by omega)]
    exact hK.2 s h1 h2
theorem hdv_X3_clean : yX3_clean.cls = RX3 ∧ yX3_clean.cls ≠ "java/lang/invoke/MethodHandle" ∧ yX3_clean.cls ≠ "java/lang/invoke/VarHandle" ∧ (parseMethodDescriptor yX3_clean.desc).map (fun d => d.parameters.length) = some 1 := by decide +kernel
theorem c_X3_clean (hE : EnvOK G E) (hK : InkR R g1 g2 g3) (hS : nS R ≤ 10) (hs : sN < nS R) : MU vI l G E yX3_clean cX3_clean 3 (some .int) 1 0 0 [.ref aI, .int (nI sN)] ([oC aI 3 [.ref i1, .ref i2, .ref i3, .int (R 4), .int (R 5), .int (R 6)], iC G i1 10 g1, iC G i2 10 g2, iC G i3 10 g3] ++ wr) (fun r w => r = hadI R sN ∧ ∃ h1 h2 h3, InkR (clnR R sN (hadI R sN)) h1 h2 h3 ∧ w = inkW G aI i1 i2 i3 (clnR R sN (hadI R sN)) h1 h2 h3 ++ wr) := by
  refine MUi hE (by decide) (Nat.le_of_ble_eq_true rfl) (fun pR eV sT mI below meth cd QQ ls X hH hl ret => ?_)
  obtain ⟨⟨hx, hb, hml, hown, hts⟩, ⟨hr, hlk⟩, -, -, -⟩ := id X
  have hl : lv_has ls 3 [(0, .ref aI), (1, .int (nI sN))] := hl
  refine wgen (H := sT.heap) (locs := []) hH (fun H locs hH => ?_)
  obtain ⟨e1, e2, e3⟩ := hK.1 sN hs
  refine lv_aload_n hx hb dX3_clean_0 rfl (lv_at hl 0 rfl) ?_
  refine x_get X hH.1.1 in_X3 (mem_k 0 rfl) rfl 0 (by decide) q148 (fun _ h => h) rfl dX3_clean_1 ?_
  refine lv_iload_n hx hb dX3_clean_4 rfl (lv_at hl 1 rfl) ?_
  refine x_iald X hH.1.1 (mem_k 1 rfl) (by omega) (by decide) dX3_clean_5 ?_
  refine lv_iconst (v := (-1)) hx hb dX3_clean_6 (by decide) ?_
  refine lv_icmp_ne (tgt := 14) hx hb dX3_clean_7 (by decide) (fun c1 => ?_) (fun c1 => ?_)
  · refine lv_iconst (v := nI 1) hx hb dX3_clean_14 (by decide) ?_
    refine lv_istore_n (lv' := [(2, .int (nI 1)), (0, .ref aI), (1, .int (nI sN))]) hx hb dX3_clean_15 rfl hl (by decide) rfl (fun ls hl => ?_)
    refine lv_aload_n hx hb dX3_clean_16 rfl (lv_at hl 1 rfl) ?_
    refine x_get X hH.1.1 in_X3 (mem_k 0 rfl) rfl 0 (by decide) q148 (fun _ h => h) rfl dX3_clean_17 ?_
    refine lv_iload_n hx hb dX3_clean_20 rfl (lv_at hl 2 rfl) ?_
    refine lv_iconst (v := (-1)) hx hb dX3_clean_21 (by decide) ?_
    refine x_iast X hH 1 rfl (by omega) (by decide) dX3_clean_22 (fun g_1 H locs eg_1 hH => ?_)
    have hH : HH G sT ([oC aI 3 [.ref i1, .ref i2, .ref i3, .int (R 4), .int (R 5), .int (R 6)], iC G i1 10 g_1, iC G i2 10 g2, iC G i3 10 g3] ++ wr) H locs := hH
    refine lv_aload_n hx hb dX3_clean_23 rfl (lv_at hl 1 rfl) ?_
    refine x_get X hH.1.1 in_X3 (mem_k 0 rfl) rfl 1 (by decide) q150 (fun _ h => h) rfl dX3_clean_24 ?_
    refine lv_iload_n hx hb dX3_clean_27 rfl (lv_at hl 2 rfl) ?_
    refine lv_iconst (v := nI 0) hx hb dX3_clean_28 (by decide) ?_
    refine x_iast X hH 2 rfl (by omega) (by decide) dX3_clean_29 (fun g_2 H locs eg_2 hH => ?_)
    have hH : HH G sT ([oC aI 3 [.ref i1, .ref i2, .ref i3, .int (R 4), .int (R 5), .int (R 6)], iC G i1 10 g_1, iC G i2 10 g_2, iC G i3 10 g3] ++ wr) H locs := hH
    refine lv_aload_n hx hb dX3_clean_30 rfl (lv_at hl 1 rfl) ?_
    refine lv_dup hx hb dX3_clean_31 rfl ?_
    refine x_get X hH.1.1 in_X3 (mem_k 0 rfl) rfl 5 (by decide) q159 (fun _ h => h) rfl dX3_clean_32 ?_
    refine lv_iload_n hx hb dX3_clean_35 rfl (lv_at hl 0 rfl) ?_
    refine lv_iadd hx hb dX3_clean_36 ?_
    refine x_put X hH in_X3 tyX3 tyX3_ok nmX3 0 rfl rfl 5 (by decide) q159 (fun _ h => h) rfl (ty := .int) (by decide +kernel) rfl rfl (Nat.le_of_ble_eq_true rfl) dX3_clean_37 (fun H locs hH => ?_)
    have hH : HH G sT ([oC aI 3 [.ref i1, .ref i2, .ref i3, .int (R 4), .int (R 5), .int ((R 6) + (nI 1))], iC G i1 10 g_1, iC G i2 10 g_2, iC G i3 10 g3] ++ wr) H locs := hH
    refine lv_iload_n hx hb dX3_clean_40 rfl (lv_at hl 0 rfl) ?_
    exact ret _ _ _ _ _ _ _ _ hH (⟨(show hadI R sN = nI 1 from by unfold hadI; rw [if_neg (by rw [← e1]; exact c1)]).symm, _, _, _, hK.cln hs, by unfold inkW; rw [eg_1, eg_2, cln_4, cln_5, cln_6, (show hadI R sN = nI 1 from by unfold hadI; rw [if_neg (by rw [← e1]; exact c1)])]⟩) (Nat.le_of_ble_eq_true rfl) (Nat.le_of_ble_eq_true rfl) dX3_clean_41
  · refine lv_iconst (v := nI 0) hx hb dX3_clean_10 (by decide) ?_
    refine lv_goto (tgt := 15) hx hb dX3_clean_11 (by decide) ?_
    refine lv_istore_n (lv' := [(2, .int (nI 0)), (0, .ref aI), (1, .int (nI sN))]) hx hb dX3_clean_15 rfl hl (by decide) rfl (fun ls hl => ?_)
    refine lv_aload_n hx hb dX3_clean_16 rfl (lv_at hl 1 rfl) ?_
    refine x_get X hH.1.1 in_X3 (mem_k 0 rfl) rfl 0 (by decide) q148 (fun _ h => h) rfl dX3_clean_17 ?_
    refine lv_iload_n hx hb dX3_clean_20 rfl (lv_at hl 2 rfl) ?_
    refine lv_iconst (v := (-1)) hx hb dX3_clean_21 (by decide) ?_
    refine x_iast X hH 1 rfl (by omega) (by decide) dX3_clean_22 (fun g_3 H locs eg_3 hH => ?_)
    have hH : HH G sT ([oC aI 3 [.ref i1, .ref i2, .ref i3, .int (R 4), .int (R 5), .int (R 6)], iC G i1 10 g_3, iC G i2 10 g2, iC G i3 10 g3] ++ wr) H locs := hH
    refine lv_aload_n hx hb dX3_clean_23 rfl (lv_at hl 1 rfl) ?_
    refine x_get X hH.1.1 in_X3 (mem_k 0 rfl) rfl 1 (by decide) q150 (fun _ h => h) rfl dX3_clean_24 ?_
    refine lv_iload_n hx hb dX3_clean_27 rfl (lv_at hl 2 rfl) ?_
    refine lv_iconst (v := nI 0) hx hb dX3_clean_28 (by decide) ?_
    refine x_iast X hH 2 rfl (by omega) (by decide) dX3_clean_29 (fun g_4 H locs eg_4 hH => ?_)
    have hH : HH G sT ([oC aI 3 [.ref i1, .ref i2, .ref i3, .int (R 4), .int (R 5), .int (R 6)], iC G i1 10 g_3, iC G i2 10 g_4, iC G i3 10 g3] ++ wr) H locs := hH
    refine lv_aload_n hx hb dX3_clean_30 rfl (lv_at hl 1 rfl) ?_
    refine lv_dup hx hb dX3_clean_31 rfl ?_
    refine x_get X hH.1.1 in_X3 (mem_k 0 rfl) rfl 5 (by decide) q159 (fun _ h => h) rfl dX3_clean_32 ?_
    refine lv_iload_n hx hb dX3_clean_35 rfl (lv_at hl 0 rfl) ?_
    refine lv_iadd hx hb dX3_clean_36 ?_
    refine x_put X hH in_X3 tyX3 tyX3_ok nmX3 0 rfl rfl 5 (by decide) q159 (fun _ h => h) rfl (ty := .int) (by decide +kernel) rfl rfl (Nat.le_of_ble_eq_true rfl) dX3_clean_37 (fun H locs hH => ?_)
    have hH : HH G sT ([oC aI 3 [.ref i1, .ref i2, .ref i3, .int (R 4), .int (R 5), .int ((R 6) + (nI 0))], iC G i1 10 g_3, iC G i2 10 g_4, iC G i3 10 g3] ++ wr) H locs := hH
    refine lv_iload_n hx hb dX3_clean_40 rfl (lv_at hl 0 rfl) ?_
    exact ret _ _ _ _ _ _ _ _ hH (⟨(show hadI R sN = nI 0 from by unfold hadI; rw [if_pos (by rw [← e1]; exact c1)]).symm, _, _, _, hK.cln hs, by unfold inkW; rw [eg_3, eg_4, cln_4, cln_5, cln_6, (show hadI R sN = nI 0 from by unfold hadI; rw [if_pos (by rw [← e1]; exact c1)])]⟩) (Nat.le_of_ble_eq_true rfl) (Nat.le_of_ble_eq_true rfl) dX3_clean_41
/-- places s to 9 moved up, as far as k -/
def shF (g : Nat → Int32) (l : Int32) (s k : Nat) : Nat → Int32 := fun j => if s ≤ j ∧ j < k then (if j = 9 then l else g (j + 1)) else g j
theorem shF_0 {g : Nat → Int32} {l : Int32} {s : Nat} : shF g l s s = g := by
  funext j
  unfold shF
  rw [if_neg (by omega)]
theorem shF_s {g : Nat → Int32} {l : Int32} {s k : Nat} (h : s ≤ k) (hk : k ≠ 9) : upd (shF g l s k) k (shF g l s k (k + 1)) = shF g l s (k + 1) := by
  funext j
  unfold upd shF
  by_cases q : j = k
  · rw [if_pos q, if_neg (by omega), if_pos (by omega), if_neg (by omega), q]
  · rw [if_neg q]
    by_cases c : s ≤ j ∧ j < k
    · rw [if_pos c, if_pos (show s ≤ j ∧ j < k + 1 by omega)]
    · rw [if_neg c, if_neg (show ¬ (s ≤ j ∧ j < k + 1) by omega)]
theorem shF_9 {g : Nat → Int32} {l : Int32} {s : Nat} (h : s ≤ 9) : upd (shF g l s 9) 9 l = shF g l s (9 + 1) := by
  funext j
  unfold upd shF
  by_cases q : j = 9
  · rw [if_pos q, if_pos (by omega), if_pos q]
  · rw [if_neg q]
    by_cases c : s ≤ j ∧ j < 9
    · rw [if_pos c, if_pos (show s ≤ j ∧ j < 9 + 1 by omega)]
    · rw [if_neg c, if_neg (show ¬ (s ≤ j ∧ j < 9 + 1) by omega)]
theorem rmv_o {k : Nat} (h0 : k ≠ 0) (h : k < 7 + 9 * sN ∨ 7 + 9 * (nS R - 1) ≤ k) : rmvR R sN k = R k := by
  unfold rmvR
  rw [if_neg h0, if_neg (by omega)]
theorem rmv_i {k : Nat} (h1 : 7 + 9 * sN ≤ k) (h2 : k < 7 + 9 * (nS R - 1)) : rmvR R sN k = R (k + 9) := by
  unfold rmvR
  rw [if_neg (by omega), if_pos ⟨h1, h2⟩]
theorem rmv_nS (hS : nS R ≤ 10) : nS (rmvR R sN) = nS R - 1 := by
  unfold nS rn rmvR
  rw [if_pos rfl]
  exact nI_clamp (n := (R 0).toNatClampNeg - 1) (by unfold nS rn at hS; omega)
theorem InkR.rmv (hK : InkR R g1 g2 g3) (hs : sN < nS R) (hS : nS R ≤ 10) : InkR (rmvR R sN) (shF g1 (-1) sN 10) (shF g2 (nI 0) sN 10) (shF g3 (nI 0) sN 10) := by
  refine ⟨fun s h => ?_, fun s h1 h2 => ?_⟩
  · rw [rmv_nS hS] at h
    unfold shF
    by_cases q : s < sN
    · rw [if_neg (by omega), if_neg (by omega), if_neg (by omega), rmv_o (by omega) (by omega), rmv_o (by omega) (by omega), rmv_o (by omega) (by omega)]
      exact hK.1 s (by omega)
    · rw [if_pos (by omega), if_neg (by omega), if_pos (by omega), if_neg (by omega), if_pos (by omega), if_neg (by omega), rmv_i (by omega) (by omega), rmv_i (by omega) (by omega), rmv_i (by omega) (by omega)]
      exact hK.1 (s + 1) (by omega)
  · rw [rmv_nS hS] at h1
    unfold shF
    rw [if_pos (show sN ≤ s ∧ s < 10 by omega), if_pos (show sN ≤ s ∧ s < 10 by omega), if_pos (show sN ≤ s ∧ s < 10 by omega)]
    by_cases q : s = 9
    · rw [if_pos q, if_pos q, if_pos q]; exact ⟨rfl, rfl, rfl⟩
    · rw [if_neg q, if_neg q, if_neg q]
      exact hK.2 (s + 1) (by omega) (by omega)
theorem hdv_X3_remove : yX3_remove.cls = RX3 ∧ yX3_remove.cls ≠ "java/lang/invoke/MethodHandle" ∧ yX3_remove.cls ≠ "java/lang/invoke/VarHandle" ∧ (parseMethodDescriptor yX3_remove.desc).map (fun d => d.parameters.length) = some 1 := by decide +kernel
theorem c_X3_remove (hE : EnvOK G E) (hK : InkR R g1 g2 g3) (hS : nS R ≤ 10) (hs : sN < nS R) : MU vV l G E yX3_remove cX3_remove 4 none 1 0 0 [.ref aI, .int (nI sN)] ([oC aI 3 [.ref i1, .ref i2, .ref i3, .int (R 4), .int (R 5), .int (R 6)], iC G i1 10 g1, iC G i2 10 g2, iC G i3 10 g3] ++ wr) (fun _ w => ∃ h1 h2 h3, InkR (rmvR R sN) h1 h2 h3 ∧ w = inkW G aI i1 i2 i3 (rmvR R sN) h1 h2 h3 ++ wr) := by
  refine MUv hE (by decide) (Nat.le_of_ble_eq_true rfl) (fun pR eV sT mI below meth cd QQ ls X hH hl ret => ?_)
  obtain ⟨⟨hx, hb, hml, hown, hts⟩, ⟨hr, hlk⟩, -, -, -⟩ := id X
  have hl : lv_has ls 4 [(0, .ref aI), (1, .int (nI sN))] := hl
  refine wgen (H := sT.heap) (locs := []) hH (fun H locs hH => ?_)
  refine lv_iload_n hx hb dX3_remove_0 rfl (lv_at hl 1 rfl) ?_
  refine lv_istore_n (lv' := [(2, .int (nI sN)), (0, .ref aI), (1, .int (nI sN))]) hx hb dX3_remove_1 rfl hl (by decide) rfl (fun ls hl => ?_)
  rw [show g1 = (shF g1 (-1) sN sN) from shF_0.symm] at hH
  have hH : HH G sT ([oC aI 3 [.ref i1, .ref i2, .ref i3, .int (R 4), .int (R 5), .int (R 6)], iC G i1 10 (shF g1 (-1) sN sN), iC G i2 10 g2, iC G i3 10 g3] ++ wr) H locs := hH
  rw [show g2 = (shF g2 (nI 0) sN sN) from shF_0.symm] at hH
  have hH : HH G sT ([oC aI 3 [.ref i1, .ref i2, .ref i3, .int (R 4), .int (R 5), .int (R 6)], iC G i1 10 (shF g1 (-1) sN sN), iC G i2 10 (shF g2 (nI 0) sN sN), iC G i3 10 g3] ++ wr) H locs := hH
  rw [show g3 = (shF g3 (nI 0) sN sN) from shF_0.symm] at hH
  have hH : HH G sT ([oC aI 3 [.ref i1, .ref i2, .ref i3, .int (R 4), .int (R 5), .int (R 6)], iC G i1 10 (shF g1 (-1) sN sN), iC G i2 10 (shF g2 (nI 0) sN sN), iC G i3 10 (shF g3 (nI 0) sN sN)] ++ wr) H locs := hH
  have lp : ∀ (fu : Nat) (kN : Nat), (sN ≤ kN) → (kN ≤ 10) → 10 - kN < fu → ∀ (H : Heap) (locs : List Loc), HH G sT ([oC aI 3 [.ref i1, .ref i2, .ref i3, .int (R 4), .int (R 5), .int (R 6)], iC G i1 10 (shF g1 (-1) sN kN), iC G i2 10 (shF g2 (nI 0) sN kN), iC G i3 10 (shF g3 (nI 0) sN kN)] ++ wr) H locs → ∀ ls : Array Slot, lv_has ls 4 [(0, .ref aI), (1, .int (nI sN)), (2, .int (nI kN))] → W pR l eV (Rm 1 0 0) sT mI ([.ref aI, .int (nI sN)] : List Value).toArray below meth cd H locs 0 0 QQ (F0 mI 2 ls []) := by
    intro fu
    induction fu with
    | zero => intro kN hk1 hk2 hm; exact absurd hm (Nat.not_lt_zero _)
    | succ fu ih_lp =>
      intro kN hk1 hk2 hm H locs hH ls hl
      refine lv_iload_n hx hb dX3_remove_2 rfl (lv_at hl 2 rfl) ?_
      refine lv_bipush (v := nI 10) hx hb dX3_remove_3 (by decide) ?_
      refine n_icmp_ge (tgt := 92) hx hb (by omega) (by omega) dX3_remove_5 (by decide) (fun c1 => ?_) (fun c1 => ?_)
      · have e10 : kN = 10 := by omega
        exact ret _ _ _ _ _ _ _ hH (⟨_, _, _, hK.rmv hs hS, by rw [e10]; unfold inkW; rw [rmv_o (by omega) (by omega), rmv_o (by omega) (by omega), rmv_o (by omega) (by omega)]⟩) (Nat.le_of_ble_eq_true rfl) (Nat.le_of_ble_eq_true rfl) dX3_remove_92
      · refine lv_iload_n hx hb dX3_remove_8 rfl (lv_at hl 2 rfl) ?_
        refine lv_bipush (v := nI 9) hx hb dX3_remove_9 (by decide) ?_
        refine n_icmp_ne (tgt := 18) hx hb (by omega) (by omega) dX3_remove_11 (by decide) (fun c2 => ?_) (fun c2 => ?_)
        · refine lv_iconst (v := nI 0) hx hb dX3_remove_18 (by decide) ?_
          refine lv_istore_n (lv' := [(3, .int (nI 0)), (0, .ref aI), (1, .int (nI sN)), (2, .int (nI kN))]) hx hb dX3_remove_19 rfl hl (by decide) rfl (fun ls hl => ?_)
          refine lv_aload_n hx hb dX3_remove_20 rfl (lv_at hl 1 rfl) ?_
          refine x_get X hH.1.1 in_X3 (mem_k 0 rfl) rfl 0 (by decide) q148 (fun _ h => h) rfl dX3_remove_21 ?_
          refine lv_iload_n hx hb dX3_remove_24 rfl (lv_at hl 3 rfl) ?_
          refine lv_iload_n hx hb dX3_remove_25 rfl (lv_at hl 0 rfl) ?_
          refine lv_if_eq (tgt := 33) hx hb dX3_remove_26 (by decide) (fun _ => ?_) (fun h => absurd rfl h)
          refine lv_aload_n hx hb dX3_remove_33 rfl (lv_at hl 1 rfl) ?_
          refine x_get X hH.1.1 in_X3 (mem_k 0 rfl) rfl 0 (by decide) q148 (fun _ h => h) rfl dX3_remove_34 ?_
          refine lv_iload_n hx hb dX3_remove_37 rfl (lv_at hl 3 rfl) ?_
          refine lv_iconst (v := nI 1) hx hb dX3_remove_38 (by decide) ?_
          refine n_iadd hx hb dX3_remove_39 ?_
          refine x_iald X hH.1.1 (mem_k 1 rfl) (by omega) (by decide) dX3_remove_40 ?_
          refine x_iast X hH 1 rfl (by omega) (by decide) dX3_remove_41 (fun g_1 H locs eg_1 hH => ?_)
          have hH : HH G sT ([oC aI 3 [.ref i1, .ref i2, .ref i3, .int (R 4), .int (R 5), .int (R 6)], iC G i1 10 g_1, iC G i2 10 (shF g2 (nI 0) sN kN), iC G i3 10 (shF g3 (nI 0) sN kN)] ++ wr) H locs := hH
          refine lv_aload_n hx hb dX3_remove_42 rfl (lv_at hl 1 rfl) ?_
          refine x_get X hH.1.1 in_X3 (mem_k 0 rfl) rfl 1 (by decide) q150 (fun _ h => h) rfl dX3_remove_43 ?_
          refine lv_iload_n hx hb dX3_remove_46 rfl (lv_at hl 3 rfl) ?_
          refine lv_iload_n hx hb dX3_remove_47 rfl (lv_at hl 0 rfl) ?_
          refine lv_if_eq (tgt := 55) hx hb dX3_remove_48 (by decide) (fun _ => ?_) (fun h => absurd rfl h)
          refine lv_aload_n hx hb dX3_remove_55 rfl (lv_at hl 1 rfl) ?_
          refine x_get X hH.1.1 in_X3 (mem_k 0 rfl) rfl 1 (by decide) q150 (fun _ h => h) rfl dX3_remove_56 ?_
          refine lv_iload_n hx hb dX3_remove_59 rfl (lv_at hl 3 rfl) ?_
          refine lv_iconst (v := nI 1) hx hb dX3_remove_60 (by decide) ?_
          refine n_iadd hx hb dX3_remove_61 ?_
          refine x_iald X hH.1.1 (mem_k 2 rfl) (by omega) (by decide) dX3_remove_62 ?_
          refine x_iast X hH 2 rfl (by omega) (by decide) dX3_remove_63 (fun g_2 H locs eg_2 hH => ?_)
          have hH : HH G sT ([oC aI 3 [.ref i1, .ref i2, .ref i3, .int (R 4), .int (R 5), .int (R 6)], iC G i1 10 g_1, iC G i2 10 g_2, iC G i3 10 (shF g3 (nI 0) sN kN)] ++ wr) H locs := hH
          refine lv_aload_n hx hb dX3_remove_64 rfl (lv_at hl 1 rfl) ?_
          refine x_get X hH.1.1 in_X3 (mem_k 0 rfl) rfl 2 (by decide) q152 (fun _ h => h) rfl dX3_remove_65 ?_
          refine lv_iload_n hx hb dX3_remove_68 rfl (lv_at hl 3 rfl) ?_
          refine lv_iload_n hx hb dX3_remove_69 rfl (lv_at hl 0 rfl) ?_
          refine lv_if_eq (tgt := 77) hx hb dX3_remove_70 (by decide) (fun _ => ?_) (fun h => absurd rfl h)
          refine lv_aload_n hx hb dX3_remove_77 rfl (lv_at hl 1 rfl) ?_
          refine x_get X hH.1.1 in_X3 (mem_k 0 rfl) rfl 2 (by decide) q152 (fun _ h => h) rfl dX3_remove_78 ?_
          refine lv_iload_n hx hb dX3_remove_81 rfl (lv_at hl 3 rfl) ?_
          refine lv_iconst (v := nI 1) hx hb dX3_remove_82 (by decide) ?_
          refine n_iadd hx hb dX3_remove_83 ?_
          refine x_iald X hH.1.1 (mem_k 3 rfl) (by omega) (by decide) dX3_remove_84 ?_
          refine x_iast X hH 3 rfl (by omega) (by decide) dX3_remove_85 (fun g_3 H locs eg_3 hH => ?_)
          have hH : HH G sT ([oC aI 3 [.ref i1, .ref i2, .ref i3, .int (R 4), .int (R 5), .int (R 6)], iC G i1 10 g_1, iC G i2 10 g_2, iC G i3 10 g_3] ++ wr) H locs := hH
          rw [show g_1 = (shF g1 (-1) sN (kN + 1)) from by rw [eg_1]; exact shF_s hk1 c2] at hH
          have hH : HH G sT ([oC aI 3 [.ref i1, .ref i2, .ref i3, .int (R 4), .int (R 5), .int (R 6)], iC G i1 10 (shF g1 (-1) sN (kN + 1)), iC G i2 10 g_2, iC G i3 10 g_3] ++ wr) H locs := hH
          rw [show g_2 = (shF g2 (nI 0) sN (kN + 1)) from by rw [eg_2]; exact shF_s hk1 c2] at hH
          have hH : HH G sT ([oC aI 3 [.ref i1, .ref i2, .ref i3, .int (R 4), .int (R 5), .int (R 6)], iC G i1 10 (shF g1 (-1) sN (kN + 1)), iC G i2 10 (shF g2 (nI 0) sN (kN + 1)), iC G i3 10 g_3] ++ wr) H locs := hH
          rw [show g_3 = (shF g3 (nI 0) sN (kN + 1)) from by rw [eg_3]; exact shF_s hk1 c2] at hH
          have hH : HH G sT ([oC aI 3 [.ref i1, .ref i2, .ref i3, .int (R 4), .int (R 5), .int (R 6)], iC G i1 10 (shF g1 (-1) sN (kN + 1)), iC G i2 10 (shF g2 (nI 0) sN (kN + 1)), iC G i3 10 (shF g3 (nI 0) sN (kN + 1))] ++ wr) H locs := hH
          refine lv_iinc (v := nI (kN + 1)) (lv' := [(2, .int (nI (kN + 1))), (3, .int (nI 0)), (0, .ref aI), (1, .int (nI sN))]) hx hb dX3_remove_86 hl (k := 3) rfl (nI_add _ 1) (by decide) rfl (fun ls hl => ?_)
          refine lv_goto (tgt := 2) hx hb dX3_remove_89 (by decide) ?_
          exact ih_lp (kN + 1)  (by omega) (by omega) (by omega) _ _ hH ls (lv_sub hl [2, 3, 0] rfl)
        · refine lv_iconst (v := nI 1) hx hb dX3_remove_14 (by decide) ?_
          refine lv_goto (tgt := 19) hx hb dX3_remove_15 (by decide) ?_
          refine lv_istore_n (lv' := [(3, .int (nI 1)), (0, .ref aI), (1, .int (nI sN)), (2, .int (nI kN))]) hx hb dX3_remove_19 rfl hl (by decide) rfl (fun ls hl => ?_)
          refine lv_aload_n hx hb dX3_remove_20 rfl (lv_at hl 1 rfl) ?_
          refine x_get X hH.1.1 in_X3 (mem_k 0 rfl) rfl 0 (by decide) q148 (fun _ h => h) rfl dX3_remove_21 ?_
          refine lv_iload_n hx hb dX3_remove_24 rfl (lv_at hl 3 rfl) ?_
          refine lv_iload_n hx hb dX3_remove_25 rfl (lv_at hl 0 rfl) ?_
          refine lv_if_eq (tgt := 33) hx hb dX3_remove_26 (by decide) (fun h => absurd h (by decide)) (fun _ => ?_)
          refine lv_iconst (v := (-1)) hx hb dX3_remove_29 (by decide) ?_
          refine lv_goto (tgt := 41) hx hb dX3_remove_30 (by decide) ?_
          refine x_iast X hH 1 rfl (by omega) (by decide) dX3_remove_41 (fun g_4 H locs eg_4 hH => ?_)
          have hH : HH G sT ([oC aI 3 [.ref i1, .ref i2, .ref i3, .int (R 4), .int (R 5), .int (R 6)], iC G i1 10 g_4, iC G i2 10 (shF g2 (nI 0) sN kN), iC G i3 10 (shF g3 (nI 0) sN kN)] ++ wr) H locs := hH
          refine lv_aload_n hx hb dX3_remove_42 rfl (lv_at hl 1 rfl) ?_
          refine x_get X hH.1.1 in_X3 (mem_k 0 rfl) rfl 1 (by decide) q150 (fun _ h => h) rfl dX3_remove_43 ?_
          refine lv_iload_n hx hb dX3_remove_46 rfl (lv_at hl 3 rfl) ?_
          refine lv_iload_n hx hb dX3_remove_47 rfl (lv_at hl 0 rfl) ?_
          refine lv_if_eq (tgt := 55) hx hb dX3_remove_48 (by decide) (fun h => absurd h (by decide)) (fun _ => ?_)
          refine lv_iconst (v := nI 0) hx hb dX3_remove_51 (by decide) ?_
          refine lv_goto (tgt := 63) hx hb dX3_remove_52 (by decide) ?_
          refine x_iast X hH 2 rfl (by omega) (by decide) dX3_remove_63 (fun g_5 H locs eg_5 hH => ?_)
          have hH : HH G sT ([oC aI 3 [.ref i1, .ref i2, .ref i3, .int (R 4), .int (R 5), .int (R 6)], iC G i1 10 g_4, iC G i2 10 g_5, iC G i3 10 (shF g3 (nI 0) sN kN)] ++ wr) H locs := hH
          refine lv_aload_n hx hb dX3_remove_64 rfl (lv_at hl 1 rfl) ?_
          refine x_get X hH.1.1 in_X3 (mem_k 0 rfl) rfl 2 (by decide) q152 (fun _ h => h) rfl dX3_remove_65 ?_
          refine lv_iload_n hx hb dX3_remove_68 rfl (lv_at hl 3 rfl) ?_
          refine lv_iload_n hx hb dX3_remove_69 rfl (lv_at hl 0 rfl) ?_
          refine lv_if_eq (tgt := 77) hx hb dX3_remove_70 (by decide) (fun h => absurd h (by decide)) (fun _ => ?_)
          refine lv_iconst (v := nI 0) hx hb dX3_remove_73 (by decide) ?_
          refine lv_goto (tgt := 85) hx hb dX3_remove_74 (by decide) ?_
          refine x_iast X hH 3 rfl (by omega) (by decide) dX3_remove_85 (fun g_6 H locs eg_6 hH => ?_)
          have hH : HH G sT ([oC aI 3 [.ref i1, .ref i2, .ref i3, .int (R 4), .int (R 5), .int (R 6)], iC G i1 10 g_4, iC G i2 10 g_5, iC G i3 10 g_6] ++ wr) H locs := hH
          rw [show g_4 = (shF g1 (-1) sN (kN + 1)) from by rw [eg_4, c2]; exact shF_9 (by omega)] at hH
          have hH : HH G sT ([oC aI 3 [.ref i1, .ref i2, .ref i3, .int (R 4), .int (R 5), .int (R 6)], iC G i1 10 (shF g1 (-1) sN (kN + 1)), iC G i2 10 g_5, iC G i3 10 g_6] ++ wr) H locs := hH
          rw [show g_5 = (shF g2 (nI 0) sN (kN + 1)) from by rw [eg_5, c2]; exact shF_9 (by omega)] at hH
          have hH : HH G sT ([oC aI 3 [.ref i1, .ref i2, .ref i3, .int (R 4), .int (R 5), .int (R 6)], iC G i1 10 (shF g1 (-1) sN (kN + 1)), iC G i2 10 (shF g2 (nI 0) sN (kN + 1)), iC G i3 10 g_6] ++ wr) H locs := hH
          rw [show g_6 = (shF g3 (nI 0) sN (kN + 1)) from by rw [eg_6, c2]; exact shF_9 (by omega)] at hH
          have hH : HH G sT ([oC aI 3 [.ref i1, .ref i2, .ref i3, .int (R 4), .int (R 5), .int (R 6)], iC G i1 10 (shF g1 (-1) sN (kN + 1)), iC G i2 10 (shF g2 (nI 0) sN (kN + 1)), iC G i3 10 (shF g3 (nI 0) sN (kN + 1))] ++ wr) H locs := hH
          refine lv_iinc (v := nI (kN + 1)) (lv' := [(2, .int (nI (kN + 1))), (3, .int (nI 1)), (0, .ref aI), (1, .int (nI sN))]) hx hb dX3_remove_86 hl (k := 3) rfl (nI_add _ 1) (by decide) rfl (fun ls hl => ?_)
          refine lv_goto (tgt := 2) hx hb dX3_remove_89 (by decide) ?_
          exact ih_lp (kN + 1)  (by omega) (by omega) (by omega) _ _ hH ls (lv_sub hl [2, 3, 0] rfl)
  exact lp _ sN  (Nat.le_refl _) (by omega) (Nat.lt_succ_self _) _ _ hH ls (lv_sub hl [1, 2, 0] rfl)
end C6
