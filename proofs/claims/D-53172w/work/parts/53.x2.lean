/-! COMPONENT 3: states -/
section C8
variable {l : Launch} {G : GG} {E : State → Prop} {sa : Nat → Nat} {ws wr : va_W}
variable {a n i aI sN : Nat} {t : Nat → Nat} {R : Nat → Int32}
theorem s_len (hE : EnvOK G E) (hJ : EnvJ G E sa) (h : Str G ws a t n) : RO l G E yJ12_length cJ12_length 1 .int 2 [.ref a] (va_P G.1 cls ws) (.int (nI n)) := by
  obtain ⟨q, f, x, z, h1, h2, h3, h4⟩ := h
  exact c_J12_length hE hJ h1 h2
theorem s_charAt (hE : EnvOK G E) (hJ : EnvJ G E sa) (h : Str G ws a t n) (hi : i < n) : RO l G E yJ12_charAt cJ12_charAt 2 .char 4 [.ref a, .int (nI i)] (va_P G.1 cls ws) (.int (nI (t i))) := by
  obtain ⟨q, f, x, z, h1, h2, h3, h4⟩ := h
  exact c_J12_charAt hE hJ h1 h2 hi (by omega) h3
theorem hdv_X2_usable : yX2_usable.cls = RX2 ∧ yX2_usable.cls ≠ "java/lang/invoke/MethodHandle" ∧ yX2_usable.cls ≠ "java/lang/invoke/VarHandle" ∧ (parseMethodDescriptor yX2_usable.desc).map (fun d => d.parameters.length) = some 0 := by decide +kernel
theorem c_X2_usable (hE : EnvOK G E) (hB : StB G sa ws a aI R) (hI : Ink G ws aI R) : RO l G E yX2_usable cX2_usable 1 .int 2 [.ref a] (va_P G.1 cls (ws)) (.int (frM R)) := by
  refine ROi hE (by decide) (Nat.le_of_ble_eq_true rfl) (fun pR eV sT mI below meth cd QQ ls X hP hl ret => ?_)
  obtain ⟨⟨hx, hb, hml, hown, hts⟩, ⟨hr, hlk⟩, -, -, -⟩ := id X
  have hl : lv_has ls 1 [(0, .ref a)] := hl
  obtain ⟨aP, aW, eP, eW, mS, LP, LW, SP, SW⟩ := id hB
  obtain ⟨mcP, dP, oP, lP, -, -⟩ := id LP
  obtain ⟨mcW, dW, oW, lW, -, -⟩ := id LW
  obtain ⟨i1, i2, i3, g1, g2, g3, mI, hK⟩ := hI
  refine lv_aload_n hx hb dX2_usable_0 rfl (lv_at hl 0 rfl) ?_
  refine x_get X hP in_X2 mS rfl 4 (by decide) q189 (fun _ h => h) rfl dX2_usable_1 ?_
  refine lv_aload_n hx hb dX2_usable_4 rfl (lv_at hl 0 rfl) ?_
  refine x_get X hP in_X2 mS rfl 0 (by decide) q176 (fun _ h => h) rfl dX2_usable_5 ?_
  refine x_RV (l_size hE LP) X va_S.rf hP (x_rc X hP (lP _ List.mem_cons_self) rfl) (lw_V q887 q349 q350 q66 q351) hdv_J2_size ⟨Nat.le_of_ble_eq_true rfl, Nat.le_of_ble_eq_true rfl⟩ rfl hl.1 rfl (Nat.le_of_ble_eq_true rfl) ⟨Nat.le_refl _, Nat.le_refl _⟩ dX2_usable_8 ?_
  refine lv_aload_n hx hb dX2_usable_11 rfl (lv_at hl 0 rfl) ?_
  refine x_get X hP in_X2 mS rfl 2 (by decide) q183 (fun _ h => h) rfl dX2_usable_12 ?_
  refine x_RV (c_X3_usable hE (mI _ (mem_k (ws := inkW G aI i1 i2 i3 R g1 g2 g3) 0 rfl)) (mI _ (mem_k (ws := inkW G aI i1 i2 i3 R g1 g2 g3) 3 rfl)) (fun s h => (hK.1 s h).2.2) LP.len) X va_S.rf hP (x_rc X hP (mI _ (mem_k (ws := inkW G aI i1 i2 i3 R g1 g2 g3) 0 rfl)) rfl) (lw_V q1131 q1091 q1092 q67 q1093) hdv_X3_usable ⟨Nat.le_of_ble_eq_true rfl, Nat.le_of_ble_eq_true rfl⟩ rfl hl.1 rfl (Nat.le_of_ble_eq_true rfl) ⟨Nat.le_refl _, Nat.le_refl _⟩ dX2_usable_15 ?_
  exact ret _ _ _ (rfl) dX2_usable_18
theorem hdv_X2_stamp : yX2_stamp.cls = RX2 ∧ yX2_stamp.cls ≠ "java/lang/invoke/MethodHandle" ∧ yX2_stamp.cls ≠ "java/lang/invoke/VarHandle" ∧ (parseMethodDescriptor yX2_stamp.desc).map (fun d => d.parameters.length) = some 2 := by decide +kernel
theorem c_X2_stamp (hE : EnvOK G E) (hJ : EnvJ G E sa) {qN : Nat} (hR : ROk R) (hB : StB G sa ws a aI R) (hI : Ink G ws aI R) (hs : sN < nS R) (hq : qN < 6) : RO l G E yX2_stamp cX2_stamp 4 .int 4 [.ref a, .int (nI sN), .int (nI qN)] (va_P G.1 cls (ws)) (.int (tsI R sN qN)) := by
  refine ROi hE (by decide) (Nat.le_of_ble_eq_true rfl) (fun pR eV sT mI below meth cd QQ ls X hP hl ret => ?_)
  obtain ⟨⟨hx, hb, hml, hown, hts⟩, ⟨hr, hlk⟩, -, -, -⟩ := id X
  have hJs := X.J hJ
  have hl : lv_has ls 4 [(0, .ref a), (1, .int (nI sN)), (2, .int (nI qN))] := hl
  obtain ⟨aP, aW, eP, eW, mS, LP, LW, SP, SW⟩ := id hB
  obtain ⟨mcP, dP, oP, lP, -, -⟩ := id LP
  obtain ⟨mcW, dW, oW, lW, -, -⟩ := id LW
  obtain ⟨i1, i2, i3, g1, g2, g3, mI, hK⟩ := hI
  obtain ⟨aST, oT, mT, hsT, hfT, htT⟩ := id (SP sN hs)
  obtain ⟨qT, fT, xT, zT, yT, -⟩ := id hsT
  have hm := hR.s1
  obtain ⟨e1, e2, e3⟩ := hK.1 sN hs
  refine lv_aload_n hx hb dX2_stamp_0 rfl (lv_at hl 0 rfl) ?_
  refine x_get X hP in_X2 mS rfl 0 (by decide) q176 (fun _ h => h) rfl dX2_stamp_1 ?_
  refine lv_iload_n hx hb dX2_stamp_4 rfl (lv_at hl 1 rfl) ?_
  refine x_RV (l_get hE LP hs) X va_S.rf hP (x_rc X hP (lP _ List.mem_cons_self) rfl) (lw_V q888 q889 q890 q66 q891) hdv_J2_get ⟨Nat.le_of_ble_eq_true rfl, Nat.le_of_ble_eq_true rfl⟩ rfl hl.1 rfl (Nat.le_of_ble_eq_true rfl) ⟨Nat.le_refl _, Nat.le_refl _⟩ dX2_stamp_5 ?_
  refine x_castS X hP mT rfl q1185 dX2_stamp_8 ?_
  refine lv_astore_n (lv' := [(3, .ref (eP sN)), (0, .ref a), (1, .int (nI sN)), (2, .int (nI qN))]) hx hb dX2_stamp_11 rfl hl (by decide) rfl (fun ls hl => ?_)
  refine lv_iload_n hx hb dX2_stamp_12 rfl (lv_at hl 3 rfl) ?_
  rcases (show qN = 0 ∨ qN = 1 ∨ qN = 2 ∨ qN = 3 ∨ qN = 4 ∨ qN = 5 by omega) with rfl | rfl | rfl | rfl | rfl | rfl
  · refine lv_tableIn (off := 35) (tgt := 48) hx hb dX2_stamp_13 (by decide) (by decide) (by decide) (by decide) ?_
    refine lv_aload_n hx hb dX2_stamp_48 rfl (lv_at hl 0 rfl) ?_
    refine x_getN X hP in_X9 mT rfl 0 (by decide) (hJs.nw q748 rfl) (fun _ h => h) rfl dX2_stamp_49 ?_
    refine x_RV (s_len hE hJ hsT) X va_S.rf hP (x_rc X hP yT rfl) (lw_V q1186 q654 q655 q83 q656) hdv_J12_length ⟨Nat.le_of_ble_eq_true rfl, Nat.le_of_ble_eq_true rfl⟩ rfl hl.1 rfl (Nat.le_of_ble_eq_true rfl) ⟨Nat.le_refl _, Nat.le_refl _⟩ dX2_stamp_52 ?_
    refine lv_goto (tgt := 130) hx hb dX2_stamp_55 (by decide) ?_
    exact ret _ _ _ ((hR.sl hs).symm) dX2_stamp_130
  · refine lv_tableIn (off := 45) (tgt := 58) hx hb dX2_stamp_13 (by decide) (by decide) (by decide) (by decide) ?_
    refine lv_aload_n hx hb dX2_stamp_58 rfl (lv_at hl 1 rfl) ?_
    refine x_get X hP in_X2 mS rfl 4 (by decide) q189 (fun _ h => h) rfl dX2_stamp_59 ?_
    refine x_getN X hP in_X3 (mI _ (mem_k (ws := inkW G aI i1 i2 i3 R g1 g2 g3) 0 rfl)) rfl 0 (by decide) (hJs.nw q149 rfl) (fun _ h => h) rfl dX2_stamp_62 ?_
    refine lv_iload_n hx hb dX2_stamp_65 rfl (lv_at hl 2 rfl) ?_
    refine x_iald X hP (mI _ (mem_k (ws := inkW G aI i1 i2 i3 R g1 g2 g3) 1 rfl)) (by omega) (by decide) dX2_stamp_66 ?_
    refine lv_goto (tgt := 130) hx hb dX2_stamp_67 (by decide) ?_
    exact ret _ _ _ (e1) dX2_stamp_130
  · refine lv_tableIn (off := 57) (tgt := 70) hx hb dX2_stamp_13 (by decide) (by decide) (by decide) (by decide) ?_
    refine lv_aload_n hx hb dX2_stamp_70 rfl (lv_at hl 1 rfl) ?_
    refine x_get X hP in_X2 mS rfl 4 (by decide) q189 (fun _ h => h) rfl dX2_stamp_71 ?_
    refine x_getN X hP in_X3 (mI _ (mem_k (ws := inkW G aI i1 i2 i3 R g1 g2 g3) 0 rfl)) rfl 1 (by decide) (hJs.nw q151 rfl) (fun _ h => h) rfl dX2_stamp_74 ?_
    refine lv_iload_n hx hb dX2_stamp_77 rfl (lv_at hl 2 rfl) ?_
    refine x_iald X hP (mI _ (mem_k (ws := inkW G aI i1 i2 i3 R g1 g2 g3) 2 rfl)) (by omega) (by decide) dX2_stamp_78 ?_
    refine lv_goto (tgt := 130) hx hb dX2_stamp_79 (by decide) ?_
    exact ret _ _ _ (e2) dX2_stamp_130
  · refine lv_tableIn (off := 69) (tgt := 82) hx hb dX2_stamp_13 (by decide) (by decide) (by decide) (by decide) ?_
    refine lv_aload_n hx hb dX2_stamp_82 rfl (lv_at hl 1 rfl) ?_
    refine x_get X hP in_X2 mS rfl 4 (by decide) q189 (fun _ h => h) rfl dX2_stamp_83 ?_
    refine x_getN X hP in_X3 (mI _ (mem_k (ws := inkW G aI i1 i2 i3 R g1 g2 g3) 0 rfl)) rfl 2 (by decide) (hJs.nw q153 rfl) (fun _ h => h) rfl dX2_stamp_86 ?_
    refine lv_iload_n hx hb dX2_stamp_89 rfl (lv_at hl 2 rfl) ?_
    refine x_iald X hP (mI _ (mem_k (ws := inkW G aI i1 i2 i3 R g1 g2 g3) 3 rfl)) (by omega) (by decide) dX2_stamp_90 ?_
    refine lv_goto (tgt := 130) hx hb dX2_stamp_91 (by decide) ?_
    exact ret _ _ _ (e3) dX2_stamp_130
  · refine lv_tableIn (off := 81) (tgt := 94) hx hb dX2_stamp_13 (by decide) (by decide) (by decide) (by decide) ?_
    refine lv_aload_n hx hb dX2_stamp_94 rfl (lv_at hl 0 rfl) ?_
    refine x_getN X hP in_X9 mT rfl 1 (by decide) (hJs.nw q752 rfl) (fun _ h => h) rfl dX2_stamp_95 ?_
    cases hcT : canT R sN with
    | true =>
      obtain ⟨tT, ho, -, -⟩ := htT hcT
      refine x_rf (y := tT) (ho) ?_
      refine lv_ifnonnull (tgt := 105) hx hb dX2_stamp_98 (by decide) ?_
      refine lv_iconst (v := nI 1) hx hb dX2_stamp_105 (by decide) ?_
      refine lv_goto (tgt := 130) hx hb dX2_stamp_106 (by decide) ?_
      exact ret _ _ _ (bI_t hcT) dX2_stamp_130
    | false =>
      refine x_rfN (hfT hcT) ?_
      refine lv_ifnonnullN hx hb dX2_stamp_98 ?_
      refine lv_iconst (v := nI 0) hx hb dX2_stamp_101 (by decide) ?_
      refine lv_goto (tgt := 130) hx hb dX2_stamp_102 (by decide) ?_
      exact ret _ _ _ (bI_f hcT) dX2_stamp_130
  · refine lv_tableOut (tgt := 109) hx hb dX2_stamp_13 (by decide) (by decide) ?_
    refine lv_aload_n hx hb dX2_stamp_109 rfl (lv_at hl 1 rfl) ?_
    refine x_get X hP in_X2 mS rfl 4 (by decide) q189 (fun _ h => h) rfl dX2_stamp_110 ?_
    refine x_getN X hP in_X3 (mI _ (mem_k (ws := inkW G aI i1 i2 i3 R g1 g2 g3) 0 rfl)) rfl 2 (by decide) (hJs.nw q153 rfl) (fun _ h => h) rfl dX2_stamp_113 ?_
    refine lv_iload_n hx hb dX2_stamp_116 rfl (lv_at hl 2 rfl) ?_
    refine x_iald X hP (mI _ (mem_k (ws := inkW G aI i1 i2 i3 R g1 g2 g3) 3 rfl)) (by omega) (by decide) dX2_stamp_117 ?_
    refine lv_aload_n hx hb dX2_stamp_118 rfl (lv_at hl 1 rfl) ?_
    refine x_get X hP in_X2 mS rfl 2 (by decide) q183 (fun _ h => h) rfl dX2_stamp_119 ?_
    refine lv_icmp_lt (tgt := 129) hx hb dX2_stamp_122 (by decide) (fun c1 => ?_) (fun c1 => ?_)
    · refine lv_iconst (v := nI 0) hx hb dX2_stamp_129 (by decide) ?_
      exact ret _ _ _ (bI_f (decide_eq_false (by rw [← e3]; exact Int32.not_le.mpr c1))) dX2_stamp_130
    · refine lv_iconst (v := nI 1) hx hb dX2_stamp_125 (by decide) ?_
      refine lv_goto (tgt := 130) hx hb dX2_stamp_126 (by decide) ?_
      exact ret _ _ _ (bI_t (decide_eq_true (by rw [← e3]; exact Int32.not_lt.mp c1))) dX2_stamp_130
variable {aS : Nat}
theorem hds_X2_init : yX2_init.cls ≠ "java/lang/invoke/MethodHandle" ∧ yX2_init.cls ≠ "java/lang/invoke/VarHandle" ∧ (parseMethodDescriptor yX2_init.desc).map (fun d => d.parameters.length) = some 0 := by decide +kernel
theorem c_X2_init (hE : EnvOK G E) (hJ : EnvJ G E sa) : MU vV l G E yX2_init cX2_init 1 none 4 6 42 [.ref aS] ([oC aS 2 [.null, .null, .int (nI 0), .int (nI 0), .null]] ++ wr) (fun _ w => ∃ aP aW aI i1 i2 i3 g1, (∀ k, k < 10 → g1 k = -1) ∧ w = [oC aS 2 [.ref aP, .ref aW, .int (nI 100), .int (nI 5), .ref aI], oC aP 10 [.int (nI 0), .ref (sa 0), .int (nI 0)], oC aW 10 [.int (nI 0), .ref (sa 0), .int (nI 0)], oC aI 3 [.ref i1, .ref i2, .ref i3, .int (nI 0), .int (nI 0), .int (nI 0)], iC G i1 10 g1, iC G i2 10 (fun _ => nI 0), iC G i3 10 (fun _ => nI 0)] ++ wr) := by
  refine MUc hE (by decide) (Nat.le_of_ble_eq_true rfl) (fun pR eV sT mI below meth cd QQ ls hin X hH hl ret => ?_)
  obtain ⟨⟨hx, hb, hml, hown, hts⟩, ⟨hr, hlk⟩, -, -, -⟩ := id X
  have hJs := X.J hJ
  have hl : lv_has ls 1 [(0, .ref aS)] := hl
  refine wgen (H := sT.heap) (locs := []) hH (fun H locs hH => ?_)
  refine lv_aload_n hx hb dX2_init_0 rfl (lv_at hl 0 rfl) ?_
  refine x_obj X hl.1 q112 q105 q106 (Nat.le_of_ble_eq_true rfl) (Nat.le_of_ble_eq_true rfl) dX2_init_1 ?_
  refine lv_aload_n hx hb dX2_init_4 rfl (lv_at hl 0 rfl) ?_
  refine x_new X hH in_J2 tyJ2 tyJ2_ok q113 q114 q66 (ci := 10) (fs := [.int (nI 0), .null, .int (nI 0)]) rfl df_J2 (Nat.le_of_ble_eq_true rfl) (Nat.le_of_ble_eq_true rfl) dX2_init_5 (fun aP H hH => ?_)
  refine x_widen (k2 := 1) (n2 := 3) (Nat.le_of_ble_eq_true rfl) (Nat.le_of_ble_eq_true rfl) ?_
  have hH : HH G sT ([oC aP 10 [.int (nI 0), .null, .int (nI 0)], oC aS 2 [.null, .null, .int (nI 0), .int (nI 0), .null]] ++ wr) H locs := hH
  refine lv_dup hx hb dX2_init_8 rfl ?_
  refine x_MI (c_J2_init (wr := ([oC aS 2 [.null, .null, .int (nI 0), .int (nI 0), .null]] ++ wr)) hE hJ) X hH q117 q66 q115 q116 rfl hds_J2_init ⟨Nat.le_of_ble_eq_true rfl, Nat.le_of_ble_eq_true rfl⟩ rfl hl.1 rfl (Nat.le_of_ble_eq_true rfl) ⟨(Nat.le_of_ble_eq_true rfl), (Nat.le_of_ble_eq_true rfl)⟩ dX2_init_9 (fun w H locs hq hH => ?_)
  obtain rfl := hq
  have hH : HH G sT ([oC aP 10 [.int (nI 0), .ref (sa 0), .int (nI 0)], oC aS 2 [.null, .null, .int (nI 0), .int (nI 0), .null]] ++ wr) H locs := hH
  refine x_putF X hH in_X2 tyX2 tyX2_ok nmX2 1 rfl rfl 0 (by decide) q176 (fun _ h => h) rfl hin rfl (ty := .object "java/util/ArrayList") (by decide +kernel) rfl rfl (Nat.le_of_ble_eq_true rfl) dX2_init_12 (fun H locs hH => ?_)
  have hH : HH G sT ([oC aP 10 [.int (nI 0), .ref (sa 0), .int (nI 0)], oC aS 2 [.ref aP, .null, .int (nI 0), .int (nI 0), .null]] ++ wr) H locs := hH
  refine lv_aload_n hx hb dX2_init_15 rfl (lv_at hl 0 rfl) ?_
  refine x_new X hH in_J2 tyJ2 tyJ2_ok q113 q114 q66 (ci := 10) (fs := [.int (nI 0), .null, .int (nI 0)]) rfl df_J2 (Nat.le_of_ble_eq_true rfl) (Nat.le_of_ble_eq_true rfl) dX2_init_16 (fun aW H hH => ?_)
  refine x_widen (k2 := 2) (n2 := 6) (Nat.le_of_ble_eq_true rfl) (Nat.le_of_ble_eq_true rfl) ?_
  have hH : HH G sT ([oC aW 10 [.int (nI 0), .null, .int (nI 0)], oC aP 10 [.int (nI 0), .ref (sa 0), .int (nI 0)], oC aS 2 [.ref aP, .null, .int (nI 0), .int (nI 0), .null]] ++ wr) H locs := hH
  refine lv_dup hx hb dX2_init_19 rfl ?_
  refine x_MI (c_J2_init (wr := ([oC aP 10 [.int (nI 0), .ref (sa 0), .int (nI 0)], oC aS 2 [.ref aP, .null, .int (nI 0), .int (nI 0), .null]] ++ wr)) hE hJ) X hH q117 q66 q115 q116 rfl hds_J2_init ⟨Nat.le_of_ble_eq_true rfl, Nat.le_of_ble_eq_true rfl⟩ rfl hl.1 rfl (Nat.le_of_ble_eq_true rfl) ⟨(Nat.le_of_ble_eq_true rfl), (Nat.le_of_ble_eq_true rfl)⟩ dX2_init_20 (fun w H locs hq hH => ?_)
  obtain rfl := hq
  have hH : HH G sT ([oC aW 10 [.int (nI 0), .ref (sa 0), .int (nI 0)], oC aP 10 [.int (nI 0), .ref (sa 0), .int (nI 0)], oC aS 2 [.ref aP, .null, .int (nI 0), .int (nI 0), .null]] ++ wr) H locs := hH
  refine x_putF X hH in_X2 tyX2 tyX2_ok nmX2 2 rfl rfl 1 (by decide) q179 (fun _ h => h) rfl hin rfl (ty := .object "java/util/ArrayList") (by decide +kernel) rfl rfl (Nat.le_of_ble_eq_true rfl) dX2_init_23 (fun H locs hH => ?_)
  have hH : HH G sT ([oC aW 10 [.int (nI 0), .ref (sa 0), .int (nI 0)], oC aP 10 [.int (nI 0), .ref (sa 0), .int (nI 0)], oC aS 2 [.ref aP, .ref aW, .int (nI 0), .int (nI 0), .null]] ++ wr) H locs := hH
  refine lv_aload_n hx hb dX2_init_26 rfl (lv_at hl 0 rfl) ?_
  refine lv_bipush (v := nI 100) hx hb dX2_init_27 (by decide) ?_
  refine x_put X hH in_X2 tyX2 tyX2_ok nmX2 2 rfl rfl 2 (by decide) q183 (fun _ h => h) rfl (ty := .int) (by decide +kernel) rfl rfl (Nat.le_of_ble_eq_true rfl) dX2_init_29 (fun H locs hH => ?_)
  have hH : HH G sT ([oC aW 10 [.int (nI 0), .ref (sa 0), .int (nI 0)], oC aP 10 [.int (nI 0), .ref (sa 0), .int (nI 0)], oC aS 2 [.ref aP, .ref aW, .int (nI 100), .int (nI 0), .null]] ++ wr) H locs := hH
  refine lv_aload_n hx hb dX2_init_32 rfl (lv_at hl 0 rfl) ?_
  refine lv_iconst (v := nI 5) hx hb dX2_init_33 (by decide) ?_
  refine x_put X hH in_X2 tyX2 tyX2_ok nmX2 2 rfl rfl 3 (by decide) q186 (fun _ h => h) rfl (ty := .int) (by decide +kernel) rfl rfl (Nat.le_of_ble_eq_true rfl) dX2_init_34 (fun H locs hH => ?_)
  have hH : HH G sT ([oC aW 10 [.int (nI 0), .ref (sa 0), .int (nI 0)], oC aP 10 [.int (nI 0), .ref (sa 0), .int (nI 0)], oC aS 2 [.ref aP, .ref aW, .int (nI 100), .int (nI 5), .null]] ++ wr) H locs := hH
  refine lv_aload_n hx hb dX2_init_37 rfl (lv_at hl 0 rfl) ?_
  refine x_new X hH in_X3 tyX3 tyX3_ok q139 q140 q67 (ci := 3) (fs := [.null, .null, .null, .int (nI 0), .int (nI 0), .int (nI 0)]) rfl df_X3 (Nat.le_of_ble_eq_true rfl) (Nat.le_of_ble_eq_true rfl) dX2_init_38 (fun aI H hH => ?_)
  refine x_widen (k2 := 3) (n2 := 12) (Nat.le_of_ble_eq_true rfl) (Nat.le_of_ble_eq_true rfl) ?_
  have hH : HH G sT ([oC aI 3 [.null, .null, .null, .int (nI 0), .int (nI 0), .int (nI 0)], oC aW 10 [.int (nI 0), .ref (sa 0), .int (nI 0)], oC aP 10 [.int (nI 0), .ref (sa 0), .int (nI 0)], oC aS 2 [.ref aP, .ref aW, .int (nI 100), .int (nI 5), .null]] ++ wr) H locs := hH
  refine lv_dup hx hb dX2_init_41 rfl ?_
  refine x_MI (c_X3_init (wr := ([oC aW 10 [.int (nI 0), .ref (sa 0), .int (nI 0)], oC aP 10 [.int (nI 0), .ref (sa 0), .int (nI 0)], oC aS 2 [.ref aP, .ref aW, .int (nI 100), .int (nI 5), .null]] ++ wr)) hE) X hH q143 q67 q141 q142 rfl hds_X3_init ⟨Nat.le_of_ble_eq_true rfl, Nat.le_of_ble_eq_true rfl⟩ rfl hl.1 rfl (Nat.le_of_ble_eq_true rfl) ⟨(Nat.le_of_ble_eq_true rfl), (Nat.le_of_ble_eq_true rfl)⟩ dX2_init_42 (fun w H locs hq hH => ?_)
  obtain ⟨i1, i2, i3, g1, hg, rfl⟩ := hq
  refine x_widen (k2 := 6) (n2 := 42) (Nat.le_of_ble_eq_true rfl) (Nat.le_of_ble_eq_true rfl) ?_
  have hH : HH G sT ([oC aI 3 [.ref i1, .ref i2, .ref i3, .int (nI 0), .int (nI 0), .int (nI 0)], iC G i1 10 g1, iC G i2 10 (fun _ => nI 0), iC G i3 10 (fun _ => nI 0), oC aW 10 [.int (nI 0), .ref (sa 0), .int (nI 0)], oC aP 10 [.int (nI 0), .ref (sa 0), .int (nI 0)], oC aS 2 [.ref aP, .ref aW, .int (nI 100), .int (nI 5), .null]] ++ wr) H locs := hH
  refine x_putF X hH in_X2 tyX2 tyX2_ok nmX2 6 rfl rfl 4 (by decide) q189 (fun _ h => h) rfl hin rfl (ty := .object "RubberStamps$Inks") (by decide +kernel) rfl rfl (Nat.le_of_ble_eq_true rfl) dX2_init_45 (fun H locs hH => ?_)
  have hH : HH G sT ([oC aI 3 [.ref i1, .ref i2, .ref i3, .int (nI 0), .int (nI 0), .int (nI 0)], iC G i1 10 g1, iC G i2 10 (fun _ => nI 0), iC G i3 10 (fun _ => nI 0), oC aW 10 [.int (nI 0), .ref (sa 0), .int (nI 0)], oC aP 10 [.int (nI 0), .ref (sa 0), .int (nI 0)], oC aS 2 [.ref aP, .ref aW, .int (nI 100), .int (nI 5), .ref aI]] ++ wr) H locs := hH
  have hH : HH G sT ([oC aS 2 [.ref aP, .ref aW, .int (nI 100), .int (nI 5), .ref aI], oC aP 10 [.int (nI 0), .ref (sa 0), .int (nI 0)], oC aW 10 [.int (nI 0), .ref (sa 0), .int (nI 0)], oC aI 3 [.ref i1, .ref i2, .ref i3, .int (nI 0), .int (nI 0), .int (nI 0)], iC G i1 10 g1, iC G i2 10 (fun _ => nI 0), iC G i3 10 (fun _ => nI 0)] ++ wr) H locs := HH.pickN hH 7 [6, 5, 4, 0, 1, 2, 3] rfl (by decide) rfl
  exact ret _ _ _ _ _ _ _ hH (⟨aP, aW, aI, i1, i2, i3, g1, hg, rfl⟩) (Nat.le_of_ble_eq_true rfl) (Nat.le_of_ble_eq_true rfl) dX2_init_48
/-- a state's own cells: its object, its inks, its lists, its words -/
def stW (G : GG) (a aP aW aI : Nat) (R : Nat → Int32) (mcP : Int32) (dP : Nat) (oP : Option (Nat → Option Nat)) (mcW : Int32) (dW : Nat) (oW : Option (Nat → Option Nat)) (X : va_W) (i1 i2 i3 : Nat) (g1 g2 g3 : Nat → Int32) : va_W := [oC a 2 [.ref aP, .ref aW, .int (R 2), .int (R 3), .ref aI]] ++ (inkW G aI i1 i2 i3 R g1 g2 g3 ++ (lsW G aP mcP dP (nS R) oP ++ (lsW G aW mcW dW (nW R) oW ++ X)))
def StO (G : GG) (sa : Nat → Nat) (sh own : va_W) (a : Nat) (R : Nat → Int32) : Prop := ∃ aP aW aI mcP dP oP mcW dW oW X i1 i2 i3 g1 g2 g3, ∃ eP eW : Nat → Nat, own = stW G a aP aW aI R mcP dP oP mcW dW oW X i1 i2 i3 g1 g2 g3 ∧ InkR R g1 g2 g3 ∧ (lsK sa dP (nS R) oP ∧ ∀ i, i < nS R → elO oP i = some (eP i)) ∧ (lsK sa dW (nW R) oW ∧ ∀ i, i < nW R → elO oW i = some (eW i)) ∧ (∀ s, s < nS R → StampAt G sh (eP s) R s) ∧ ∀ w, w < nW R → ∃ aS, oC (eW w) 9 [.ref aS, .int (R (97 + 14 * w + 1))] ∈ X ∧ Str G sh aS (fun k => 97 + wC R w k) (wL R w)
theorem StO.mono {sh sh' own : va_W} (h : StO G sa sh own a R) (hs : ∀ q ∈ sh, q ∈ sh') : StO G sa sh' own a R := by
  obtain ⟨aP, aW, aI, mcP, dP, oP, mcW, dW, oW, X, i1, i2, i3, g1, g2, g3, eP, eW, h1, h2, h3, h4, h5, h6⟩ := h
  exact ⟨aP, aW, aI, mcP, dP, oP, mcW, dW, oW, X, i1, i2, i3, g1, g2, g3, eP, eW, h1, h2, h3, h4, fun s q => (h5 s q).mono hs, fun w q => by obtain ⟨aS, x1, x2⟩ := h6 w q; exact ⟨aS, x1, x2.mono hs⟩⟩
theorem hdv_X2_copy : yX2_copy.cls = RX2 ∧ yX2_copy.cls ≠ "java/lang/invoke/MethodHandle" ∧ yX2_copy.cls ≠ "java/lang/invoke/VarHandle" ∧ (parseMethodDescriptor yX2_copy.desc).map (fun d => d.parameters.length) = some 0 := by decide +kernel
theorem c_X2_copy (hE : EnvOK G E) (hJ : EnvJ G E sa) (hR : ROk R) (hB : StB G sa wr a aI R) (hI : Ink G wr aI R) : MU vA l G E yX2_copy cX2_copy 3 (some (.object "RubberStamps$State")) 5 30 200 [.ref a] (wr) (fun r w => ∃ own, w = own ++ wr ∧ StO G sa wr own r R) := by
  refine MUa hE (by decide) (Nat.le_of_ble_eq_true rfl) (Or.inl ⟨_, rfl⟩) (fun pR eV sT mI below meth cd QQ ls X hH hl ret => ?_)
  obtain ⟨⟨hx, hb, hml, hown, hts⟩, ⟨hr, hlk⟩, -, -, -⟩ := id X
  have hJs := X.J hJ
  have hl : lv_has ls 3 [(0, .ref a)] := hl
  refine wgen (H := sT.heap) (locs := []) hH (fun H locs hH => ?_)
  obtain ⟨aP, aW, eP, eW, mS, LP, LW, SP, SW⟩ := id hB
  obtain ⟨mcP, dP, oP, lP, -, -⟩ := id LP
  obtain ⟨mcW, dW, oW, lW, -, -⟩ := id LW
  have hs10 := LP.len
  have hw10 := LW.len
  obtain ⟨j1, j2, j3, f1, f2, f3, mJ, hKJ⟩ := id hI
  refine x_new X hH in_X2 tyX2 tyX2_ok q855 q108 q63 (ci := 2) (fs := [.null, .null, .int (nI 0), .int (nI 0), .null]) rfl df_X2 (Nat.le_of_ble_eq_true rfl) (Nat.le_of_ble_eq_true rfl) dX2_copy_0 (fun cS H hH => ?_)
  refine x_widen (k2 := 1) (n2 := 5) (Nat.le_of_ble_eq_true rfl) (Nat.le_of_ble_eq_true rfl) ?_
  have hH : HH G sT ([oC cS 2 [.null, .null, .int (nI 0), .int (nI 0), .null]] ++ wr) H locs := hH
  refine lv_dup hx hb dX2_copy_3 rfl ?_
  refine x_MI (c_X2_init (wr := wr) hE hJ) X hH q111 q63 q856 q110 rfl hds_X2_init ⟨Nat.le_of_ble_eq_true rfl, Nat.le_of_ble_eq_true rfl⟩ rfl hl.1 rfl (Nat.le_of_ble_eq_true rfl) ⟨(Nat.le_of_ble_eq_true rfl), (Nat.le_of_ble_eq_true rfl)⟩ dX2_copy_4 (fun w H locs hq hH => ?_)
  obtain ⟨cP, cW, cI, i1, i2, i3, g1, hg1, rfl⟩ := hq
  refine x_widen (k2 := 7) (n2 := 47) (Nat.le_of_ble_eq_true rfl) (Nat.le_of_ble_eq_true rfl) ?_
  have hH : HH G sT ([oC cS 2 [.ref cP, .ref cW, .int (nI 100), .int (nI 5), .ref cI], oC cP 10 [.int (nI 0), .ref (sa 0), .int (nI 0)], oC cW 10 [.int (nI 0), .ref (sa 0), .int (nI 0)], oC cI 3 [.ref i1, .ref i2, .ref i3, .int (nI 0), .int (nI 0), .int (nI 0)], iC G i1 10 g1, iC G i2 10 (fun _ => nI 0), iC G i3 10 (fun _ => nI 0)] ++ wr) H locs := hH
  refine lv_astore_n (lv' := [(1, .ref cS), (0, .ref a)]) hx hb dX2_copy_7 rfl hl (by decide) rfl (fun ls hl => ?_)
  refine lv_aload_n hx hb dX2_copy_8 rfl (lv_at hl 0 rfl) ?_
  refine x_get X hH.1.1 in_X2 (mem_k 0 rfl) rfl 0 (by decide) q176 (fun _ h => h) rfl dX2_copy_9 ?_
  refine lv_aload_n hx hb dX2_copy_12 rfl (lv_at hl 1 rfl) ?_
  refine x_get X hH.1.1 in_X2 (mem_r mS) rfl 0 (by decide) q176 (fun _ h => h) rfl dX2_copy_13 ?_
  have hH : HH G sT ([oC cP 10 [.int (nI 0), .ref (sa 0), .int (nI 0)], oC cS 2 [.ref cP, .ref cW, .int (nI 100), .int (nI 5), .ref cI], oC cW 10 [.int (nI 0), .ref (sa 0), .int (nI 0)], oC cI 3 [.ref i1, .ref i2, .ref i3, .int (nI 0), .int (nI 0), .int (nI 0)], iC G i1 10 g1, iC G i2 10 (fun _ => nI 0), iC G i3 10 (fun _ => nI 0)] ++ wr) H locs := HH.pickN hH 7 [1, 0, 2, 3, 4, 5, 6] rfl (by decide) rfl
  refine x_MVi (c_J2_addAll (wr := ([oC cS 2 [.ref cP, .ref cW, .int (nI 100), .int (nI 5), .ref cI], oC cW 10 [.int (nI 0), .ref (sa 0), .int (nI 0)], oC cI 3 [.ref i1, .ref i2, .ref i3, .int (nI 0), .int (nI 0), .int (nI 0)], iC G i1 10 g1, iC G i2 10 (fun _ => nI 0), iC G i3 10 (fun _ => nI 0)] ++ wr)) (ci := 8) hE hJ rfl q1812 (LP.mono (fun _ h => mem_r h)) (fun s hs => by obtain ⟨x1, x2, x3, -⟩ := SP s hs; exact ⟨_, mem_r x3⟩)) X hH (x_rc X hH.1.1 (mem_k 0 rfl) rfl) (lw_V q857 q858 q859 q66 q860) hdv_J2_addAll ⟨Nat.le_of_ble_eq_true rfl, Nat.le_of_ble_eq_true rfl⟩ rfl hl.1 rfl (Nat.le_of_ble_eq_true rfl) ⟨(Nat.le_of_ble_eq_true rfl), (Nat.le_of_ble_eq_true rfl)⟩ dX2_copy_16 (fun r w H locs hq hH => ?_)
  obtain ⟨mcQ, dQ, oQ, hkQ, heQ, rfl⟩ := hq
  refine x_widen (k2 := 9) (n2 := 67) (Nat.le_of_ble_eq_true rfl) (Nat.le_of_ble_eq_true rfl) ?_
  have hH : HH G sT ([oC cS 2 [.ref cP, .ref cW, .int (nI 100), .int (nI 5), .ref cI], oC cW 10 [.int (nI 0), .ref (sa 0), .int (nI 0)], oC cI 3 [.ref i1, .ref i2, .ref i3, .int (nI 0), .int (nI 0), .int (nI 0)], iC G i1 10 g1, iC G i2 10 (fun _ => nI 0), iC G i3 10 (fun _ => nI 0)] ++ (lsW G cP mcQ dQ (nS R) oQ ++ wr)) H locs := HH.perm (ws := lsW G cP mcQ dQ (nS R) oQ ++ ([oC cS 2 [.ref cP, .ref cW, .int (nI 100), .int (nI 5), .ref cI], oC cW 10 [.int (nI 0), .ref (sa 0), .int (nI 0)], oC cI 3 [.ref i1, .ref i2, .ref i3, .int (nI 0), .int (nI 0), .int (nI 0)], iC G i1 10 g1, iC G i2 10 (fun _ => nI 0), iC G i3 10 (fun _ => nI 0)] ++ wr)) hH (List.perm_append_comm_assoc _ _ _)
  refine lv_pop hx hb dX2_copy_19 rfl ?_
  refine lv_iconst (v := nI 0) hx hb dX2_copy_20 (by decide) ?_
  refine lv_istore_n (lv' := [(2, .int (nI 0)), (1, .ref cS), (0, .ref a)]) hx hb dX2_copy_21 rfl hl (by decide) rfl (fun ls hl => ?_)
  have hH : HH G sT ([oC cW 10 [.int (nI 0), .ref (sa 0), .int (nI 0)], oC cS 2 [.ref cP, .ref cW, .int (nI 100), .int (nI 5), .ref cI], oC cI 3 [.ref i1, .ref i2, .ref i3, .int (nI 0), .int (nI 0), .int (nI 0)], iC G i1 10 g1, iC G i2 10 (fun _ => nI 0), iC G i3 10 (fun _ => nI 0)] ++ (lsW G cP mcQ dQ (nS R) oQ ++ wr)) H locs := HH.pickN hH 6 [1, 0, 2, 3, 4, 5] rfl (by decide) rfl
  have hH : HH G sT (lsW G cW (nI 0) (sa 0) 0 none ++ ([oC cS 2 [.ref cP, .ref cW, .int (nI 100), .int (nI 5), .ref cI], oC cI 3 [.ref i1, .ref i2, .ref i3, .int (nI 0), .int (nI 0), .int (nI 0)], iC G i1 10 g1, iC G i2 10 (fun _ => nI 0), iC G i3 10 (fun _ => nI 0)] ++ (lsW G cP mcQ dQ (nS R) oQ ++ wr))) H locs := hH
  have hH : HH G sT ([oC cS 2 [.ref cP, .ref cW, .int (nI 100), .int (nI 5), .ref cI], oC cI 3 [.ref i1, .ref i2, .ref i3, .int (nI 0), .int (nI 0), .int (nI 0)], iC G i1 10 g1, iC G i2 10 (fun _ => nI 0), iC G i3 10 (fun _ => nI 0)] ++ (lsW G cW (nI 0) (sa 0) 0 none ++ (lsW G cP mcQ dQ (nS R) oQ ++ wr))) H locs := HH.perm (ws := lsW G cW (nI 0) (sa 0) 0 none ++ ([oC cS 2 [.ref cP, .ref cW, .int (nI 100), .int (nI 5), .ref cI], oC cI 3 [.ref i1, .ref i2, .ref i3, .int (nI 0), .int (nI 0), .int (nI 0)], iC G i1 10 g1, iC G i2 10 (fun _ => nI 0), iC G i3 10 (fun _ => nI 0)] ++ (lsW G cP mcQ dQ (nS R) oQ ++ wr))) hH (List.perm_append_comm_assoc _ _ _)
  have hH : HH G sT ([] ++ ([oC cS 2 [.ref cP, .ref cW, .int (nI 100), .int (nI 5), .ref cI], oC cI 3 [.ref i1, .ref i2, .ref i3, .int (nI 0), .int (nI 0), .int (nI 0)], iC G i1 10 g1, iC G i2 10 (fun _ => nI 0), iC G i3 10 (fun _ => nI 0)] ++ (lsW G cW (nI 0) (sa 0) 0 none ++ (lsW G cP mcQ dQ (nS R) oQ ++ wr)))) H locs := hH
  have hH : HH G sT ([oC cS 2 [.ref cP, .ref cW, .int (nI 100), .int (nI 5), .ref cI], oC cI 3 [.ref i1, .ref i2, .ref i3, .int (nI 0), .int (nI 0), .int (nI 0)], iC G i1 10 g1, iC G i2 10 (fun _ => nI 0), iC G i3 10 (fun _ => nI 0)] ++ ([] ++ (lsW G cW (nI 0) (sa 0) 0 none ++ (lsW G cP mcQ dQ (nS R) oQ ++ wr)))) H locs := HH.perm (ws := [] ++ ([oC cS 2 [.ref cP, .ref cW, .int (nI 100), .int (nI 5), .ref cI], oC cI 3 [.ref i1, .ref i2, .ref i3, .int (nI 0), .int (nI 0), .int (nI 0)], iC G i1 10 g1, iC G i2 10 (fun _ => nI 0), iC G i3 10 (fun _ => nI 0)] ++ (lsW G cW (nI 0) (sa 0) 0 none ++ (lsW G cP mcQ dQ (nS R) oQ ++ wr)))) hH (List.perm_append_comm_assoc _ _ _)
  refine x_widen (k2 := (2 * 0 + 9)) (n2 := (12 * 0 + 67)) (by omega) (by omega) ?_
  have lp : ∀ (fu : Nat) (kN : Nat) (Xv : va_W) (mcv : Int32) (dv : Nat) (ov : Option (Nat → Option Nat)) (elv : Nat → Nat), (kN ≤ nW R) → (lsK sa dv kN ov) → (∀ i, i < kN → elO ov i = some (elv i)) → (∀ w, w < kN → ∃ aS, oC (elv w) 9 [.ref aS, .int (R (97 + 14 * w + 1))] ∈ Xv ∧ Str G wr aS (fun k => 97 + wC R w k) (wL R w)) → nW R - kN < fu → ∀ (H : Heap) (locs : List Loc), HH G sT ([oC cS 2 [.ref cP, .ref cW, .int (nI 100), .int (nI 5), .ref cI], oC cI 3 [.ref i1, .ref i2, .ref i3, .int (nI 0), .int (nI 0), .int (nI 0)], iC G i1 10 g1, iC G i2 10 (fun _ => nI 0), iC G i3 10 (fun _ => nI 0)] ++ (Xv ++ (lsW G cW mcv dv kN ov ++ (lsW G cP mcQ dQ (nS R) oQ ++ wr)))) H locs → ∀ ls : Array Slot, lv_has ls 3 [(0, .ref a), (1, .ref cS), (2, .int (nI kN))] → W pR l eV (Rm 5 30 200) sT mI ([.ref a] : List Value).toArray below meth cd H locs (2 * kN + 9) (12 * kN + 67) QQ (F0 mI 22 ls []) := by
    intro fu
    induction fu with
    | zero => intro kN Xv mcv dv ov elv hk hkv hev hxv hm; exact absurd hm (Nat.not_lt_zero _)
    | succ fu ih_lp =>
      intro kN Xv mcv dv ov elv hk hkv hev hxv hm H locs hH ls hl
      refine lv_iload_n hx hb dX2_copy_22 rfl (lv_at hl 2 rfl) ?_
      refine lv_aload_n hx hb dX2_copy_23 rfl (lv_at hl 0 rfl) ?_
      refine x_get X hH.1.1 in_X2 (mem_r (mem_r (mem_r (mem_r mS)))) rfl 1 (by decide) q179 (fun _ h => h) rfl dX2_copy_24 ?_
      refine x_RV (l_size hE (LW.mono (fun _ h => mem_r (mem_r (mem_r (mem_r h)))))) X hH.2 hH.1.1 (x_rc X hH.1.1 (mem_r (mem_r (mem_r (mem_r (lW _ List.mem_cons_self))))) rfl) (lw_V q887 q349 q350 q66 q351) hdv_J2_size ⟨Nat.le_of_ble_eq_true rfl, Nat.le_of_ble_eq_true rfl⟩ rfl hl.1 rfl (Nat.le_of_ble_eq_true rfl) ⟨(show (2 * kN + 9) ≤ 30 by omega), (show (12 * kN + 67) ≤ 200 by omega)⟩ dX2_copy_27 ?_
      refine n_icmp_ge (tgt := 61) hx hb (by omega) (by omega) dX2_copy_30 (by decide) (fun c1 => ?_) (fun c1 => ?_)
      · have ek : kN = nW R := by omega
        refine lv_aload_n hx hb dX2_copy_61 rfl (lv_at hl 1 rfl) ?_
        refine lv_aload_n hx hb dX2_copy_62 rfl (lv_at hl 0 rfl) ?_
        refine x_get X hH.1.1 in_X2 (mem_r (mem_r (mem_r (mem_r mS)))) rfl 2 (by decide) q183 (fun _ h => h) rfl dX2_copy_63 ?_
        refine x_put X hH in_X2 tyX2 tyX2_ok nmX2 0 rfl rfl 2 (by decide) q183 (fun _ h => h) rfl (ty := .int) (by decide +kernel) rfl rfl (Nat.le_of_ble_eq_true rfl) dX2_copy_66 (fun H locs hH => ?_)
        have hH : HH G sT ([oC cS 2 [.ref cP, .ref cW, .int (R 2), .int (nI 5), .ref cI], oC cI 3 [.ref i1, .ref i2, .ref i3, .int (nI 0), .int (nI 0), .int (nI 0)], iC G i1 10 g1, iC G i2 10 (fun _ => nI 0), iC G i3 10 (fun _ => nI 0)] ++ (Xv ++ (lsW G cW mcv dv kN ov ++ (lsW G cP mcQ dQ (nS R) oQ ++ wr)))) H locs := hH
        refine lv_aload_n hx hb dX2_copy_69 rfl (lv_at hl 1 rfl) ?_
        refine lv_aload_n hx hb dX2_copy_70 rfl (lv_at hl 0 rfl) ?_
        refine x_get X hH.1.1 in_X2 (mem_r (mem_r (mem_r (mem_r mS)))) rfl 3 (by decide) q186 (fun _ h => h) rfl dX2_copy_71 ?_
        refine x_put X hH in_X2 tyX2 tyX2_ok nmX2 0 rfl rfl 3 (by decide) q186 (fun _ h => h) rfl (ty := .int) (by decide +kernel) rfl rfl (Nat.le_of_ble_eq_true rfl) dX2_copy_74 (fun H locs hH => ?_)
        have hH : HH G sT ([oC cS 2 [.ref cP, .ref cW, .int (R 2), .int (R 3), .ref cI], oC cI 3 [.ref i1, .ref i2, .ref i3, .int (nI 0), .int (nI 0), .int (nI 0)], iC G i1 10 g1, iC G i2 10 (fun _ => nI 0), iC G i3 10 (fun _ => nI 0)] ++ (Xv ++ (lsW G cW mcv dv kN ov ++ (lsW G cP mcQ dQ (nS R) oQ ++ wr)))) H locs := hH
        refine lv_aload_n hx hb dX2_copy_77 rfl (lv_at hl 1 rfl) ?_
        refine x_get X hH.1.1 in_X2 (mem_k 0 rfl) rfl 4 (by decide) q189 (fun _ h => h) rfl dX2_copy_78 ?_
        refine lv_aload_n hx hb dX2_copy_81 rfl (lv_at hl 0 rfl) ?_
        refine x_get X hH.1.1 in_X2 (mem_r (mem_r (mem_r (mem_r mS)))) rfl 4 (by decide) q189 (fun _ h => h) rfl dX2_copy_82 ?_
        have hH : HH G sT ([oC cI 3 [.ref i1, .ref i2, .ref i3, .int (nI 0), .int (nI 0), .int (nI 0)], iC G i1 10 g1, iC G i2 10 (fun _ => nI 0), iC G i3 10 (fun _ => nI 0), oC cS 2 [.ref cP, .ref cW, .int (R 2), .int (R 3), .ref cI]] ++ (Xv ++ (lsW G cW mcv dv kN ov ++ (lsW G cP mcQ dQ (nS R) oQ ++ wr)))) H locs := HH.pickN hH 5 [1, 2, 3, 4, 0] rfl (by decide) rfl
        refine x_MVa (c_X3_takes (wr := ([oC cS 2 [.ref cP, .ref cW, .int (R 2), .int (R 3), .ref cI]] ++ (Xv ++ (lsW G cW mcv dv kN ov ++ (lsW G cP mcQ dQ (nS R) oQ ++ wr))))) hE ((show Ink G wr aI R from hI).mono (fun _ h => mem_r (mem_r (mem_r (mem_r h))))) LP.len) X hH (x_rc X hH.1.1 (mem_k 0 rfl) rfl) (lw_V q908 q909 q910 q67 q911) hdv_X3_takes ⟨Nat.le_of_ble_eq_true rfl, Nat.le_of_ble_eq_true rfl⟩ rfl hl.1 rfl (Nat.le_of_ble_eq_true rfl) ⟨(show (2 * kN + 9) ≤ 30 by omega), (show (12 * kN + 67) ≤ 200 by omega)⟩ dX2_copy_85 (fun r w H locs hq hH => ?_)
        obtain ⟨h1, h2, h3, hKn, -, rfl⟩ := hq
        have hH : HH G sT ([oC cI 3 [.ref i1, .ref i2, .ref i3, .int (R 4), .int (R 5), .int (R 6)], iC G i1 10 h1, iC G i2 10 h2, iC G i3 10 h3, oC cS 2 [.ref cP, .ref cW, .int (R 2), .int (R 3), .ref cI]] ++ (Xv ++ (lsW G cW mcv dv kN ov ++ (lsW G cP mcQ dQ (nS R) oQ ++ wr)))) H locs := hH
        refine lv_pop hx hb dX2_copy_88 rfl ?_
        refine lv_aload_n hx hb dX2_copy_89 rfl (lv_at hl 1 rfl) ?_
        have hH : HH G sT ([oC cS 2 [.ref cP, .ref cW, .int (R 2), .int (R 3), .ref cI], oC cI 3 [.ref i1, .ref i2, .ref i3, .int (R 4), .int (R 5), .int (R 6)], iC G i1 10 h1, iC G i2 10 h2, iC G i3 10 h3] ++ (Xv ++ (lsW G cW mcv dv kN ov ++ (lsW G cP mcQ dQ (nS R) oQ ++ wr)))) H locs := HH.pickN hH 5 [4, 0, 1, 2, 3] rfl (by decide) rfl
        have hH : HH G sT ([oC cS 2 [.ref cP, .ref cW, .int (R 2), .int (R 3), .ref cI], oC cI 3 [.ref i1, .ref i2, .ref i3, .int (R 4), .int (R 5), .int (R 6)], iC G i1 10 h1, iC G i2 10 h2, iC G i3 10 h3] ++ (lsW G cW mcv dv kN ov ++ (Xv ++ (lsW G cP mcQ dQ (nS R) oQ ++ wr)))) H locs := hH.perm (List.Perm.append_left _ ((List.Perm.append_left _ (List.Perm.refl _)).trans (List.perm_append_comm_assoc _ _ _)))
        have hH : HH G sT ([oC cS 2 [.ref cP, .ref cW, .int (R 2), .int (R 3), .ref cI], oC cI 3 [.ref i1, .ref i2, .ref i3, .int (R 4), .int (R 5), .int (R 6)], iC G i1 10 h1, iC G i2 10 h2, iC G i3 10 h3] ++ (lsW G cP mcQ dQ (nS R) oQ ++ (lsW G cW mcv dv kN ov ++ (Xv ++ wr)))) H locs := hH.perm (List.Perm.append_left _ ((List.Perm.append_left _ ((List.Perm.append_left _ (List.Perm.refl _)).trans (List.perm_append_comm_assoc _ _ _))).trans (List.perm_append_comm_assoc _ _ _)))
        exact ret _ _ _ _ _ _ _ _ hH (⟨_, (show _ = stW G cS cP cW cI R mcQ dQ oQ mcv dv ov Xv i1 i2 i3 h1 h2 h3 ++ wr from by unfold stW; rw [← ek]; simp only [List.append_assoc]; rfl), cP, cW, cI, mcQ, dQ, oQ, mcv, dv, ov, Xv, i1, i2, i3, h1, h2, h3, eP, elv, rfl, hKn, ⟨hkQ, heQ⟩, ⟨by rw [← ek]; exact hkv, fun i hi => hev i (by omega)⟩, SP, fun w hw => hxv w (by omega)⟩) (show (2 * kN + 9) ≤ 30 by omega) (show (12 * kN + 67) ≤ 200 by omega) dX2_copy_90
      · refine lv_aload_n hx hb dX2_copy_33 rfl (lv_at hl 1 rfl) ?_
        refine x_get X hH.1.1 in_X2 (mem_k 0 rfl) rfl 1 (by decide) q179 (fun _ h => h) rfl dX2_copy_34 ?_
        refine lv_aload_n hx hb dX2_copy_37 rfl (lv_at hl 0 rfl) ?_
        refine x_get X hH.1.1 in_X2 (mem_r (mem_r (mem_r (mem_r mS)))) rfl 1 (by decide) q179 (fun _ h => h) rfl dX2_copy_38 ?_
        refine lv_iload_n hx hb dX2_copy_41 rfl (lv_at hl 2 rfl) ?_
        obtain ⟨aST, mT, hsT⟩ := id (SW kN c1)
        obtain ⟨qT, fT, xT, zT, yT, -⟩ := id hsT
        refine x_RV (l_get hE (LW.mono (fun _ h => mem_r (mem_r (mem_r (mem_r h))))) c1) X hH.2 hH.1.1 (x_rc X hH.1.1 (mem_r (mem_r (mem_r (mem_r (lW _ List.mem_cons_self))))) rfl) (lw_V q888 q889 q890 q66 q891) hdv_J2_get ⟨Nat.le_of_ble_eq_true rfl, Nat.le_of_ble_eq_true rfl⟩ rfl hl.1 rfl (Nat.le_of_ble_eq_true rfl) ⟨(show (2 * kN + 9) ≤ 30 by omega), (show (12 * kN + 67) ≤ 200 by omega)⟩ dX2_copy_42 ?_
        refine x_castS X hH.1.1 (mem_r (mem_r (mem_r (mem_r mT)))) rfl q900 dX2_copy_45 ?_
        refine x_MVa (c_X10_copy (wr := ([oC cS 2 [.ref cP, .ref cW, .int (nI 100), .int (nI 5), .ref cI], oC cI 3 [.ref i1, .ref i2, .ref i3, .int (nI 0), .int (nI 0), .int (nI 0)], iC G i1 10 g1, iC G i2 10 (fun _ => nI 0), iC G i3 10 (fun _ => nI 0)] ++ (Xv ++ (lsW G cW mcv dv kN ov ++ (lsW G cP mcQ dQ (nS R) oQ ++ wr))))) hE (mem_r (mem_r (mem_r (mem_r mT))))) X hH (x_rc X hH.1.1 (mem_r (mem_r (mem_r (mem_r mT)))) rfl) (lw_V q901 q902 q903 q92 q904) hdv_X10_copy ⟨Nat.le_of_ble_eq_true rfl, Nat.le_of_ble_eq_true rfl⟩ rfl hl.1 rfl (Nat.le_of_ble_eq_true rfl) ⟨(show (2 * kN + 9) + 1 ≤ 30 by omega), (show (12 * kN + 67) + 2 ≤ 200 by omega)⟩ dX2_copy_48 (fun q w H locs hq hH => ?_)
        obtain rfl := hq
        refine x_widen (k2 := (2 * kN + 10)) (n2 := (12 * kN + 69)) (by omega) (by omega) ?_
        have hH : HH G sT ([oC q 9 [.ref aST, .int (R (97 + 14 * kN + 1))], oC cS 2 [.ref cP, .ref cW, .int (nI 100), .int (nI 5), .ref cI], oC cI 3 [.ref i1, .ref i2, .ref i3, .int (nI 0), .int (nI 0), .int (nI 0)], iC G i1 10 g1, iC G i2 10 (fun _ => nI 0), iC G i3 10 (fun _ => nI 0)] ++ (Xv ++ (lsW G cW mcv dv kN ov ++ (lsW G cP mcQ dQ (nS R) oQ ++ wr)))) H locs := hH
        have hH : HH G sT (lsW G cW mcv dv kN ov ++ ([oC q 9 [.ref aST, .int (R (97 + 14 * kN + 1))], oC cS 2 [.ref cP, .ref cW, .int (nI 100), .int (nI 5), .ref cI], oC cI 3 [.ref i1, .ref i2, .ref i3, .int (nI 0), .int (nI 0), .int (nI 0)], iC G i1 10 g1, iC G i2 10 (fun _ => nI 0), iC G i3 10 (fun _ => nI 0)] ++ (Xv ++ (lsW G cP mcQ dQ (nS R) oQ ++ wr)))) H locs := hH.perm ((List.Perm.append_left _ ((List.Perm.append_left _ (List.Perm.refl _)).trans (List.perm_append_comm_assoc _ _ _))).trans (List.perm_append_comm_assoc _ _ _))
        refine x_MVi (l_add (ci := 9) (wr := ([oC q 9 [.ref aST, .int (R (97 + 14 * kN + 1))], oC cS 2 [.ref cP, .ref cW, .int (nI 100), .int (nI 5), .ref cI], oC cI 3 [.ref i1, .ref i2, .ref i3, .int (nI 0), .int (nI 0), .int (nI 0)], iC G i1 10 g1, iC G i2 10 (fun _ => nI 0), iC G i3 10 (fun _ => nI 0)] ++ (Xv ++ (lsW G cP mcQ dQ (nS R) oQ ++ wr)))) hE hJ (mem_k 0 rfl) rfl q1815 hkv (by omega)) X hH (x_rc X hH.1.1 (mem_l List.mem_cons_self) rfl) (lw_V q907 q760 q761 q66 q762) hdv_J2_add ⟨Nat.le_of_ble_eq_true rfl, Nat.le_of_ble_eq_true rfl⟩ rfl hl.1 rfl (Nat.le_of_ble_eq_true rfl) ⟨(show (2 * kN + 10) + 1 ≤ 30 by omega), (show (12 * kN + 69) + 10 ≤ 200 by omega)⟩ dX2_copy_51 (fun r w H locs hq hH => ?_)
        obtain ⟨dv2, rfl⟩ := hq
        refine x_widen (k2 := (2 * kN + 11)) (n2 := (12 * kN + 79)) (by omega) (by omega) ?_
        have hH : HH G sT ([oC q 9 [.ref aST, .int (R (97 + 14 * kN + 1))], oC cS 2 [.ref cP, .ref cW, .int (nI 100), .int (nI 5), .ref cI], oC cI 3 [.ref i1, .ref i2, .ref i3, .int (nI 0), .int (nI 0), .int (nI 0)], iC G i1 10 g1, iC G i2 10 (fun _ => nI 0), iC G i3 10 (fun _ => nI 0)] ++ (Xv ++ (lsW G cW (mcv + nI 1) dv2 (kN + 1) (some (va_up (elO ov) kN (some q))) ++ (lsW G cP mcQ dQ (nS R) oQ ++ wr)))) H locs := hH.perm (((List.Perm.append_left _ ((List.Perm.append_left _ (List.Perm.refl _)).trans (List.perm_append_comm_assoc _ _ _))).trans (List.perm_append_comm_assoc _ _ _)).symm)
        have hH : HH G sT ([oC cS 2 [.ref cP, .ref cW, .int (nI 100), .int (nI 5), .ref cI], oC cI 3 [.ref i1, .ref i2, .ref i3, .int (nI 0), .int (nI 0), .int (nI 0)], iC G i1 10 g1, iC G i2 10 (fun _ => nI 0), iC G i3 10 (fun _ => nI 0)] ++ (([oC q 9 [.ref aST, .int (R (97 + 14 * kN + 1))]] ++ Xv) ++ (lsW G cW (mcv + nI 1) dv2 (kN + 1) (some (va_up (elO ov) kN (some q))) ++ (lsW G cP mcQ dQ (nS R) oQ ++ wr)))) H locs := HH.perm (ws := [oC q 9 [.ref aST, .int (R (97 + 14 * kN + 1))]] ++ ([oC cS 2 [.ref cP, .ref cW, .int (nI 100), .int (nI 5), .ref cI], oC cI 3 [.ref i1, .ref i2, .ref i3, .int (nI 0), .int (nI 0), .int (nI 0)], iC G i1 10 g1, iC G i2 10 (fun _ => nI 0), iC G i3 10 (fun _ => nI 0)] ++ (Xv ++ (lsW G cW (mcv + nI 1) dv2 (kN + 1) (some (va_up (elO ov) kN (some q))) ++ (lsW G cP mcQ dQ (nS R) oQ ++ wr))))) hH (List.perm_append_comm_assoc _ _ _)
        refine lv_pop hx hb dX2_copy_54 rfl ?_
        refine lv_iinc (v := nI (kN + 1)) (lv' := [(2, .int (nI (kN + 1))), (0, .ref a), (1, .ref cS)]) hx hb dX2_copy_55 hl (k := 2) rfl (nI_add _ 1) (by decide) rfl (fun ls hl => ?_)
        refine lv_goto (tgt := 22) hx hb dX2_copy_58 (by decide) ?_
        refine x_widen (k2 := (2 * (kN + 1) + 9)) (n2 := (12 * (kN + 1) + 67)) (by omega) (by omega) ?_
        exact ih_lp (kN + 1) ([oC q 9 [.ref aST, .int (R (97 + 14 * kN + 1))]] ++ Xv) (mcv + nI 1) dv2 (some (va_up (elO ov) kN (some q))) (fun i => if i = kN then q else elv i)  (by omega) (⟨by omega, fun q => by cases q⟩) (fun i hi => by show va_up (elO ov) kN (some q) i = some (if i = kN then q else elv i); by_cases c : i = kN; exact (by rw [c, va_up_self, if_pos rfl]); exact (by rw [va_up_ne _ _ c, if_neg c]; exact hev i (by omega))) (fun w hw => by by_cases c : w = kN; exact (by subst c; exact ⟨aST, (by show oC (if w = w then q else elv w) 9 _ ∈ _; rw [if_pos rfl]; exact mem_k 0 rfl), hsT⟩); exact (by obtain ⟨aS, x1, x2⟩ := hxv w (by omega); exact ⟨aS, (by show oC (if w = kN then q else elv w) 9 _ ∈ _; rw [if_neg c]; exact mem_r x1), x2⟩)) (by omega) _ _ hH ls (lv_sub hl [1, 2, 0] rfl)
  exact lp _ 0 ([]) (nI 0) (sa 0) none (fun _ => 0)  (Nat.zero_le _) (⟨Nat.zero_le _, fun _ => ⟨rfl, rfl⟩⟩) (fun i hi => absurd hi (Nat.not_lt_zero _)) (fun i hi => absurd hi (Nat.not_lt_zero _)) (Nat.lt_succ_self _) _ _ hH ls (lv_sub hl [2, 1, 0] rfl)
end C8
