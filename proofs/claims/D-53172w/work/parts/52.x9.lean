/-! COMPONENT 2: letters turned, stamps, words -/
section C7
variable {l : Launch} {G : GG} {E : State → Prop} {sa : Nat → Nat} {ws wr : va_W}
variable {kN : Nat}
theorem hds_X1_turned_2 : yX1_turned_2.cls ≠ "java/lang/invoke/MethodHandle" ∧ yX1_turned_2.cls ≠ "java/lang/invoke/VarHandle" ∧ (parseMethodDescriptor yX1_turned_2.desc).map (fun d => d.parameters.length) = some 1 := by decide +kernel
theorem c_X1_turned_2 (hE : EnvOK G E) (hk : kN < 26) : RO l G E yX1_turned_2 cX1_turned_2 1 .char 1 [.int (nI (97 + kN))] (fun _ => True) (.int (nI (tuC (97 + kN)))) := by
  refine ROz hE (by decide) (Nat.le_of_ble_eq_true rfl) (nar_c (tuC_all kN hk).1) (fun pR eV sT mI below meth cd QQ ls X hP hl ret => ?_)
  obtain ⟨⟨hx, hb, hml, hown, hts⟩, ⟨hr, hlk⟩, -, -, -⟩ := id X
  have hl : lv_has ls 1 [(0, .int (nI (97 + kN)))] := hl
  rcases (show kN = 0 ∨ kN = 1 ∨ kN = 2 ∨ kN = 3 ∨ kN = 4 ∨ kN = 5 ∨ kN = 6 ∨ kN = 7 ∨ kN = 8 ∨ kN = 9 ∨ kN = 10 ∨ kN = 11 ∨ kN = 12 ∨ kN = 13 ∨ kN = 14 ∨ kN = 15 ∨ kN = 16 ∨ kN = 17 ∨ kN = 18 ∨ kN = 19 ∨ kN = 20 ∨ kN = 21 ∨ kN = 22 ∨ kN = 23 ∨ kN = 24 ∨ kN = 25 by omega) with rfl | rfl | rfl | rfl | rfl | rfl | rfl | rfl | rfl | rfl | rfl | rfl | rfl | rfl | rfl | rfl | rfl | rfl | rfl | rfl | rfl | rfl | rfl | rfl | rfl | rfl
  · refine lv_iload_n hx hb dX1_turned_2_0 rfl (lv_at hl 0 rfl) ?_
    refine lv_tableOut (tgt := 160) hx hb dX1_turned_2_1 (by decide) (by decide) ?_
    refine lv_iconst (v := nI 0) hx hb dX1_turned_2_160 (by decide) ?_
    exact ret _ _ _ (rfl) dX1_turned_2_161
  · refine lv_iload_n hx hb dX1_turned_2_0 rfl (lv_at hl 0 rfl) ?_
    refine lv_tableIn (off := 115) (tgt := 116) hx hb dX1_turned_2_1 (by decide) (by decide) (by decide) (by decide) ?_
    refine lv_bipush (v := nI 113) hx hb dX1_turned_2_116 (by decide) ?_
    refine lv_goto (tgt := 161) hx hb dX1_turned_2_118 (by decide) ?_
    exact ret _ _ _ (rfl) dX1_turned_2_161
  · refine lv_iload_n hx hb dX1_turned_2_0 rfl (lv_at hl 0 rfl) ?_
    refine lv_tableIn (off := 159) (tgt := 160) hx hb dX1_turned_2_1 (by decide) (by decide) (by decide) (by decide) ?_
    refine lv_iconst (v := nI 0) hx hb dX1_turned_2_160 (by decide) ?_
    exact ret _ _ _ (rfl) dX1_turned_2_161
  · refine lv_iload_n hx hb dX1_turned_2_0 rfl (lv_at hl 0 rfl) ?_
    refine lv_tableIn (off := 125) (tgt := 126) hx hb dX1_turned_2_1 (by decide) (by decide) (by decide) (by decide) ?_
    refine lv_bipush (v := nI 112) hx hb dX1_turned_2_126 (by decide) ?_
    refine lv_goto (tgt := 161) hx hb dX1_turned_2_128 (by decide) ?_
    exact ret _ _ _ (rfl) dX1_turned_2_161
  · refine lv_iload_n hx hb dX1_turned_2_0 rfl (lv_at hl 0 rfl) ?_
    refine lv_tableIn (off := 159) (tgt := 160) hx hb dX1_turned_2_1 (by decide) (by decide) (by decide) (by decide) ?_
    refine lv_iconst (v := nI 0) hx hb dX1_turned_2_160 (by decide) ?_
    exact ret _ _ _ (rfl) dX1_turned_2_161
  · refine lv_iload_n hx hb dX1_turned_2_0 rfl (lv_at hl 0 rfl) ?_
    refine lv_tableIn (off := 159) (tgt := 160) hx hb dX1_turned_2_1 (by decide) (by decide) (by decide) (by decide) ?_
    refine lv_iconst (v := nI 0) hx hb dX1_turned_2_160 (by decide) ?_
    exact ret _ _ _ (rfl) dX1_turned_2_161
  · refine lv_iload_n hx hb dX1_turned_2_0 rfl (lv_at hl 0 rfl) ?_
    refine lv_tableIn (off := 159) (tgt := 160) hx hb dX1_turned_2_1 (by decide) (by decide) (by decide) (by decide) ?_
    refine lv_iconst (v := nI 0) hx hb dX1_turned_2_160 (by decide) ?_
    exact ret _ _ _ (rfl) dX1_turned_2_161
  · refine lv_iload_n hx hb dX1_turned_2_0 rfl (lv_at hl 0 rfl) ?_
    refine lv_tableIn (off := 159) (tgt := 160) hx hb dX1_turned_2_1 (by decide) (by decide) (by decide) (by decide) ?_
    refine lv_iconst (v := nI 0) hx hb dX1_turned_2_160 (by decide) ?_
    exact ret _ _ _ (rfl) dX1_turned_2_161
  · refine lv_iload_n hx hb dX1_turned_2_0 rfl (lv_at hl 0 rfl) ?_
    refine lv_tableIn (off := 159) (tgt := 160) hx hb dX1_turned_2_1 (by decide) (by decide) (by decide) (by decide) ?_
    refine lv_iconst (v := nI 0) hx hb dX1_turned_2_160 (by decide) ?_
    exact ret _ _ _ (rfl) dX1_turned_2_161
  · refine lv_iload_n hx hb dX1_turned_2_0 rfl (lv_at hl 0 rfl) ?_
    refine lv_tableIn (off := 159) (tgt := 160) hx hb dX1_turned_2_1 (by decide) (by decide) (by decide) (by decide) ?_
    refine lv_iconst (v := nI 0) hx hb dX1_turned_2_160 (by decide) ?_
    exact ret _ _ _ (rfl) dX1_turned_2_161
  · refine lv_iload_n hx hb dX1_turned_2_0 rfl (lv_at hl 0 rfl) ?_
    refine lv_tableIn (off := 159) (tgt := 160) hx hb dX1_turned_2_1 (by decide) (by decide) (by decide) (by decide) ?_
    refine lv_iconst (v := nI 0) hx hb dX1_turned_2_160 (by decide) ?_
    exact ret _ _ _ (rfl) dX1_turned_2_161
  · refine lv_iload_n hx hb dX1_turned_2_0 rfl (lv_at hl 0 rfl) ?_
    refine lv_tableIn (off := 155) (tgt := 156) hx hb dX1_turned_2_1 (by decide) (by decide) (by decide) (by decide) ?_
    refine lv_iload_n hx hb dX1_turned_2_156 rfl (lv_at hl 0 rfl) ?_
    refine lv_goto (tgt := 161) hx hb dX1_turned_2_157 (by decide) ?_
    exact ret _ _ _ (rfl) dX1_turned_2_161
  · refine lv_iload_n hx hb dX1_turned_2_0 rfl (lv_at hl 0 rfl) ?_
    refine lv_tableIn (off := 135) (tgt := 136) hx hb dX1_turned_2_1 (by decide) (by decide) (by decide) (by decide) ?_
    refine lv_bipush (v := nI 119) hx hb dX1_turned_2_136 (by decide) ?_
    refine lv_goto (tgt := 161) hx hb dX1_turned_2_138 (by decide) ?_
    exact ret _ _ _ (rfl) dX1_turned_2_161
  · refine lv_iload_n hx hb dX1_turned_2_0 rfl (lv_at hl 0 rfl) ?_
    refine lv_tableIn (off := 145) (tgt := 146) hx hb dX1_turned_2_1 (by decide) (by decide) (by decide) (by decide) ?_
    refine lv_bipush (v := nI 117) hx hb dX1_turned_2_146 (by decide) ?_
    refine lv_goto (tgt := 161) hx hb dX1_turned_2_148 (by decide) ?_
    exact ret _ _ _ (rfl) dX1_turned_2_161
  · refine lv_iload_n hx hb dX1_turned_2_0 rfl (lv_at hl 0 rfl) ?_
    refine lv_tableIn (off := 155) (tgt := 156) hx hb dX1_turned_2_1 (by decide) (by decide) (by decide) (by decide) ?_
    refine lv_iload_n hx hb dX1_turned_2_156 rfl (lv_at hl 0 rfl) ?_
    refine lv_goto (tgt := 161) hx hb dX1_turned_2_157 (by decide) ?_
    exact ret _ _ _ (rfl) dX1_turned_2_161
  · refine lv_iload_n hx hb dX1_turned_2_0 rfl (lv_at hl 0 rfl) ?_
    refine lv_tableIn (off := 130) (tgt := 131) hx hb dX1_turned_2_1 (by decide) (by decide) (by decide) (by decide) ?_
    refine lv_bipush (v := nI 100) hx hb dX1_turned_2_131 (by decide) ?_
    refine lv_goto (tgt := 161) hx hb dX1_turned_2_133 (by decide) ?_
    exact ret _ _ _ (rfl) dX1_turned_2_161
  · refine lv_iload_n hx hb dX1_turned_2_0 rfl (lv_at hl 0 rfl) ?_
    refine lv_tableIn (off := 120) (tgt := 121) hx hb dX1_turned_2_1 (by decide) (by decide) (by decide) (by decide) ?_
    refine lv_bipush (v := nI 98) hx hb dX1_turned_2_121 (by decide) ?_
    refine lv_goto (tgt := 161) hx hb dX1_turned_2_123 (by decide) ?_
    exact ret _ _ _ (rfl) dX1_turned_2_161
  · refine lv_iload_n hx hb dX1_turned_2_0 rfl (lv_at hl 0 rfl) ?_
    refine lv_tableIn (off := 159) (tgt := 160) hx hb dX1_turned_2_1 (by decide) (by decide) (by decide) (by decide) ?_
    refine lv_iconst (v := nI 0) hx hb dX1_turned_2_160 (by decide) ?_
    exact ret _ _ _ (rfl) dX1_turned_2_161
  · refine lv_iload_n hx hb dX1_turned_2_0 rfl (lv_at hl 0 rfl) ?_
    refine lv_tableIn (off := 155) (tgt := 156) hx hb dX1_turned_2_1 (by decide) (by decide) (by decide) (by decide) ?_
    refine lv_iload_n hx hb dX1_turned_2_156 rfl (lv_at hl 0 rfl) ?_
    refine lv_goto (tgt := 161) hx hb dX1_turned_2_157 (by decide) ?_
    exact ret _ _ _ (rfl) dX1_turned_2_161
  · refine lv_iload_n hx hb dX1_turned_2_0 rfl (lv_at hl 0 rfl) ?_
    refine lv_tableIn (off := 159) (tgt := 160) hx hb dX1_turned_2_1 (by decide) (by decide) (by decide) (by decide) ?_
    refine lv_iconst (v := nI 0) hx hb dX1_turned_2_160 (by decide) ?_
    exact ret _ _ _ (rfl) dX1_turned_2_161
  · refine lv_iload_n hx hb dX1_turned_2_0 rfl (lv_at hl 0 rfl) ?_
    refine lv_tableIn (off := 150) (tgt := 151) hx hb dX1_turned_2_1 (by decide) (by decide) (by decide) (by decide) ?_
    refine lv_bipush (v := nI 110) hx hb dX1_turned_2_151 (by decide) ?_
    refine lv_goto (tgt := 161) hx hb dX1_turned_2_153 (by decide) ?_
    exact ret _ _ _ (rfl) dX1_turned_2_161
  · refine lv_iload_n hx hb dX1_turned_2_0 rfl (lv_at hl 0 rfl) ?_
    refine lv_tableIn (off := 159) (tgt := 160) hx hb dX1_turned_2_1 (by decide) (by decide) (by decide) (by decide) ?_
    refine lv_iconst (v := nI 0) hx hb dX1_turned_2_160 (by decide) ?_
    exact ret _ _ _ (rfl) dX1_turned_2_161
  · refine lv_iload_n hx hb dX1_turned_2_0 rfl (lv_at hl 0 rfl) ?_
    refine lv_tableIn (off := 140) (tgt := 141) hx hb dX1_turned_2_1 (by decide) (by decide) (by decide) (by decide) ?_
    refine lv_bipush (v := nI 109) hx hb dX1_turned_2_141 (by decide) ?_
    refine lv_goto (tgt := 161) hx hb dX1_turned_2_143 (by decide) ?_
    exact ret _ _ _ (rfl) dX1_turned_2_161
  · refine lv_iload_n hx hb dX1_turned_2_0 rfl (lv_at hl 0 rfl) ?_
    refine lv_tableIn (off := 155) (tgt := 156) hx hb dX1_turned_2_1 (by decide) (by decide) (by decide) (by decide) ?_
    refine lv_iload_n hx hb dX1_turned_2_156 rfl (lv_at hl 0 rfl) ?_
    refine lv_goto (tgt := 161) hx hb dX1_turned_2_157 (by decide) ?_
    exact ret _ _ _ (rfl) dX1_turned_2_161
  · refine lv_iload_n hx hb dX1_turned_2_0 rfl (lv_at hl 0 rfl) ?_
    refine lv_tableIn (off := 159) (tgt := 160) hx hb dX1_turned_2_1 (by decide) (by decide) (by decide) (by decide) ?_
    refine lv_iconst (v := nI 0) hx hb dX1_turned_2_160 (by decide) ?_
    exact ret _ _ _ (rfl) dX1_turned_2_161
  · refine lv_iload_n hx hb dX1_turned_2_0 rfl (lv_at hl 0 rfl) ?_
    refine lv_tableIn (off := 155) (tgt := 156) hx hb dX1_turned_2_1 (by decide) (by decide) (by decide) (by decide) ?_
    refine lv_iload_n hx hb dX1_turned_2_156 rfl (lv_at hl 0 rfl) ?_
    refine lv_goto (tgt := 161) hx hb dX1_turned_2_157 (by decide) ?_
    exact ret _ _ _ (rfl) dX1_turned_2_161
theorem t2_of (hE : EnvOK G E) {c : Nat} (h : ∃ j, j < 26 ∧ c = 97 + j) : RO l G E yX1_turned_2 cX1_turned_2 1 .char 1 [.int (nI c)] (fun _ => True) (.int (nI (tuC c))) := by
  obtain ⟨j, hj, rfl⟩ := h
  exact c_X1_turned_2 hE hj
theorem tu128 {c : Nat} (h : ∃ j, j < 26 ∧ c = 97 + j) : tuC c < 128 := by
  obtain ⟨j, hj, rfl⟩ := h
  exact (tuC_all j hj).1
theorem bI_and (a b : Bool) : bI a &&& bI b = bI (a && b) := by cases a <;> cases b <;> rfl
theorem tn_step {t : Nat → Nat} {n i : Nat} {b : Bool} (e : b = decide (tuC (t (n - 1 - i)) ≠ 0)) : (allB i (fun j => decide (tuC (t (n - 1 - j)) ≠ 0)) && b) = allB (i + 1) (fun j => decide (tuC (t (n - 1 - j)) ≠ 0)) := by rw [e]; rfl
variable {aS nN : Nat} {tS : Nat → Nat}
theorem hds_X1_turned : yX1_turned.cls ≠ "java/lang/invoke/MethodHandle" ∧ yX1_turned.cls ≠ "java/lang/invoke/VarHandle" ∧ (parseMethodDescriptor yX1_turned.desc).map (fun d => d.parameters.length) = some 1 := by decide +kernel
theorem c_X1_turned (hE : EnvOK G E) (hJ : EnvJ G E sa) (hs : Str G wr aS tS nN) (hlet : ∀ k, k < nN → ∃ j, j < 26 ∧ tS k = 97 + j) (h1 : 0 < nN) (h12 : nN ≤ 12) : MU vQ l G E yX1_turned cX1_turned 5 (some (.object "java/lang/String")) 9 4 40 [.ref aS] (wr) (fun r w => ∃ X, w = X ++ wr ∧ (tnB tS nN = false → r = none) ∧ (tnB tS nN = true → ∃ a, r = some a ∧ a ≠ aS ∧ Str G X a (fun k => tuC (tS (nN - 1 - k))) nN)) := by
  refine MUq hE (by decide) (Nat.le_of_ble_eq_true rfl) (Or.inl ⟨_, rfl⟩) (fun pR eV sT mI below meth cd QQ ls X hH hl ret => ?_)
  obtain ⟨⟨hx, hb, hml, hown, hts⟩, ⟨hr, hlk⟩, -, -, -⟩ := id X
  have hJs := X.J hJ
  have hl : lv_has ls 5 [(0, .ref aS)] := hl
  refine wgen (H := sT.heap) (locs := []) hH (fun H locs hH => ?_)
  obtain ⟨qS, fS, hhS, zzS, m0S, m1S, htS, hnS⟩ := hs
  refine x_new X hH in_J11 tyJ11 tyJ11_ok q723 q430 q82 (ci := 12) (fs := [.null, .int (nI 0), .int (nI 0), .int (nI 0)]) rfl df_J11 (Nat.le_of_ble_eq_true rfl) (Nat.le_of_ble_eq_true rfl) dX1_turned_0 (fun bN H hH => ?_)
  refine x_widen (k2 := 1) (n2 := 4) (Nat.le_of_ble_eq_true rfl) (Nat.le_of_ble_eq_true rfl) ?_
  have hH : HH G sT ([oC bN 12 [.null, .int (nI 0), .int (nI 0), .int (nI 0)]] ++ wr) H locs := hH
  refine lv_dup hx hb dX1_turned_3 rfl ?_
  refine x_MI (c_J11_init hE hJ) X hH q433 q82 q724 q432 rfl hds_J11_init ⟨Nat.le_of_ble_eq_true rfl, Nat.le_of_ble_eq_true rfl⟩ rfl hl.1 rfl (Nat.le_of_ble_eq_true rfl) ⟨(Nat.le_of_ble_eq_true rfl), (Nat.le_of_ble_eq_true rfl)⟩ dX1_turned_4 (fun w H locs hq hH => ?_)
  obtain ⟨qN, rfl⟩ := hq
  refine x_widen (k2 := 2) (n2 := 20) (Nat.le_of_ble_eq_true rfl) (Nat.le_of_ble_eq_true rfl) ?_
  have hH : HH G sT ([oC bN 12 [.ref qN, .int (nI 0), .int (nI 0), .int (nI 0)], bC G qN 16 (fun _ => nI 0)] ++ wr) H locs := hH
  refine lv_astore_n (lv' := [(1, .ref bN), (0, .ref aS)]) hx hb dX1_turned_7 rfl hl (by decide) rfl (fun ls hl => ?_)
  refine lv_iconst (v := nI 1) hx hb dX1_turned_8 (by decide) ?_
  refine lv_istore_n (lv' := [(2, .int (nI 1)), (1, .ref bN), (0, .ref aS)]) hx hb dX1_turned_9 rfl hl (by decide) rfl (fun ls hl => ?_)
  refine lv_aload_n hx hb dX1_turned_10 rfl (lv_at hl 2 rfl) ?_
  refine x_RV (c_J12_length hE hJ (mem_r m0S) (mem_r m1S)) X hH.2 hH.1.1 (x_rc X hH.1.1 (mem_r m0S) rfl) (lw_V q725 q654 q655 q83 q656) hdv_J12_length ⟨Nat.le_of_ble_eq_true rfl, Nat.le_of_ble_eq_true rfl⟩ rfl hl.1 rfl (Nat.le_of_ble_eq_true rfl) ⟨(Nat.le_of_ble_eq_true rfl), (Nat.le_of_ble_eq_true rfl)⟩ dX1_turned_11 ?_
  refine lv_iconst (v := nI 1) hx hb dX1_turned_14 (by decide) ?_
  refine n_isub hx hb (by omega) dX1_turned_15 ?_
  refine lv_istore_n (lv' := [(3, .int (nI (nN - 1))), (2, .int (nI 1)), (1, .ref bN), (0, .ref aS)]) hx hb dX1_turned_16 rfl hl (by decide) rfl (fun ls hl => ?_)
  have hl : lv_has ls 5 [(3, .int (nI nN + (-1))), (2, .int (nI 1)), (1, .ref bN), (0, .ref aS)] := by rw [← (show (nI (nN - 1) : Int32) = nI nN + (-1) from by obtain ⟨z, hz⟩ : ∃ z, nN = z + 1 := ⟨nN - 1, by omega⟩; rw [hz]; exact (pk_m1 z).symm)]; exact hl
  have hl : lv_has ls 5 [(3, .int (nI nN + (-1))), (2, .int (bI (allB (nN - nN) (fun j => decide (tuC (tS (nN - 1 - j)) ≠ 0))))), (1, .ref bN), (0, .ref aS)] := by rw [← (show (nI 1 : Int32) = bI (allB (nN - nN) (fun j => decide (tuC (tS (nN - 1 - j)) ≠ 0))) from by rw [Nat.sub_self]; rfl)]; exact hl
  have hH : HH G sT ([oC bN 12 [.ref qN, .int (nI 0), .int (nI 0), .int (nI (nN - nN))], bC G qN 16 (fun _ => nI 0)] ++ wr) H locs := by rw [← (show (nI 0 : Int32) = nI (nN - nN) from by rw [Nat.sub_self])]; exact hH
  have lp : ∀ (fu : Nat) (jN : Nat) (fbv : Nat → Int32), (jN ≤ nN) → (∀ k, k < nN - jN → fbv k = nI (tuC (tS (nN - 1 - k)))) → jN < fu → ∀ (H : Heap) (locs : List Loc), HH G sT ([oC bN 12 [.ref qN, .int (nI 0), .int (nI 0), .int (nI (nN - jN))], bC G qN 16 fbv] ++ wr) H locs → ∀ ls : Array Slot, lv_has ls 5 [(0, .ref aS), (1, .ref bN), (2, .int (bI (allB (nN - jN) (fun j => decide (tuC (tS (nN - 1 - j)) ≠ 0))))), (3, .int (nI jN + (-1)))] → W pR l eV (Rm 9 4 40) sT mI ([.ref aS] : List Value).toArray below meth cd H locs 2 20 QQ (F0 mI 17 ls []) := by
    intro fu
    induction fu with
    | zero => intro jN fbv hj hb2 hm; exact absurd hm (Nat.not_lt_zero _)
    | succ fu ih_lp =>
      intro jN fbv hj hb2 hm H locs hH ls hl
      rcases jN with _ | jN
      · have hH : HH G sT ([oC bN 12 [.ref qN, .int (nI 0), .int (nI 0), .int (nI (nN - 0))], bC G qN 16 fbv] ++ wr) H locs := hH
        refine lv_iload_n hx hb dX1_turned_17 rfl (lv_at hl 3 rfl) ?_
        refine lv_if_lt (tgt := 57) hx hb dX1_turned_18 (by decide) (fun c1 => ?_) (fun c1 => absurd (by decide) c1)
        refine lv_iload_n hx hb dX1_turned_57 rfl (lv_at hl 2 rfl) ?_
        have e0 : nN - 0 = nN := rfl
        refine b_if_eq (tgt := 68) hx hb dX1_turned_58 (by decide) (fun c2 => ?_) (fun c2 => ?_)
        · refine lv_null hx hb dX1_turned_68 ?_
          exact ret _ _ _ _ _ _ _ _ hH (⟨_, rfl, fun _ => rfl, fun q => by rw [show tnB tS nN = false from c2] at q; cases q⟩) (Nat.le_of_ble_eq_true rfl) (Nat.le_of_ble_eq_true rfl) dX1_turned_69
        · refine lv_aload_n hx hb dX1_turned_61 rfl (lv_at hl 1 rfl) ?_
          refine x_MVa (c_J11_toString (wr := [oC bN 12 [.ref qN, .int (nI 0), .int (nI 0), .int (nI (nN - 0))], bC G qN 16 fbv] ++ wr) (nN := nN) hE hJ (mem_k 0 rfl) (mem_k 1 rfl) (fun k hk => ⟨_, tu128 (hlet _ (by omega)), hb2 k hk⟩) (by omega)) X hH (x_rc X hH.1.1 (mem_k 0 rfl) rfl) (lw_V q745 q563 q564 q82 q565) hdv_J11_toString ⟨Nat.le_of_ble_eq_true rfl, Nat.le_of_ble_eq_true rfl⟩ rfl hl.1 rfl (Nat.le_of_ble_eq_true rfl) ⟨(Nat.le_of_ble_eq_true rfl), (Nat.le_of_ble_eq_true rfl)⟩ dX1_turned_62 (fun r w H locs hq hH => ?_)
          obtain ⟨qT, gT, hgT, rfl⟩ := hq
          refine x_widen (k2 := 4) (n2 := 40) (Nat.le_of_ble_eq_true rfl) (Nat.le_of_ble_eq_true rfl) ?_
          have hH : HH G sT ([oC r 13 [.ref qT, .int (nI 0), .int (nI 0), .int (nI 0)], bC G qT nN gT, oC bN 12 [.ref qN, .int (nI 0), .int (nI 0), .int (nI (nN - 0))], bC G qN 16 fbv] ++ wr) H locs := hH
          refine lv_goto (tgt := 69) hx hb dX1_turned_65 (by decide) ?_
          have hne : r ≠ aS := HH.ne hH (mem_k 0 rfl) m0S
          exact ret _ _ _ _ _ _ _ _ hH (⟨_, rfl, fun q => (by rw [show tnB tS nN = true from c2] at q; cases q), fun _ => ⟨r, rfl, hne, qT, gT, _, _, mem_k 0 rfl, mem_k 1 rfl, fun k hk => ⟨by rw [hgT k hk]; exact hb2 k hk, tu128 (hlet _ (by omega))⟩, by omega⟩⟩) (Nat.le_of_ble_eq_true rfl) (Nat.le_of_ble_eq_true rfl) dX1_turned_69
      · have hH : HH G sT ([oC bN 12 [.ref qN, .int (nI 0), .int (nI 0), .int (nI (nN - (jN + 1)))], bC G qN 16 fbv] ++ wr) H locs := hH
        have hl : lv_has ls 5 [(0, .ref aS), (1, .ref bN), (2, .int (bI (allB (nN - (jN + 1)) (fun j => decide (tuC (tS (nN - 1 - j)) ≠ 0))))), (3, .int (nI jN))] := by rw [← (show (nI (jN + 1) + (-1) : Int32) = nI jN from pk_m1 jN)]; exact hl
        refine lv_iload_n hx hb dX1_turned_17 rfl (lv_at hl 3 rfl) ?_
        refine lv_if_lt (tgt := 57) hx hb dX1_turned_18 (by decide) (fun c1 => absurd c1 (nI_pos (by omega))) (fun c1 => ?_)
        refine lv_aload_n hx hb dX1_turned_21 rfl (lv_at hl 0 rfl) ?_
        refine lv_iload_n hx hb dX1_turned_22 rfl (lv_at hl 3 rfl) ?_
        refine x_RV (c_J12_charAt hE hJ (mem_r m0S) (mem_r m1S) (iN := jN) (by omega) (by omega) htS) X hH.2 hH.1.1 (x_rc X hH.1.1 (mem_r m0S) rfl) (lw_V q726 q727 q728 q83 q729) hdv_J12_charAt ⟨Nat.le_of_ble_eq_true rfl, Nat.le_of_ble_eq_true rfl⟩ rfl hl.1 rfl (Nat.le_of_ble_eq_true rfl) ⟨(Nat.le_of_ble_eq_true rfl), (Nat.le_of_ble_eq_true rfl)⟩ dX1_turned_23 ?_
        refine x_RS (t2_of hE (hlet jN (by omega))) X hH.2 trivial (lw_S q741 q742 q62 q743) hds_X1_turned_2 ⟨Nat.le_of_ble_eq_true rfl, Nat.le_of_ble_eq_true rfl⟩ rfl hl.1 rfl (Nat.le_of_ble_eq_true rfl) ⟨(Nat.le_of_ble_eq_true rfl), (Nat.le_of_ble_eq_true rfl)⟩ dX1_turned_26 ?_
        have h128 := tu128 (hlet jN (by omega))
        refine lv_istore (lv' := [(4, .int (nI (tuC (tS jN)))), (0, .ref aS), (1, .ref bN), (2, .int (bI (allB (nN - (jN + 1)) (fun j => decide (tuC (tS (nN - 1 - j)) ≠ 0))))), (3, .int (nI jN))]) hx hb dX1_turned_29 hl (by decide) rfl (fun ls hl => ?_)
        refine lv_iload_n hx hb dX1_turned_31 rfl (lv_at hl 3 rfl) ?_
        refine lv_iload hx hb dX1_turned_32 (lv_at hl 0 rfl) ?_
        refine lv_if_eq (tgt := 41) hx hb dX1_turned_34 (by decide) (fun c2 => ?_) (fun c2 => ?_)
        · refine lv_iconst (v := nI 0) hx hb dX1_turned_41 (by decide) ?_
          refine n_top (y := bI false) (rfl) ?_
          refine lv_iand hx hb dX1_turned_42 ?_
          refine n_top (y := bI (allB (nN - jN) (fun j => decide (tuC (tS (nN - 1 - j)) ≠ 0)))) (by rw [bI_and, show nN - jN = nN - (jN + 1) + 1 by omega, tn_step]; rw [show nN - 1 - (nN - (jN + 1)) = jN by omega]; exact (by have q := nI_eq0 (by omega) c2; rw [q]; rfl)) ?_
          refine lv_istore_n (lv' := [(2, .int (bI (allB (nN - jN) (fun j => decide (tuC (tS (nN - 1 - j)) ≠ 0))))), (4, .int (nI (tuC (tS jN)))), (0, .ref aS), (1, .ref bN), (3, .int (nI jN))]) hx hb dX1_turned_43 rfl hl (by decide) rfl (fun ls hl => ?_)
          refine lv_aload_n hx hb dX1_turned_44 rfl (lv_at hl 3 rfl) ?_
          refine lv_iload hx hb dX1_turned_45 (lv_at hl 1 rfl) ?_
          refine x_MVa (c_J11_append hE hJ (by omega) h128) X hH (x_rc X hH.1.1 (mem_k 0 rfl) rfl) (lw_V q744 q468 q469 q82 q470) hdv_J11_append ⟨Nat.le_of_ble_eq_true rfl, Nat.le_of_ble_eq_true rfl⟩ rfl hl.1 rfl (Nat.le_of_ble_eq_true rfl) ⟨(Nat.le_of_ble_eq_true rfl), (Nat.le_of_ble_eq_true rfl)⟩ dX1_turned_47 (fun r w H locs hq hH => ?_)
          obtain ⟨-, rfl⟩ := hq
          have hH : HH G sT ([oC bN 12 [.ref qN, .int (nI 0), .int (nI 0), .int (nI (nN - (jN + 1) + 1))], bC G qN 16 (upd fbv (nN - (jN + 1)) (nI (tuC (tS jN))))] ++ wr) H locs := hH
          have hH : HH G sT ([oC bN 12 [.ref qN, .int (nI 0), .int (nI 0), .int (nI (nN - jN))], bC G qN 16 (upd fbv (nN - (jN + 1)) (nI (tuC (tS jN))))] ++ wr) H locs := by rw [← (show (nI (nN - (jN + 1) + 1) : Int32) = nI (nN - jN) from by rw [show nN - (jN + 1) + 1 = nN - jN by omega])]; exact hH
          refine lv_pop hx hb dX1_turned_50 rfl ?_
          refine lv_iinc (v := (nI jN) + (-1)) (lv' := [(3, .int ((nI jN) + (-1))), (2, .int (bI (allB (nN - jN) (fun j => decide (tuC (tS (nN - 1 - j)) ≠ 0))))), (4, .int (nI (tuC (tS jN)))), (0, .ref aS), (1, .ref bN)]) hx hb dX1_turned_51 hl (k := 4) rfl rfl (by decide) rfl (fun ls hl => ?_)
          refine lv_goto (tgt := 17) hx hb dX1_turned_54 (by decide) ?_
          exact ih_lp jN (upd fbv (nN - (jN + 1)) (nI (tuC (tS jN))))  (by omega) (fun k hk => by by_cases q : k = nN - (jN + 1); exact (by rw [q, pk_us, show nN - 1 - (nN - (jN + 1)) = jN by omega]); exact (by rw [pk_un q]; exact hb2 k (by omega))) (by omega) _ _ hH ls (lv_sub hl [3, 4, 1, 0] rfl)
        · refine lv_iconst (v := nI 1) hx hb dX1_turned_37 (by decide) ?_
          refine lv_goto (tgt := 42) hx hb dX1_turned_38 (by decide) ?_
          refine n_top (y := bI true) (rfl) ?_
          refine lv_iand hx hb dX1_turned_42 ?_
          refine n_top (y := bI (allB (nN - jN) (fun j => decide (tuC (tS (nN - 1 - j)) ≠ 0)))) (by rw [bI_and, show nN - jN = nN - (jN + 1) + 1 by omega, tn_step]; rw [show nN - 1 - (nN - (jN + 1)) = jN by omega]; exact (by have q : tuC (tS jN) ≠ 0 := fun q => c2 (by rw [q]; rfl); simp [q])) ?_
          refine lv_istore_n (lv' := [(2, .int (bI (allB (nN - jN) (fun j => decide (tuC (tS (nN - 1 - j)) ≠ 0))))), (4, .int (nI (tuC (tS jN)))), (0, .ref aS), (1, .ref bN), (3, .int (nI jN))]) hx hb dX1_turned_43 rfl hl (by decide) rfl (fun ls hl => ?_)
          refine lv_aload_n hx hb dX1_turned_44 rfl (lv_at hl 3 rfl) ?_
          refine lv_iload hx hb dX1_turned_45 (lv_at hl 1 rfl) ?_
          refine x_MVa (c_J11_append hE hJ (by omega) h128) X hH (x_rc X hH.1.1 (mem_k 0 rfl) rfl) (lw_V q744 q468 q469 q82 q470) hdv_J11_append ⟨Nat.le_of_ble_eq_true rfl, Nat.le_of_ble_eq_true rfl⟩ rfl hl.1 rfl (Nat.le_of_ble_eq_true rfl) ⟨(Nat.le_of_ble_eq_true rfl), (Nat.le_of_ble_eq_true rfl)⟩ dX1_turned_47 (fun r w H locs hq hH => ?_)
          obtain ⟨-, rfl⟩ := hq
          have hH : HH G sT ([oC bN 12 [.ref qN, .int (nI 0), .int (nI 0), .int (nI (nN - (jN + 1) + 1))], bC G qN 16 (upd fbv (nN - (jN + 1)) (nI (tuC (tS jN))))] ++ wr) H locs := hH
          have hH : HH G sT ([oC bN 12 [.ref qN, .int (nI 0), .int (nI 0), .int (nI (nN - jN))], bC G qN 16 (upd fbv (nN - (jN + 1)) (nI (tuC (tS jN))))] ++ wr) H locs := by rw [← (show (nI (nN - (jN + 1) + 1) : Int32) = nI (nN - jN) from by rw [show nN - (jN + 1) + 1 = nN - jN by omega])]; exact hH
          refine lv_pop hx hb dX1_turned_50 rfl ?_
          refine lv_iinc (v := (nI jN) + (-1)) (lv' := [(3, .int ((nI jN) + (-1))), (2, .int (bI (allB (nN - jN) (fun j => decide (tuC (tS (nN - 1 - j)) ≠ 0))))), (4, .int (nI (tuC (tS jN)))), (0, .ref aS), (1, .ref bN)]) hx hb dX1_turned_51 hl (k := 4) rfl rfl (by decide) rfl (fun ls hl => ?_)
          refine lv_goto (tgt := 17) hx hb dX1_turned_54 (by decide) ?_
          exact ih_lp jN (upd fbv (nN - (jN + 1)) (nI (tuC (tS jN))))  (by omega) (fun k hk => by by_cases q : k = nN - (jN + 1); exact (by rw [q, pk_us, show nN - 1 - (nN - (jN + 1)) = jN by omega]); exact (by rw [pk_un q]; exact hb2 k (by omega))) (by omega) _ _ hH ls (lv_sub hl [3, 4, 1, 0] rfl)
  exact lp _ nN (fun _ => nI 0)  (Nat.le_refl _) (fun k hk => absurd hk (by omega)) (Nat.lt_succ_self _) _ _ hH ls (lv_sub hl [3, 2, 1, 0] rfl)
variable {aT : Nat} {col : Int32}
theorem hds_X9_init : yX9_init.cls ≠ "java/lang/invoke/MethodHandle" ∧ yX9_init.cls ≠ "java/lang/invoke/VarHandle" ∧ (parseMethodDescriptor yX9_init.desc).map (fun d => d.parameters.length) = some 1 := by decide +kernel
theorem c_X9_init (hE : EnvOK G E) (hJ : EnvJ G E sa) (hs : Str G wr aS tS nN) (hlet : ∀ k, k < nN → ∃ j, j < 26 ∧ tS k = 97 + j) (h1 : 0 < nN) (h12 : nN ≤ 12) : MU vV l G E yX9_init cX9_init 2 none 10 4 40 [.ref aT, .ref aS] ([oC aT 8 [.null, .null]] ++ wr) (fun _ w => ∃ X o, (tnB tS nN = false → o = none) ∧ (tnB tS nN = true → ∃ a, o = some a ∧ a ≠ aS ∧ Str G w a (fun k => tuC (tS (nN - 1 - k))) nN) ∧ w = [oC aT 8 [.ref aS, (va_rf o)]] ++ (X ++ wr)) := by
  refine MUc hE (by decide) (Nat.le_of_ble_eq_true rfl) (fun pR eV sT mI below meth cd QQ ls hin X hH hl ret => ?_)
  obtain ⟨⟨hx, hb, hml, hown, hts⟩, ⟨hr, hlk⟩, -, -, -⟩ := id X
  have hJs := X.J hJ
  have hl : lv_has ls 2 [(0, .ref aT), (1, .ref aS)] := hl
  refine wgen (H := sT.heap) (locs := []) hH (fun H locs hH => ?_)
  refine lv_aload_n hx hb dX9_init_0 rfl (lv_at hl 0 rfl) ?_
  refine x_obj X hl.1 q719 q105 q106 (Nat.le_of_ble_eq_true rfl) (Nat.le_of_ble_eq_true rfl) dX9_init_1 ?_
  refine lv_aload_n hx hb dX9_init_4 rfl (lv_at hl 0 rfl) ?_
  refine lv_aload_n hx hb dX9_init_5 rfl (lv_at hl 1 rfl) ?_
  refine x_putF X hH in_X9 tyX9 tyX9_ok nmX9 0 rfl rfl 0 (by decide) q746 (fun _ h => h) rfl hin rfl (ty := .object "java/lang/String") (by decide +kernel) rfl rfl (Nat.le_of_ble_eq_true rfl) dX9_init_6 (fun H locs hH => ?_)
  have hH : HH G sT ([oC aT 8 [.ref aS, .null]] ++ wr) H locs := hH
  refine lv_aload_n hx hb dX9_init_9 rfl (lv_at hl 0 rfl) ?_
  refine lv_aload_n hx hb dX9_init_10 rfl (lv_at hl 1 rfl) ?_
  refine x_MSNq (c_X1_turned (wr := [oC aT 8 [.ref aS, .null]] ++ wr) hE hJ (hs.mono (fun _ h => mem_r h)) hlet h1 h12) X hH q722 q62 (hJs.nw q720 rfl) q721 hds_X1_turned ⟨Nat.le_of_ble_eq_true rfl, Nat.le_of_ble_eq_true rfl⟩ rfl hl.1 rfl (Nat.le_of_ble_eq_true rfl) ⟨(Nat.le_of_ble_eq_true rfl), (Nat.le_of_ble_eq_true rfl)⟩ dX9_init_11 (fun o w H locs hq hH => ?_)
  obtain ⟨XT, rfl, hn1, hn2⟩ := hq
  refine x_widen (k2 := 4) (n2 := 40) (Nat.le_of_ble_eq_true rfl) (Nat.le_of_ble_eq_true rfl) ?_
  have hH : HH G sT ([oC aT 8 [.ref aS, .null]] ++ (XT ++ wr)) H locs := HH.perm (ws := XT ++ ([oC aT 8 [.ref aS, .null]] ++ wr)) hH (List.perm_append_comm_assoc _ _ _)
  refine x_putF X hH in_X9 tyX9 tyX9_ok nmX9 0 rfl rfl 1 (by decide) q750 (fun _ h => h) rfl hin rfl (ty := .object "java/lang/String") (by decide +kernel) (rf_nar _) (rf_fit _) (Nat.le_of_ble_eq_true rfl) dX9_init_14 (fun H locs hH => ?_)
  have hH : HH G sT ([oC aT 8 [.ref aS, (va_rf o)]] ++ (XT ++ wr)) H locs := hH
  exact ret _ _ _ _ _ _ _ hH (⟨XT, o, hn1, fun q => by obtain ⟨a, x1, x2, x3⟩ := hn2 q; exact ⟨a, x1, x2, x3.mono (fun _ h => mem_r (mem_l h))⟩, rfl⟩) (Nat.le_of_ble_eq_true rfl) (Nat.le_of_ble_eq_true rfl) dX9_init_17
theorem hds_X10_init : yX10_init.cls ≠ "java/lang/invoke/MethodHandle" ∧ yX10_init.cls ≠ "java/lang/invoke/VarHandle" ∧ (parseMethodDescriptor yX10_init.desc).map (fun d => d.parameters.length) = some 2 := by decide +kernel
theorem c_X10_init (hE : EnvOK G E) : MU vV l G E yX10_init cX10_init 3 none 1 0 0 [.ref aT, .ref aS, .int col] ([oC aT 9 [.null, .int (nI 0)]] ++ wr) (fun _ w => w = [oC aT 9 [.ref aS, .int col]] ++ wr) := by
  refine MUc hE (by decide) (Nat.le_of_ble_eq_true rfl) (fun pR eV sT mI below meth cd QQ ls hin X hH hl ret => ?_)
  obtain ⟨⟨hx, hb, hml, hown, hts⟩, ⟨hr, hlk⟩, -, -, -⟩ := id X
  have hl : lv_has ls 3 [(0, .ref aT), (1, .ref aS), (2, .int col)] := hl
  refine wgen (H := sT.heap) (locs := []) hH (fun H locs hH => ?_)
  refine lv_aload_n hx hb dX10_init_0 rfl (lv_at hl 0 rfl) ?_
  refine x_obj X hl.1 q814 q105 q106 (Nat.le_of_ble_eq_true rfl) (Nat.le_of_ble_eq_true rfl) dX10_init_1 ?_
  refine lv_aload_n hx hb dX10_init_4 rfl (lv_at hl 0 rfl) ?_
  refine lv_aload_n hx hb dX10_init_5 rfl (lv_at hl 1 rfl) ?_
  refine x_putF X hH in_X10 tyX10 tyX10_ok nmX10 0 rfl rfl 0 (by decide) q815 (fun _ h => h) rfl hin rfl (ty := .object "java/lang/String") (by decide +kernel) rfl rfl (Nat.le_of_ble_eq_true rfl) dX10_init_6 (fun H locs hH => ?_)
  have hH : HH G sT ([oC aT 9 [.ref aS, .int (nI 0)]] ++ wr) H locs := hH
  refine lv_aload_n hx hb dX10_init_9 rfl (lv_at hl 0 rfl) ?_
  refine lv_iload_n hx hb dX10_init_10 rfl (lv_at hl 2 rfl) ?_
  refine x_put X hH in_X10 tyX10 tyX10_ok nmX10 0 rfl rfl 1 (by decide) q818 (fun _ h => h) rfl (ty := .int) (by decide +kernel) rfl rfl (Nat.le_of_ble_eq_true rfl) dX10_init_11 (fun H locs hH => ?_)
  have hH : HH G sT ([oC aT 9 [.ref aS, .int col]] ++ wr) H locs := hH
  exact ret _ _ _ _ _ _ _ hH (rfl) (Nat.le_of_ble_eq_true rfl) (Nat.le_of_ble_eq_true rfl) dX10_init_14
theorem hdv_X10_copy : yX10_copy.cls = RX10 ∧ yX10_copy.cls ≠ "java/lang/invoke/MethodHandle" ∧ yX10_copy.cls ≠ "java/lang/invoke/VarHandle" ∧ (parseMethodDescriptor yX10_copy.desc).map (fun d => d.parameters.length) = some 0 := by decide +kernel
theorem c_X10_copy (hE : EnvOK G E) (h0 : oC aT 9 [.ref aS, .int col] ∈ wr) : MU vA l G E yX10_copy cX10_copy 1 (some (.object "RubberStamps$Word")) 2 1 2 [.ref aT] (wr) (fun r w => w = [oC r 9 [.ref aS, .int col]] ++ wr) := by
  refine MUa hE (by decide) (Nat.le_of_ble_eq_true rfl) (Or.inl ⟨_, rfl⟩) (fun pR eV sT mI below meth cd QQ ls X hH hl ret => ?_)
  obtain ⟨⟨hx, hb, hml, hown, hts⟩, ⟨hr, hlk⟩, -, -, -⟩ := id X
  have hl : lv_has ls 1 [(0, .ref aT)] := hl
  refine wgen (H := sT.heap) (locs := []) hH (fun H locs hH => ?_)
  refine x_new X hH in_X10 tyX10 tyX10_ok q905 q810 q92 (ci := 9) (fs := [.null, .int (nI 0)]) rfl df_X10 (Nat.le_of_ble_eq_true rfl) (Nat.le_of_ble_eq_true rfl) dX10_copy_0 (fun q H hH => ?_)
  refine x_widen (k2 := 1) (n2 := 2) (Nat.le_of_ble_eq_true rfl) (Nat.le_of_ble_eq_true rfl) ?_
  have hH : HH G sT ([oC q 9 [.null, .int (nI 0)]] ++ wr) H locs := hH
  refine lv_dup hx hb dX10_copy_3 rfl ?_
  refine lv_aload_n hx hb dX10_copy_4 rfl (lv_at hl 0 rfl) ?_
  refine x_get X hH.1.1 in_X10 (mem_r h0) rfl 0 (by decide) q815 (fun _ h => h) rfl dX10_copy_5 ?_
  refine lv_aload_n hx hb dX10_copy_8 rfl (lv_at hl 0 rfl) ?_
  refine x_get X hH.1.1 in_X10 (mem_r h0) rfl 1 (by decide) q818 (fun _ h => h) rfl dX10_copy_9 ?_
  refine x_MI (c_X10_init (wr := wr) hE) X hH q813 q92 q906 q812 rfl hds_X10_init ⟨Nat.le_of_ble_eq_true rfl, Nat.le_of_ble_eq_true rfl⟩ rfl hl.1 rfl (Nat.le_of_ble_eq_true rfl) ⟨(Nat.le_of_ble_eq_true rfl), (Nat.le_of_ble_eq_true rfl)⟩ dX10_copy_12 (fun w H locs hq hH => ?_)
  obtain rfl := hq
  have hH : HH G sT ([oC q 9 [.ref aS, .int col]] ++ wr) H locs := hH
  exact ret _ _ _ _ _ _ _ _ hH (rfl) (Nat.le_of_ble_eq_true rfl) (Nat.le_of_ble_eq_true rfl) dX10_copy_15
end C7
