/-! MODEL, methods 1: small ones -/
def rgB (lo hi x : Int32) : Bool := decide (lo ≤ x) && decide (x ≤ hi)
section
variable {l : Launch} {G : GG} {E : State → Prop} {a : Nat → Nat} {x4 x5 x7 x8 x11 x15 : Int32} {f1 f2 f3 f4 f5 f6 f7 f8 f9 f10 f11 : Nat → Int32} {h : Int64} {wr : va_W}
theorem hds_X6_in : yX6_in.cls ≠ "java/lang/invoke/MethodHandle" ∧ yX6_in.cls ≠ "java/lang/invoke/VarHandle" ∧ (parseMethodDescriptor yX6_in.desc).map (fun d => d.parameters.length) = some 3 := by decide +kernel
theorem c_X6_in (hE : EnvOK G E) {x lo hi : Int32} : RO l G E yX6_in cX6_in 3 .boolean 1 [.int x, .int lo, .int hi] (fun _ => True) (.int (bI (rgB lo hi x))) := by
  refine ROz hE (by decide) (Nat.le_of_ble_eq_true rfl) (bI_nar _) (fun pR eV sT mI below meth cd QQ ls X hP hl ret => ?_)
  obtain ⟨⟨hx, hb, hml, hown, hts⟩, ⟨hr, hlk⟩, -, -, -⟩ := id X
  have hl : lv_has ls 3 [(0, .int x), (1, .int lo), (2, .int hi)] := hl
  refine lv_iload_n hx hb dX6_in_0 rfl (lv_at hl 0 rfl) ?_
  refine lv_iload_n hx hb dX6_in_1 rfl (lv_at hl 1 rfl) ?_
  refine lv_icmp_lt (tgt := 14) hx hb dX6_in_2 (by decide) (fun c1 => ?_) (fun c1 => ?_)
  · refine lv_iconst (v := nI 0) hx hb dX6_in_14 (by decide) ?_
    exact ret _ _ _ (bI_f (by unfold rgB; simp only [Bool.and_eq_false_iff, decide_eq_false_iff_not]; exact Or.inl (Int32.not_le.mpr c1))) dX6_in_15
  · refine lv_iload_n hx hb dX6_in_5 rfl (lv_at hl 0 rfl) ?_
    refine lv_iload_n hx hb dX6_in_6 rfl (lv_at hl 2 rfl) ?_
    refine lv_icmp_gt (tgt := 14) hx hb dX6_in_7 (by decide) (fun c2 => ?_) (fun c2 => ?_)
    · refine lv_iconst (v := nI 0) hx hb dX6_in_14 (by decide) ?_
      exact ret _ _ _ (bI_f (by unfold rgB; simp only [Bool.and_eq_false_iff, decide_eq_false_iff_not]; exact Or.inr (Int32.not_le.mpr c2))) dX6_in_15
    · refine lv_iconst (v := nI 1) hx hb dX6_in_10 (by decide) ?_
      refine lv_goto (tgt := 15) hx hb dX6_in_11 (by decide) ?_
      exact ret _ _ _ (bI_t (by unfold rgB; simp only [Bool.and_eq_true, decide_eq_true_eq]; exact ⟨Int32.not_lt.mp c1, Int32.not_lt.mp c2⟩)) dX6_in_15
theorem hds_X6_stampAt : yX6_stampAt.cls ≠ "java/lang/invoke/MethodHandle" ∧ yX6_stampAt.cls ≠ "java/lang/invoke/VarHandle" ∧ (parseMethodDescriptor yX6_stampAt.desc).map (fun d => d.parameters.length) = some 1 := by decide +kernel
theorem c_X6_stampAt (hE : EnvOK G E) {sN : Nat} : RO l G E yX6_stampAt cX6_stampAt 1 .int 1 [.int (nI sN)] (fun _ => True) (.int (nI (7 + 9 * sN))) := by
  refine ROi hE (by decide) (Nat.le_of_ble_eq_true rfl) (fun pR eV sT mI below meth cd QQ ls X hP hl ret => ?_)
  obtain ⟨⟨hx, hb, hml, hown, hts⟩, ⟨hr, hlk⟩, -, -, -⟩ := id X
  have hl : lv_has ls 1 [(0, .int (nI sN))] := hl
  refine lv_bipush (v := nI 7) hx hb dX6_stampAt_0 (by decide) ?_
  refine lv_bipush (v := nI 9) hx hb dX6_stampAt_2 (by decide) ?_
  refine lv_iload_n hx hb dX6_stampAt_4 rfl (lv_at hl 0 rfl) ?_
  refine n_imul hx hb dX6_stampAt_5 ?_
  refine n_iadd hx hb dX6_stampAt_6 ?_
  exact ret _ _ _ (rfl) dX6_stampAt_7
theorem hds_X6_wordAt : yX6_wordAt.cls ≠ "java/lang/invoke/MethodHandle" ∧ yX6_wordAt.cls ≠ "java/lang/invoke/VarHandle" ∧ (parseMethodDescriptor yX6_wordAt.desc).map (fun d => d.parameters.length) = some 1 := by decide +kernel
theorem c_X6_wordAt (hE : EnvOK G E) {wN : Nat} : RO l G E yX6_wordAt cX6_wordAt 1 .int 1 [.int (nI wN)] (fun _ => True) (.int (nI (97 + 14 * wN))) := by
  refine ROi hE (by decide) (Nat.le_of_ble_eq_true rfl) (fun pR eV sT mI below meth cd QQ ls X hP hl ret => ?_)
  obtain ⟨⟨hx, hb, hml, hown, hts⟩, ⟨hr, hlk⟩, -, -, -⟩ := id X
  have hl : lv_has ls 1 [(0, .int (nI wN))] := hl
  refine lv_bipush (v := nI 97) hx hb dX6_wordAt_0 (by decide) ?_
  refine lv_bipush (v := nI 14) hx hb dX6_wordAt_2 (by decide) ?_
  refine lv_iload_n hx hb dX6_wordAt_4 rfl (lv_at hl 0 rfl) ?_
  refine n_imul hx hb dX6_wordAt_5 ?_
  refine n_iadd hx hb dX6_wordAt_6 ?_
  exact ret _ _ _ (rfl) dX6_wordAt_7
theorem hdv_X6_isWorn : yX6_isWorn.cls = RX6 ∧ yX6_isWorn.cls ≠ "java/lang/invoke/MethodHandle" ∧ yX6_isWorn.cls ≠ "java/lang/invoke/VarHandle" ∧ (parseMethodDescriptor yX6_isWorn.desc).map (fun d => d.parameters.length) = some 1 := by decide +kernel
theorem c_X6_isWorn (hE : EnvOK G E) {sN : Nat} (hs : sN < 20) : RO l G E yX6_isWorn cX6_isWorn 2 .boolean 2 [.ref (a 0), .int (nI sN)] (va_P G.1 cls (mw G a x4 x5 x7 x8 x11 x15 f1 f2 f3 f4 f5 f6 f7 f8 f9 f10 f11 h)) (.int (bI (wornB f1 sN))) := by
  refine ROz hE (by decide) (Nat.le_of_ble_eq_true rfl) (bI_nar _) (fun pR eV sT mI below meth cd QQ ls X hP hl ret => ?_)
  obtain ⟨⟨hx, hb, hml, hown, hts⟩, ⟨hr, hlk⟩, -, -, -⟩ := id X
  have hl : lv_has ls 2 [(0, .ref (a 0)), (1, .int (nI sN))] := hl
  refine lv_aload_n hx hb dX6_isWorn_0 rfl (lv_at hl 0 rfl) ?_
  refine m_g0 X hP dX6_isWorn_1 ?_
  refine lv_iload_n hx hb dX6_isWorn_4 rfl (lv_at hl 1 rfl) ?_
  refine m_S (c_X6_stampAt hE) X va_S.rf (lw_S q1551 q1552 q72 q1553) hds_X6_stampAt ⟨Nat.le_of_ble_eq_true rfl, Nat.le_of_ble_eq_true rfl⟩ ⟨Nat.le_refl _, Nat.le_refl _⟩ rfl hl.1 rfl (Nat.le_of_ble_eq_true rfl) dX6_isWorn_5 ?_
  refine lv_bipush (v := nI 8) hx hb dX6_isWorn_8 (by decide) ?_
  refine n_iadd hx hb dX6_isWorn_10 ?_
  refine m_ld1 X hP (by omega) dX6_isWorn_11 ?_
  refine lv_aload_n hx hb dX6_isWorn_12 rfl (lv_at hl 0 rfl) ?_
  refine m_g0 X hP dX6_isWorn_13 ?_
  refine lv_iconst (v := nI 2) hx hb dX6_isWorn_16 (by decide) ?_
  refine m_ld1 X hP (by omega) dX6_isWorn_17 ?_
  refine lv_icmp_lt (tgt := 25) hx hb dX6_isWorn_18 (by decide) (fun c1 => ?_) (fun c1 => ?_)
  · refine lv_iconst (v := nI 0) hx hb dX6_isWorn_25 (by decide) ?_
    exact ret _ _ _ (bI_f (decide_eq_false (Int32.not_le.mpr c1))) dX6_isWorn_26
  · refine lv_iconst (v := nI 1) hx hb dX6_isWorn_21 (by decide) ?_
    refine lv_goto (tgt := 26) hx hb dX6_isWorn_22 (by decide) ?_
    exact ret _ _ _ (bI_t (decide_eq_true (Int32.not_lt.mp c1))) dX6_isWorn_26
theorem hdv_X6_thrown : yX6_thrown.cls = RX6 ∧ yX6_thrown.cls ≠ "java/lang/invoke/MethodHandle" ∧ yX6_thrown.cls ≠ "java/lang/invoke/VarHandle" ∧ (parseMethodDescriptor yX6_thrown.desc).map (fun d => d.parameters.length) = some 0 := by decide +kernel
theorem c_X6_thrown (hE : EnvOK G E) : RO l G E yX6_thrown cX6_thrown 1 .int 1 [.ref (a 0)] (va_P G.1 cls (mw G a x4 x5 x7 x8 x11 x15 f1 f2 f3 f4 f5 f6 f7 f8 f9 f10 f11 h)) (.int x5) := by
  refine ROi hE (by decide) (Nat.le_of_ble_eq_true rfl) (fun pR eV sT mI below meth cd QQ ls X hP hl ret => ?_)
  obtain ⟨⟨hx, hb, hml, hown, hts⟩, ⟨hr, hlk⟩, -, -, -⟩ := id X
  have hl : lv_has ls 1 [(0, .ref (a 0))] := hl
  refine lv_aload_n hx hb dX6_thrown_0 rfl (lv_at hl 0 rfl) ?_
  refine m_g5 X hP dX6_thrown_1 ?_
  exact ret _ _ _ (rfl) dX6_thrown_4
theorem hds_X6_turned : yX6_turned.cls ≠ "java/lang/invoke/MethodHandle" ∧ yX6_turned.cls ≠ "java/lang/invoke/VarHandle" ∧ (parseMethodDescriptor yX6_turned.desc).map (fun d => d.parameters.length) = some 1 := by decide +kernel
theorem c_X6_turned (hE : EnvOK G E) {kN : Nat} (hk : kN < 26) : RO l G E yX6_turned cX6_turned 1 .int 1 [.int (nI kN)] (fun _ => True) (.int (tlN kN)) := by
  refine ROi hE (by decide) (Nat.le_of_ble_eq_true rfl) (fun pR eV sT mI below meth cd QQ ls X hP hl ret => ?_)
  obtain ⟨⟨hx, hb, hml, hown, hts⟩, ⟨hr, hlk⟩, -, -, -⟩ := id X
  have hl : lv_has ls 1 [(0, .int (nI kN))] := hl
  rcases (show kN = 0 ∨ kN = 1 ∨ kN = 2 ∨ kN = 3 ∨ kN = 4 ∨ kN = 5 ∨ kN = 6 ∨ kN = 7 ∨ kN = 8 ∨ kN = 9 ∨ kN = 10 ∨ kN = 11 ∨ kN = 12 ∨ kN = 13 ∨ kN = 14 ∨ kN = 15 ∨ kN = 16 ∨ kN = 17 ∨ kN = 18 ∨ kN = 19 ∨ kN = 20 ∨ kN = 21 ∨ kN = 22 ∨ kN = 23 ∨ kN = 24 ∨ kN = 25 by omega) with rfl | rfl | rfl | rfl | rfl | rfl | rfl | rfl | rfl | rfl | rfl | rfl | rfl | rfl | rfl | rfl | rfl | rfl | rfl | rfl | rfl | rfl | rfl | rfl | rfl | rfl
  · refine lv_iload_n hx hb dX6_turned_0 rfl (lv_at hl 0 rfl) ?_
    refine lv_bipush (v := nI 97) hx hb dX6_turned_1 (by decide) ?_
    refine n_iadd hx hb dX6_turned_3 ?_
    refine lv_tableOut (tgt := 144) hx hb dX6_turned_4 (by decide) (by decide) ?_
    refine lv_iconst (v := (-1)) hx hb dX6_turned_144 (by decide) ?_
    exact ret _ _ _ (by decide) dX6_turned_145
  · refine lv_iload_n hx hb dX6_turned_0 rfl (lv_at hl 0 rfl) ?_
    refine lv_bipush (v := nI 97) hx hb dX6_turned_1 (by decide) ?_
    refine n_iadd hx hb dX6_turned_3 ?_
    refine lv_tableIn (off := 116) (tgt := 120) hx hb dX6_turned_4 (by decide) (by decide) (by decide) (by decide) ?_
    refine lv_bipush (v := nI 16) hx hb dX6_turned_120 (by decide) ?_
    exact ret _ _ _ (by decide) dX6_turned_122
  · refine lv_iload_n hx hb dX6_turned_0 rfl (lv_at hl 0 rfl) ?_
    refine lv_bipush (v := nI 97) hx hb dX6_turned_1 (by decide) ?_
    refine n_iadd hx hb dX6_turned_3 ?_
    refine lv_tableIn (off := 140) (tgt := 144) hx hb dX6_turned_4 (by decide) (by decide) (by decide) (by decide) ?_
    refine lv_iconst (v := (-1)) hx hb dX6_turned_144 (by decide) ?_
    exact ret _ _ _ (by decide) dX6_turned_145
  · refine lv_iload_n hx hb dX6_turned_0 rfl (lv_at hl 0 rfl) ?_
    refine lv_bipush (v := nI 97) hx hb dX6_turned_1 (by decide) ?_
    refine n_iadd hx hb dX6_turned_3 ?_
    refine lv_tableIn (off := 121) (tgt := 125) hx hb dX6_turned_4 (by decide) (by decide) (by decide) (by decide) ?_
    refine lv_bipush (v := nI 15) hx hb dX6_turned_125 (by decide) ?_
    exact ret _ _ _ (by decide) dX6_turned_127
  · refine lv_iload_n hx hb dX6_turned_0 rfl (lv_at hl 0 rfl) ?_
    refine lv_bipush (v := nI 97) hx hb dX6_turned_1 (by decide) ?_
    refine n_iadd hx hb dX6_turned_3 ?_
    refine lv_tableIn (off := 140) (tgt := 144) hx hb dX6_turned_4 (by decide) (by decide) (by decide) (by decide) ?_
    refine lv_iconst (v := (-1)) hx hb dX6_turned_144 (by decide) ?_
    exact ret _ _ _ (by decide) dX6_turned_145
  · refine lv_iload_n hx hb dX6_turned_0 rfl (lv_at hl 0 rfl) ?_
    refine lv_bipush (v := nI 97) hx hb dX6_turned_1 (by decide) ?_
    refine n_iadd hx hb dX6_turned_3 ?_
    refine lv_tableIn (off := 140) (tgt := 144) hx hb dX6_turned_4 (by decide) (by decide) (by decide) (by decide) ?_
    refine lv_iconst (v := (-1)) hx hb dX6_turned_144 (by decide) ?_
    exact ret _ _ _ (by decide) dX6_turned_145
  · refine lv_iload_n hx hb dX6_turned_0 rfl (lv_at hl 0 rfl) ?_
    refine lv_bipush (v := nI 97) hx hb dX6_turned_1 (by decide) ?_
    refine n_iadd hx hb dX6_turned_3 ?_
    refine lv_tableIn (off := 140) (tgt := 144) hx hb dX6_turned_4 (by decide) (by decide) (by decide) (by decide) ?_
    refine lv_iconst (v := (-1)) hx hb dX6_turned_144 (by decide) ?_
    exact ret _ _ _ (by decide) dX6_turned_145
  · refine lv_iload_n hx hb dX6_turned_0 rfl (lv_at hl 0 rfl) ?_
    refine lv_bipush (v := nI 97) hx hb dX6_turned_1 (by decide) ?_
    refine n_iadd hx hb dX6_turned_3 ?_
    refine lv_tableIn (off := 140) (tgt := 144) hx hb dX6_turned_4 (by decide) (by decide) (by decide) (by decide) ?_
    refine lv_iconst (v := (-1)) hx hb dX6_turned_144 (by decide) ?_
    exact ret _ _ _ (by decide) dX6_turned_145
  · refine lv_iload_n hx hb dX6_turned_0 rfl (lv_at hl 0 rfl) ?_
    refine lv_bipush (v := nI 97) hx hb dX6_turned_1 (by decide) ?_
    refine n_iadd hx hb dX6_turned_3 ?_
    refine lv_tableIn (off := 140) (tgt := 144) hx hb dX6_turned_4 (by decide) (by decide) (by decide) (by decide) ?_
    refine lv_iconst (v := (-1)) hx hb dX6_turned_144 (by decide) ?_
    exact ret _ _ _ (by decide) dX6_turned_145
  · refine lv_iload_n hx hb dX6_turned_0 rfl (lv_at hl 0 rfl) ?_
    refine lv_bipush (v := nI 97) hx hb dX6_turned_1 (by decide) ?_
    refine n_iadd hx hb dX6_turned_3 ?_
    refine lv_tableIn (off := 140) (tgt := 144) hx hb dX6_turned_4 (by decide) (by decide) (by decide) (by decide) ?_
    refine lv_iconst (v := (-1)) hx hb dX6_turned_144 (by decide) ?_
    exact ret _ _ _ (by decide) dX6_turned_145
  · refine lv_iload_n hx hb dX6_turned_0 rfl (lv_at hl 0 rfl) ?_
    refine lv_bipush (v := nI 97) hx hb dX6_turned_1 (by decide) ?_
    refine n_iadd hx hb dX6_turned_3 ?_
    refine lv_tableIn (off := 140) (tgt := 144) hx hb dX6_turned_4 (by decide) (by decide) (by decide) (by decide) ?_
    refine lv_iconst (v := (-1)) hx hb dX6_turned_144 (by decide) ?_
    exact ret _ _ _ (by decide) dX6_turned_145
  · refine lv_iload_n hx hb dX6_turned_0 rfl (lv_at hl 0 rfl) ?_
    refine lv_bipush (v := nI 97) hx hb dX6_turned_1 (by decide) ?_
    refine n_iadd hx hb dX6_turned_3 ?_
    refine lv_tableIn (off := 138) (tgt := 142) hx hb dX6_turned_4 (by decide) (by decide) (by decide) (by decide) ?_
    refine lv_iload_n hx hb dX6_turned_142 rfl (lv_at hl 0 rfl) ?_
    exact ret _ _ _ (by decide) dX6_turned_143
  · refine lv_iload_n hx hb dX6_turned_0 rfl (lv_at hl 0 rfl) ?_
    refine lv_bipush (v := nI 97) hx hb dX6_turned_1 (by decide) ?_
    refine n_iadd hx hb dX6_turned_3 ?_
    refine lv_tableIn (off := 126) (tgt := 130) hx hb dX6_turned_4 (by decide) (by decide) (by decide) (by decide) ?_
    refine lv_bipush (v := nI 22) hx hb dX6_turned_130 (by decide) ?_
    exact ret _ _ _ (by decide) dX6_turned_132
  · refine lv_iload_n hx hb dX6_turned_0 rfl (lv_at hl 0 rfl) ?_
    refine lv_bipush (v := nI 97) hx hb dX6_turned_1 (by decide) ?_
    refine n_iadd hx hb dX6_turned_3 ?_
    refine lv_tableIn (off := 132) (tgt := 136) hx hb dX6_turned_4 (by decide) (by decide) (by decide) (by decide) ?_
    refine lv_bipush (v := nI 20) hx hb dX6_turned_136 (by decide) ?_
    exact ret _ _ _ (by decide) dX6_turned_138
  · refine lv_iload_n hx hb dX6_turned_0 rfl (lv_at hl 0 rfl) ?_
    refine lv_bipush (v := nI 97) hx hb dX6_turned_1 (by decide) ?_
    refine n_iadd hx hb dX6_turned_3 ?_
    refine lv_tableIn (off := 138) (tgt := 142) hx hb dX6_turned_4 (by decide) (by decide) (by decide) (by decide) ?_
    refine lv_iload_n hx hb dX6_turned_142 rfl (lv_at hl 0 rfl) ?_
    exact ret _ _ _ (by decide) dX6_turned_143
  · refine lv_iload_n hx hb dX6_turned_0 rfl (lv_at hl 0 rfl) ?_
    refine lv_bipush (v := nI 97) hx hb dX6_turned_1 (by decide) ?_
    refine n_iadd hx hb dX6_turned_3 ?_
    refine lv_tableIn (off := 124) (tgt := 128) hx hb dX6_turned_4 (by decide) (by decide) (by decide) (by decide) ?_
    refine lv_iconst (v := nI 3) hx hb dX6_turned_128 (by decide) ?_
    exact ret _ _ _ (by decide) dX6_turned_129
  · refine lv_iload_n hx hb dX6_turned_0 rfl (lv_at hl 0 rfl) ?_
    refine lv_bipush (v := nI 97) hx hb dX6_turned_1 (by decide) ?_
    refine n_iadd hx hb dX6_turned_3 ?_
    refine lv_tableIn (off := 119) (tgt := 123) hx hb dX6_turned_4 (by decide) (by decide) (by decide) (by decide) ?_
    refine lv_iconst (v := nI 1) hx hb dX6_turned_123 (by decide) ?_
    exact ret _ _ _ (by decide) dX6_turned_124
  · refine lv_iload_n hx hb dX6_turned_0 rfl (lv_at hl 0 rfl) ?_
    refine lv_bipush (v := nI 97) hx hb dX6_turned_1 (by decide) ?_
    refine n_iadd hx hb dX6_turned_3 ?_
    refine lv_tableIn (off := 140) (tgt := 144) hx hb dX6_turned_4 (by decide) (by decide) (by decide) (by decide) ?_
    refine lv_iconst (v := (-1)) hx hb dX6_turned_144 (by decide) ?_
    exact ret _ _ _ (by decide) dX6_turned_145
  · refine lv_iload_n hx hb dX6_turned_0 rfl (lv_at hl 0 rfl) ?_
    refine lv_bipush (v := nI 97) hx hb dX6_turned_1 (by decide) ?_
    refine n_iadd hx hb dX6_turned_3 ?_
    refine lv_tableIn (off := 138) (tgt := 142) hx hb dX6_turned_4 (by decide) (by decide) (by decide) (by decide) ?_
    refine lv_iload_n hx hb dX6_turned_142 rfl (lv_at hl 0 rfl) ?_
    exact ret _ _ _ (by decide) dX6_turned_143
  · refine lv_iload_n hx hb dX6_turned_0 rfl (lv_at hl 0 rfl) ?_
    refine lv_bipush (v := nI 97) hx hb dX6_turned_1 (by decide) ?_
    refine n_iadd hx hb dX6_turned_3 ?_
    refine lv_tableIn (off := 140) (tgt := 144) hx hb dX6_turned_4 (by decide) (by decide) (by decide) (by decide) ?_
    refine lv_iconst (v := (-1)) hx hb dX6_turned_144 (by decide) ?_
    exact ret _ _ _ (by decide) dX6_turned_145
  · refine lv_iload_n hx hb dX6_turned_0 rfl (lv_at hl 0 rfl) ?_
    refine lv_bipush (v := nI 97) hx hb dX6_turned_1 (by decide) ?_
    refine n_iadd hx hb dX6_turned_3 ?_
    refine lv_tableIn (off := 135) (tgt := 139) hx hb dX6_turned_4 (by decide) (by decide) (by decide) (by decide) ?_
    refine lv_bipush (v := nI 13) hx hb dX6_turned_139 (by decide) ?_
    exact ret _ _ _ (by decide) dX6_turned_141
  · refine lv_iload_n hx hb dX6_turned_0 rfl (lv_at hl 0 rfl) ?_
    refine lv_bipush (v := nI 97) hx hb dX6_turned_1 (by decide) ?_
    refine n_iadd hx hb dX6_turned_3 ?_
    refine lv_tableIn (off := 140) (tgt := 144) hx hb dX6_turned_4 (by decide) (by decide) (by decide) (by decide) ?_
    refine lv_iconst (v := (-1)) hx hb dX6_turned_144 (by decide) ?_
    exact ret _ _ _ (by decide) dX6_turned_145
  · refine lv_iload_n hx hb dX6_turned_0 rfl (lv_at hl 0 rfl) ?_
    refine lv_bipush (v := nI 97) hx hb dX6_turned_1 (by decide) ?_
    refine n_iadd hx hb dX6_turned_3 ?_
    refine lv_tableIn (off := 129) (tgt := 133) hx hb dX6_turned_4 (by decide) (by decide) (by decide) (by decide) ?_
    refine lv_bipush (v := nI 12) hx hb dX6_turned_133 (by decide) ?_
    exact ret _ _ _ (by decide) dX6_turned_135
  · refine lv_iload_n hx hb dX6_turned_0 rfl (lv_at hl 0 rfl) ?_
    refine lv_bipush (v := nI 97) hx hb dX6_turned_1 (by decide) ?_
    refine n_iadd hx hb dX6_turned_3 ?_
    refine lv_tableIn (off := 138) (tgt := 142) hx hb dX6_turned_4 (by decide) (by decide) (by decide) (by decide) ?_
    refine lv_iload_n hx hb dX6_turned_142 rfl (lv_at hl 0 rfl) ?_
    exact ret _ _ _ (by decide) dX6_turned_143
  · refine lv_iload_n hx hb dX6_turned_0 rfl (lv_at hl 0 rfl) ?_
    refine lv_bipush (v := nI 97) hx hb dX6_turned_1 (by decide) ?_
    refine n_iadd hx hb dX6_turned_3 ?_
    refine lv_tableIn (off := 140) (tgt := 144) hx hb dX6_turned_4 (by decide) (by decide) (by decide) (by decide) ?_
    refine lv_iconst (v := (-1)) hx hb dX6_turned_144 (by decide) ?_
    exact ret _ _ _ (by decide) dX6_turned_145
  · refine lv_iload_n hx hb dX6_turned_0 rfl (lv_at hl 0 rfl) ?_
    refine lv_bipush (v := nI 97) hx hb dX6_turned_1 (by decide) ?_
    refine n_iadd hx hb dX6_turned_3 ?_
    refine lv_tableIn (off := 138) (tgt := 142) hx hb dX6_turned_4 (by decide) (by decide) (by decide) (by decide) ?_
    refine lv_iload_n hx hb dX6_turned_142 rfl (lv_at hl 0 rfl) ?_
    exact ret _ _ _ (by decide) dX6_turned_143
end
