/-! JDK 1: index checks, ArrayList and String, reading -/
section C1
variable {l : Launch} {G : GG} {E : State → Prop} {sa : Nat → Nat} {ws wr : va_W}
theorem va_rf_n : va_rf none = Value.null := rfl
theorem hds_J17_checkIndex : yJ17_checkIndex.cls ≠ "java/lang/invoke/MethodHandle" ∧ yJ17_checkIndex.cls ≠ "java/lang/invoke/VarHandle" ∧ (parseMethodDescriptor yJ17_checkIndex.desc).map (fun d => d.parameters.length) = some 3 := by decide +kernel
theorem c_J17_checkIndex (hE : EnvOK G E) {iN nN : Nat} {o : Option Nat} (hi : iN < nN) (hn : nN < 2 ^ 31) : RO l G E yJ17_checkIndex cJ17_checkIndex 3 .int 1 [.int (nI iN), .int (nI nN), (va_rf o)] (fun _ => True) (.int (nI iN)) := by
  refine ROi hE (by decide) (by cases o <;> exact Nat.le_of_ble_eq_true rfl) (fun pR eV sT mI below meth cd QQ ls X hP hl ret => ?_)
  obtain ⟨⟨hx, hb, hml, hown, hts⟩, ⟨hr, hlk⟩, -, -, -⟩ := id X
  have hl : lv_has ls 3 [(0, .int (nI iN)), (1, .int (nI nN)), (2, (va_rf o))] := hl
  refine lv_iload_n hx hb dJ17_checkIndex_0 rfl (lv_at hl 0 rfl) ?_
  refine lv_if_lt (tgt := 9) hx hb dJ17_checkIndex_1 (by decide) (fun c1 => absurd c1 (nI_pos (by omega))) (fun c1 => ?_)
  refine lv_iload_n hx hb dJ17_checkIndex_4 rfl (lv_at hl 0 rfl) ?_
  refine lv_iload_n hx hb dJ17_checkIndex_5 rfl (lv_at hl 1 rfl) ?_
  refine n_icmp_lt (tgt := 16) hx hb (by omega) (by omega) dJ17_checkIndex_6 (by decide) (fun c2 => ?_) (fun c2 => absurd hi (Nat.not_lt.mpr c2))
  refine lv_iload_n hx hb dJ17_checkIndex_16 rfl (lv_at hl 0 rfl) ?_
  exact ret _ _ _ (rfl) dJ17_checkIndex_17
theorem hds_J19_checkIndex : yJ19_checkIndex.cls ≠ "java/lang/invoke/MethodHandle" ∧ yJ19_checkIndex.cls ≠ "java/lang/invoke/VarHandle" ∧ (parseMethodDescriptor yJ19_checkIndex.desc).map (fun d => d.parameters.length) = some 2 := by decide +kernel
theorem c_J19_checkIndex (hE : EnvOK G E) {iN nN : Nat} (hi : iN < nN) (hn : nN < 2 ^ 31) : RO l G E yJ19_checkIndex cJ19_checkIndex 2 .int 2 [.int (nI iN), .int (nI nN)] (fun _ => True) (.int (nI iN)) := by
  refine ROi hE (by decide) (Nat.le_of_ble_eq_true rfl) (fun pR eV sT mI below meth cd QQ ls X hP hl ret => ?_)
  obtain ⟨⟨hx, hb, hml, hown, hts⟩, ⟨hr, hlk⟩, -, -, -⟩ := id X
  have hl : lv_has ls 2 [(0, .int (nI iN)), (1, .int (nI nN))] := hl
  refine lv_iload_n hx hb dJ19_checkIndex_0 rfl (lv_at hl 0 rfl) ?_
  refine lv_iload_n hx hb dJ19_checkIndex_1 rfl (lv_at hl 1 rfl) ?_
  refine lv_null hx hb dJ19_checkIndex_2 ?_
  refine x_RS (c_J17_checkIndex hE (o := none) hi hn) X va_S.rf trivial (lw_S q895 q560 q89 q561) hds_J17_checkIndex ⟨Nat.le_of_ble_eq_true rfl, Nat.le_of_ble_eq_true rfl⟩ rfl hl.1 rfl (Nat.le_of_ble_eq_true rfl) ⟨Nat.le_refl _, Nat.le_refl _⟩ dJ19_checkIndex_3 ?_
  exact ret _ _ _ (rfl) dJ19_checkIndex_6
variable {aN eN nN cN iN : Nat} {mc : Int32} {fr : Nat → Option Nat} {o : Option Nat}
theorem hdv_J2_size : yJ2_size.cls = RJ2 ∧ yJ2_size.cls ≠ "java/lang/invoke/MethodHandle" ∧ yJ2_size.cls ≠ "java/lang/invoke/VarHandle" ∧ (parseMethodDescriptor yJ2_size.desc).map (fun d => d.parameters.length) = some 0 := by decide +kernel
theorem c_J2_size (hE : EnvOK G E) (h0 : oC aN 10 [.int mc, .ref eN, .int (nI nN)] ∈ ws) : RO l G E yJ2_size cJ2_size 1 .int 1 [.ref aN] (va_P G.1 cls (ws)) (.int (nI nN)) := by
  refine ROi hE (by decide) (Nat.le_of_ble_eq_true rfl) (fun pR eV sT mI below meth cd QQ ls X hP hl ret => ?_)
  obtain ⟨⟨hx, hb, hml, hown, hts⟩, ⟨hr, hlk⟩, -, -, -⟩ := id X
  have hl : lv_has ls 1 [(0, .ref aN)] := hl
  refine lv_aload_n hx hb dJ2_size_0 rfl (lv_at hl 0 rfl) ?_
  refine x_get X hP in_J2 h0 rfl 2 (by decide) q128 (fun _ h => h) rfl dJ2_size_1 ?_
  exact ret _ _ _ (rfl) dJ2_size_4
theorem hdv_J2_elementData : yJ2_elementData.cls = RJ2 ∧ yJ2_elementData.cls ≠ "java/lang/invoke/MethodHandle" ∧ yJ2_elementData.cls ≠ "java/lang/invoke/VarHandle" ∧ (parseMethodDescriptor yJ2_elementData.desc).map (fun d => d.parameters.length) = some 1 := by decide +kernel
theorem c_J2_elementData (hE : EnvOK G E) (h0 : oC aN 10 [.int mc, .ref eN, .int (nI nN)] ∈ ws) (h1 : qC G eN cN fr ∈ ws) (hi : iN < cN) (hc : cN < 2 ^ 31) : RO l G E yJ2_elementData cJ2_elementData 2 (.object "java/lang/Object") 1 [.ref aN, .int (nI iN)] (va_P G.1 cls (ws)) ((va_rf (fr iN))) := by
  refine ROa hE (by decide) (Nat.le_of_ble_eq_true rfl) (Or.inl ⟨_, rfl⟩) (va_rf_or _) (fun pR eV sT mI below meth cd QQ ls X hP hl ret => ?_)
  obtain ⟨⟨hx, hb, hml, hown, hts⟩, ⟨hr, hlk⟩, -, -, -⟩ := id X
  have hl : lv_has ls 2 [(0, .ref aN), (1, .int (nI iN))] := hl
  refine lv_aload_n hx hb dJ2_elementData_0 rfl (lv_at hl 0 rfl) ?_
  refine x_get X hP in_J2 h0 rfl 1 (by decide) q127 (fun _ h => h) rfl dJ2_elementData_1 ?_
  refine lv_iload_n hx hb dJ2_elementData_4 rfl (lv_at hl 1 rfl) ?_
  refine x_aald X hP h1 (t0 := 2) rfl (by omega) (by omega) dJ2_elementData_5 ?_
  exact ret _ _ _ (rfl) dJ2_elementData_6
theorem hdv_J2_get : yJ2_get.cls = RJ2 ∧ yJ2_get.cls ≠ "java/lang/invoke/MethodHandle" ∧ yJ2_get.cls ≠ "java/lang/invoke/VarHandle" ∧ (parseMethodDescriptor yJ2_get.desc).map (fun d => d.parameters.length) = some 1 := by decide +kernel
theorem c_J2_get (hE : EnvOK G E) (h0 : oC aN 10 [.int mc, .ref eN, .int (nI nN)] ∈ ws) (h1 : qC G eN cN fr ∈ ws) (hi : iN < nN) (hnc : nN ≤ cN) (hc : cN < 2 ^ 31) : RO l G E yJ2_get cJ2_get 2 (.object "java/lang/Object") 3 [.ref aN, .int (nI iN)] (va_P G.1 cls (ws)) ((va_rf (fr iN))) := by
  refine ROa hE (by decide) (Nat.le_of_ble_eq_true rfl) (Or.inl ⟨_, rfl⟩) (va_rf_or _) (fun pR eV sT mI below meth cd QQ ls X hP hl ret => ?_)
  obtain ⟨⟨hx, hb, hml, hown, hts⟩, ⟨hr, hlk⟩, -, -, -⟩ := id X
  have hl : lv_has ls 2 [(0, .ref aN), (1, .int (nI iN))] := hl
  refine lv_iload_n hx hb dJ2_get_0 rfl (lv_at hl 1 rfl) ?_
  refine lv_aload_n hx hb dJ2_get_1 rfl (lv_at hl 0 rfl) ?_
  refine x_get X hP in_J2 h0 rfl 2 (by decide) q128 (fun _ h => h) rfl dJ2_get_2 ?_
  refine x_RS (c_J19_checkIndex hE hi (by omega)) X va_S.rf trivial (lw_S q892 q893 q93 q894) hds_J19_checkIndex ⟨Nat.le_of_ble_eq_true rfl, Nat.le_of_ble_eq_true rfl⟩ rfl hl.1 rfl (Nat.le_of_ble_eq_true rfl) ⟨Nat.le_refl _, Nat.le_refl _⟩ dJ2_get_5 ?_
  refine lv_pop hx hb dJ2_get_8 rfl ?_
  refine lv_aload_n hx hb dJ2_get_9 rfl (lv_at hl 0 rfl) ?_
  refine lv_iload_n hx hb dJ2_get_10 rfl (lv_at hl 1 rfl) ?_
  refine x_RV (c_J2_elementData hE h0 h1 (by omega) hc) X va_S.rf hP (x_rc X hP h0 rfl) (lw_V q896 q897 q898 q66 q899) hdv_J2_elementData ⟨Nat.le_of_ble_eq_true rfl, Nat.le_of_ble_eq_true rfl⟩ rfl hl.1 rfl (Nat.le_of_ble_eq_true rfl) ⟨Nat.le_refl _, Nat.le_refl _⟩ dJ2_get_11 ?_
  exact ret _ _ _ (rfl) dJ2_get_14
variable {sN qN kN : Nat} {hh zz : Int32} {fb : Nat → Int32} {tC : Nat → Nat}
theorem hdv_J12_coder : yJ12_coder.cls = RJ12 ∧ yJ12_coder.cls ≠ "java/lang/invoke/MethodHandle" ∧ yJ12_coder.cls ≠ "java/lang/invoke/VarHandle" ∧ (parseMethodDescriptor yJ12_coder.desc).map (fun d => d.parameters.length) = some 0 := by decide +kernel
theorem c_J12_coder (hE : EnvOK G E) (hJ : EnvJ G E sa) (h0 : oC sN 13 [.ref qN, .int (nI 0), .int hh, .int zz] ∈ ws) : RO l G E yJ12_coder cJ12_coder 1 .byte 1 [.ref sN] (va_P G.1 cls (ws)) (.int (nI 0)) := by
  refine ROz hE (by decide) (Nat.le_of_ble_eq_true rfl) (by decide) (fun pR eV sT mI below meth cd QQ ls X hP hl ret => ?_)
  obtain ⟨⟨hx, hb, hml, hown, hts⟩, ⟨hr, hlk⟩, -, -, -⟩ := id X
  have hJs := X.J hJ
  have hl : lv_has ls 1 [(0, .ref sN)] := hl
  refine x_gets X va_S.rf hJs.2.2.2.2.1.1 q661 (fun _ h => h) dJ12_coder_0 ?_
  refine lv_if_eq (tgt := 13) hx hb dJ12_coder_3 (by decide) (fun h => absurd h (by decide)) (fun _ => ?_)
  refine lv_aload_n hx hb dJ12_coder_6 rfl (lv_at hl 0 rfl) ?_
  refine x_get X hP in_J12 h0 rfl 1 (by decide) q706 (fun _ h => h) rfl dJ12_coder_7 ?_
  refine lv_goto (tgt := 14) hx hb dJ12_coder_10 (by decide) ?_
  exact ret _ _ _ (rfl) dJ12_coder_14
theorem hdv_J12_isLatin1 : yJ12_isLatin1.cls = RJ12 ∧ yJ12_isLatin1.cls ≠ "java/lang/invoke/MethodHandle" ∧ yJ12_isLatin1.cls ≠ "java/lang/invoke/VarHandle" ∧ (parseMethodDescriptor yJ12_isLatin1.desc).map (fun d => d.parameters.length) = some 0 := by decide +kernel
theorem c_J12_isLatin1 (hE : EnvOK G E) (hJ : EnvJ G E sa) (h0 : oC sN 13 [.ref qN, .int (nI 0), .int hh, .int zz] ∈ ws) : RO l G E yJ12_isLatin1 cJ12_isLatin1 1 .boolean 1 [.ref sN] (va_P G.1 cls (ws)) (.int (nI 1)) := by
  refine ROz hE (by decide) (Nat.le_of_ble_eq_true rfl) (by decide) (fun pR eV sT mI below meth cd QQ ls X hP hl ret => ?_)
  obtain ⟨⟨hx, hb, hml, hown, hts⟩, ⟨hr, hlk⟩, -, -, -⟩ := id X
  have hJs := X.J hJ
  have hl : lv_has ls 1 [(0, .ref sN)] := hl
  refine x_gets X va_S.rf hJs.2.2.2.2.1.1 q661 (fun _ h => h) dJ12_isLatin1_0 ?_
  refine lv_if_eq (tgt := 17) hx hb dJ12_isLatin1_3 (by decide) (fun h => absurd h (by decide)) (fun _ => ?_)
  refine lv_aload_n hx hb dJ12_isLatin1_6 rfl (lv_at hl 0 rfl) ?_
  refine x_get X hP in_J12 h0 rfl 1 (by decide) q706 (fun _ h => h) rfl dJ12_isLatin1_7 ?_
  refine lv_if_ne (tgt := 17) hx hb dJ12_isLatin1_10 (by decide) (fun h => absurd rfl h) (fun _ => ?_)
  refine lv_iconst (v := nI 1) hx hb dJ12_isLatin1_13 (by decide) ?_
  refine lv_goto (tgt := 18) hx hb dJ12_isLatin1_14 (by decide) ?_
  exact ret _ _ _ (rfl) dJ12_isLatin1_18
theorem shr0 {n : Nat} : nI n >>> (nI 0 &&& 31) = nI n := by
  rw [show (nI 0 &&& 31 : Int32) = 0 by decide]
  exact Int32.shiftRight_zero
theorem hdv_J12_length : yJ12_length.cls = RJ12 ∧ yJ12_length.cls ≠ "java/lang/invoke/MethodHandle" ∧ yJ12_length.cls ≠ "java/lang/invoke/VarHandle" ∧ (parseMethodDescriptor yJ12_length.desc).map (fun d => d.parameters.length) = some 0 := by decide +kernel
theorem c_J12_length (hE : EnvOK G E) (hJ : EnvJ G E sa) (h0 : oC sN 13 [.ref qN, .int (nI 0), .int hh, .int zz] ∈ ws) (h1 : bC G qN nN fb ∈ ws) : RO l G E yJ12_length cJ12_length 1 .int 2 [.ref sN] (va_P G.1 cls (ws)) (.int (nI nN)) := by
  refine ROi hE (by decide) (Nat.le_of_ble_eq_true rfl) (fun pR eV sT mI below meth cd QQ ls X hP hl ret => ?_)
  obtain ⟨⟨hx, hb, hml, hown, hts⟩, ⟨hr, hlk⟩, -, -, -⟩ := id X
  have hJs := X.J hJ
  have hl : lv_has ls 1 [(0, .ref sN)] := hl
  refine lv_aload_n hx hb dJ12_length_0 rfl (lv_at hl 0 rfl) ?_
  refine x_get X hP in_J12 h0 rfl 0 (by decide) q705 (fun _ h => h) rfl dJ12_length_1 ?_
  refine x_alen X hP h1 (t0 := 1) rfl dJ12_length_4 ?_
  refine lv_aload_n hx hb dJ12_length_5 rfl (lv_at hl 0 rfl) ?_
  refine x_RV (c_J12_coder hE hJ h0) X va_S.rf hP (x_rc X hP h0 rfl) (lw_V q657 q658 q659 q83 q660) hdv_J12_coder ⟨Nat.le_of_ble_eq_true rfl, Nat.le_of_ble_eq_true rfl⟩ rfl hl.1 rfl (Nat.le_of_ble_eq_true rfl) ⟨Nat.le_refl _, Nat.le_refl _⟩ dJ12_length_6 ?_
  refine lv_ishr hx hb dJ12_length_9 ?_
  exact ret _ _ _ (shr0) dJ12_length_10
theorem hds_J12_checkIndex : yJ12_checkIndex.cls ≠ "java/lang/invoke/MethodHandle" ∧ yJ12_checkIndex.cls ≠ "java/lang/invoke/VarHandle" ∧ (parseMethodDescriptor yJ12_checkIndex.desc).map (fun d => d.parameters.length) = some 2 := by decide +kernel
theorem c_J12_checkIndex (hE : EnvOK G E) (hJ : EnvJ G E sa) {iN nN : Nat} (hi : iN < nN) (hn : nN < 2 ^ 31) : RN l G E yJ12_checkIndex cJ12_checkIndex 2 2 [.int (nI iN), .int (nI nN)] (fun _ => True) := by
  refine ROv hE (by decide) (Nat.le_of_ble_eq_true rfl) (fun pR eV sT mI below meth cd QQ ls X hP hl ret => ?_)
  obtain ⟨⟨hx, hb, hml, hown, hts⟩, ⟨hr, hlk⟩, -, -, -⟩ := id X
  have hJs := X.J hJ
  have hl : lv_has ls 2 [(0, .int (nI iN)), (1, .int (nI nN))] := hl
  refine lv_iload_n hx hb dJ12_checkIndex_0 rfl (lv_at hl 0 rfl) ?_
  refine lv_iload_n hx hb dJ12_checkIndex_1 rfl (lv_at hl 1 rfl) ?_
  obtain ⟨o_1, ho_1⟩ : ∃ o : Option Nat, va_Z "jdk/internal/util/Preconditions" "SIOOBE_FORMATTER" "Ljava/util/function/BiFunction;" (va_rf o) (GE G.2.2) sT sT.heap := va_Zq_o hJs.2.2.2.2.1.2
  refine x_gets X va_S.rf ho_1 q536 (fun _ h => h) dJ12_checkIndex_2 ?_
  refine x_RS (c_J17_checkIndex hE (o := o_1) hi hn) X va_S.rf trivial (lw_S q559 q560 q89 q561) hds_J17_checkIndex ⟨Nat.le_of_ble_eq_true rfl, Nat.le_of_ble_eq_true rfl⟩ rfl hl.1 rfl (Nat.le_of_ble_eq_true rfl) ⟨Nat.le_refl _, Nat.le_refl _⟩ dJ12_checkIndex_5 ?_
  refine lv_pop hx hb dJ12_checkIndex_8 rfl ?_
  exact ret _ _ trivial dJ12_checkIndex_9
theorem and255 {n : Nat} (h : n < 128) : nI n &&& nI 255 = nI n := by
  have : ∀ n, n < 128 → nI n &&& nI 255 = nI n := by decide +kernel
  exact this n h
theorem i2c_n {n : Nat} (h : n < 128) : ((nI n).toUInt32 % 65536).toInt32 = nI n := by
  have : ∀ n, n < 128 → ((nI n).toUInt32 % 65536).toInt32 = nI n := by decide +kernel
  exact this n h
theorem i2b_n {n : Nat} (h : n < 128) : (nI n).toInt8.toInt32 = nI n := by
  have : ∀ n, n < 128 → (nI n).toInt8.toInt32 = nI n := by decide +kernel
  exact this n h
theorem nar_c {n : Nat} (h : n < 128) : narrow .char (.int (nI n)) = .int (nI n) := by
  have : ∀ n, n < 128 → narrow .char (.int (nI n)) = .int (nI n) := by decide +kernel
  exact this n h
theorem nar_b {n : Nat} (h : n < 128) : narrow .byte (.int (nI n)) = .int (nI n) := by
  have : ∀ n, n < 128 → narrow .byte (.int (nI n)) = .int (nI n) := by decide +kernel
  exact this n h
theorem hds_J16_charAt : yJ16_charAt.cls ≠ "java/lang/invoke/MethodHandle" ∧ yJ16_charAt.cls ≠ "java/lang/invoke/VarHandle" ∧ (parseMethodDescriptor yJ16_charAt.desc).map (fun d => d.parameters.length) = some 2 := by decide +kernel
theorem c_J16_charAt (hE : EnvOK G E) (hJ : EnvJ G E sa) (h1 : bC G qN nN fb ∈ ws) (hi : iN < nN) (hn : nN < 2 ^ 31) (ht : ∀ k, k < nN → fb k = nI (tC k) ∧ tC k < 128) : RO l G E yJ16_charAt cJ16_charAt 2 .char 3 [.ref qN, .int (nI iN)] (va_P G.1 cls (ws)) (.int (nI (tC iN))) := by
  refine ROz hE (by decide) (Nat.le_of_ble_eq_true rfl) (nar_c (ht _ hi).2) (fun pR eV sT mI below meth cd QQ ls X hP hl ret => ?_)
  obtain ⟨⟨hx, hb, hml, hown, hts⟩, ⟨hr, hlk⟩, -, -, -⟩ := id X
  have hJs := X.J hJ
  have hl : lv_has ls 2 [(0, .ref qN), (1, .int (nI iN))] := hl
  refine lv_iload_n hx hb dJ16_charAt_0 rfl (lv_at hl 1 rfl) ?_
  refine lv_aload_n hx hb dJ16_charAt_1 rfl (lv_at hl 0 rfl) ?_
  refine x_alen X hP h1 (t0 := 1) rfl dJ16_charAt_2 ?_
  refine x_NS (c_J12_checkIndex hE hJ hi hn) X va_S.rf trivial (lw_S q737 q557 q83 q558) hds_J12_checkIndex ⟨Nat.le_of_ble_eq_true rfl, Nat.le_of_ble_eq_true rfl⟩ rfl hl.1 rfl (Nat.le_of_ble_eq_true rfl) ⟨Nat.le_refl _, Nat.le_refl _⟩ dJ16_charAt_3 ?_
  refine lv_aload_n hx hb dJ16_charAt_6 rfl (lv_at hl 0 rfl) ?_
  refine lv_iload_n hx hb dJ16_charAt_7 rfl (lv_at hl 1 rfl) ?_
  refine x_bald X hP h1 (by omega) (by omega) dJ16_charAt_8 ?_
  refine n_top (y := nI (tC iN)) ((ht _ hi).1) ?_
  refine lv_sipush (v := nI 255) hx hb dJ16_charAt_9 (by decide) ?_
  refine lv_iand hx hb dJ16_charAt_12 ?_
  refine n_top (y := nI (tC iN)) (and255 (ht _ hi).2) ?_
  refine lv_i2c (v := nI (tC iN)) hx hb dJ16_charAt_13 (i2c_n (ht _ hi).2) ?_
  exact ret _ _ _ (rfl) dJ16_charAt_14
theorem hdv_J12_charAt : yJ12_charAt.cls = RJ12 ∧ yJ12_charAt.cls ≠ "java/lang/invoke/MethodHandle" ∧ yJ12_charAt.cls ≠ "java/lang/invoke/VarHandle" ∧ (parseMethodDescriptor yJ12_charAt.desc).map (fun d => d.parameters.length) = some 1 := by decide +kernel
theorem c_J12_charAt (hE : EnvOK G E) (hJ : EnvJ G E sa) (h0 : oC sN 13 [.ref qN, .int (nI 0), .int hh, .int zz] ∈ ws) (h1 : bC G qN nN fb ∈ ws) (hi : iN < nN) (hn : nN < 2 ^ 31) (ht : ∀ k, k < nN → fb k = nI (tC k) ∧ tC k < 128) : RO l G E yJ12_charAt cJ12_charAt 2 .char 4 [.ref sN, .int (nI iN)] (va_P G.1 cls (ws)) (.int (nI (tC iN))) := by
  refine ROz hE (by decide) (Nat.le_of_ble_eq_true rfl) (nar_c (ht _ hi).2) (fun pR eV sT mI below meth cd QQ ls X hP hl ret => ?_)
  obtain ⟨⟨hx, hb, hml, hown, hts⟩, ⟨hr, hlk⟩, -, -, -⟩ := id X
  have hJs := X.J hJ
  have hl : lv_has ls 2 [(0, .ref sN), (1, .int (nI iN))] := hl
  refine lv_aload_n hx hb dJ12_charAt_0 rfl (lv_at hl 0 rfl) ?_
  refine x_RV (c_J12_isLatin1 hE hJ h0) X va_S.rf hP (x_rc X hP h0 rfl) (lw_V q730 q731 q732 q83 q733) hdv_J12_isLatin1 ⟨Nat.le_of_ble_eq_true rfl, Nat.le_of_ble_eq_true rfl⟩ rfl hl.1 rfl (Nat.le_of_ble_eq_true rfl) ⟨Nat.le_refl _, Nat.le_refl _⟩ dJ12_charAt_1 ?_
  refine lv_if_eq (tgt := 16) hx hb dJ12_charAt_4 (by decide) (fun h => absurd h (by decide)) (fun _ => ?_)
  refine lv_aload_n hx hb dJ12_charAt_7 rfl (lv_at hl 0 rfl) ?_
  refine x_get X hP in_J12 h0 rfl 0 (by decide) q705 (fun _ h => h) rfl dJ12_charAt_8 ?_
  refine lv_iload_n hx hb dJ12_charAt_11 rfl (lv_at hl 1 rfl) ?_
  refine x_RS (c_J16_charAt hE hJ h1 hi hn ht) X va_S.rf hP (lw_S q734 q735 q88 q736) hds_J16_charAt ⟨Nat.le_of_ble_eq_true rfl, Nat.le_of_ble_eq_true rfl⟩ rfl hl.1 rfl (Nat.le_of_ble_eq_true rfl) ⟨Nat.le_refl _, Nat.le_refl _⟩ dJ12_charAt_12 ?_
  exact ret _ _ _ (rfl) dJ12_charAt_15
theorem hds_J16_canEncode : yJ16_canEncode.cls ≠ "java/lang/invoke/MethodHandle" ∧ yJ16_canEncode.cls ≠ "java/lang/invoke/VarHandle" ∧ (parseMethodDescriptor yJ16_canEncode.desc).map (fun d => d.parameters.length) = some 1 := by decide +kernel
theorem c_J16_canEncode (hE : EnvOK G E) {cN : Nat} (hc : cN < 128) : RO l G E yJ16_canEncode cJ16_canEncode 1 .boolean 1 [.int (nI cN)] (fun _ => True) (.int (nI 1)) := by
  refine ROz hE (by decide) (Nat.le_of_ble_eq_true rfl) (by decide) (fun pR eV sT mI below meth cd QQ ls X hP hl ret => ?_)
  obtain ⟨⟨hx, hb, hml, hown, hts⟩, ⟨hr, hlk⟩, -, -, -⟩ := id X
  have hl : lv_has ls 1 [(0, .int (nI cN))] := hl
  refine lv_iload_n hx hb dJ16_canEncode_0 rfl (lv_at hl 0 rfl) ?_
  refine lv_sipush (v := nI 255) hx hb dJ16_canEncode_1 (by decide) ?_
  refine n_icmp_gt (tgt := 11) hx hb (by omega) (by omega) dJ16_canEncode_4 (by decide) (fun c1 => absurd c1 (by omega)) (fun c1 => ?_)
  refine lv_iconst (v := nI 1) hx hb dJ16_canEncode_7 (by decide) ?_
  refine lv_goto (tgt := 12) hx hb dJ16_canEncode_8 (by decide) ?_
  exact ret _ _ _ (rfl) dJ16_canEncode_12
end C1
