/-! JDK 5: the deque; an array filled -/
section C5
variable {l : Launch} {G : GG} {E : State → Prop} {sa : Nat → Nat} {ws wr : va_W}
variable {dN eN hN tN iN jN : Nat} {fr : Nat → Option Nat}
theorem sub17 : ∀ i, i < 17 → ∀ j, j < 17 → ¬ j ≤ i → nI i - nI j + nI 17 = nI (i + 17 - j) := by decide +kernel
theorem sub17b {i j : Nat} (hi : i < 17) (h : j ≤ i) : nI i - nI j = nI (i - j) := pk_sub (by omega)
def dqn (i j : Nat) : Nat := if j ≤ i then i - j else i + 17 - j
theorem hds_J4_sub : yJ4_sub.cls ≠ "java/lang/invoke/MethodHandle" ∧ yJ4_sub.cls ≠ "java/lang/invoke/VarHandle" ∧ (parseMethodDescriptor yJ4_sub.desc).map (fun d => d.parameters.length) = some 3 := by decide +kernel
theorem c_J4_sub (hE : EnvOK G E) (hi : iN < 17) (hj : jN < 17) : RO l G E yJ4_sub cJ4_sub 3 .int 1 [.int (nI iN), .int (nI jN), .int (nI 17)] (fun _ => True) (.int (nI (dqn iN jN))) := by
  refine ROi hE (by decide) (Nat.le_of_ble_eq_true rfl) (fun pR eV sT mI below meth cd QQ ls X hP hl ret => ?_)
  obtain ⟨⟨hx, hb, hml, hown, hts⟩, ⟨hr, hlk⟩, -, -, -⟩ := id X
  have hl : lv_has ls 3 [(0, .int (nI iN)), (1, .int (nI jN)), (2, .int (nI 17))] := hl
  refine lv_iload_n hx hb dJ4_sub_0 rfl (lv_at hl 0 rfl) ?_
  refine lv_iload_n hx hb dJ4_sub_1 rfl (lv_at hl 1 rfl) ?_
  refine lv_isub hx hb dJ4_sub_2 ?_
  refine lv_dup hx hb dJ4_sub_3 rfl ?_
  refine lv_istore_n (lv' := [(0, .int ((nI iN) - (nI jN))), (1, .int (nI jN)), (2, .int (nI 17))]) hx hb dJ4_sub_4 rfl hl (by decide) rfl (fun ls hl => ?_)
  refine lv_if_ge (tgt := 12) hx hb dJ4_sub_5 (by decide) (fun c1 => ?_) (fun c1 => ?_)
  · have c1 := (nI_leS (f := 0) (by decide) (by omega) (by omega)).mp c1
    refine lv_iload_n hx hb dJ4_sub_12 rfl (lv_at hl 0 rfl) ?_
    exact ret _ _ _ (by unfold dqn; rw [if_pos (by omega), sub17b hi (by omega)]) dJ4_sub_13
  · have c1 : ¬ jN ≤ iN := fun q => c1 ((nI_leS (f := 0) (by decide) (by omega) (by omega)).mpr (by omega))
    refine lv_iload_n hx hb dJ4_sub_8 rfl (lv_at hl 0 rfl) ?_
    refine lv_iload_n hx hb dJ4_sub_9 rfl (lv_at hl 2 rfl) ?_
    refine lv_iadd hx hb dJ4_sub_10 ?_
    refine lv_istore_n (lv' := [(0, .int (((nI iN) - (nI jN)) + (nI 17))), (1, .int (nI jN)), (2, .int (nI 17))]) hx hb dJ4_sub_11 rfl hl (by decide) rfl (fun ls hl => ?_)
    refine lv_iload_n hx hb dJ4_sub_12 rfl (lv_at hl 0 rfl) ?_
    exact ret _ _ _ (by unfold dqn; rw [if_neg c1, sub17 _ hi _ hj c1]) dJ4_sub_13
theorem hds_J4_inc : yJ4_inc.cls ≠ "java/lang/invoke/MethodHandle" ∧ yJ4_inc.cls ≠ "java/lang/invoke/VarHandle" ∧ (parseMethodDescriptor yJ4_inc.desc).map (fun d => d.parameters.length) = some 2 := by decide +kernel
theorem c_J4_inc (hE : EnvOK G E) (hi : iN < 17) : RO l G E yJ4_inc cJ4_inc 2 .int 1 [.int (nI iN), .int (nI 17)] (fun _ => True) (.int (nI ((iN + 1) % 17))) := by
  refine ROi hE (by decide) (Nat.le_of_ble_eq_true rfl) (fun pR eV sT mI below meth cd QQ ls X hP hl ret => ?_)
  obtain ⟨⟨hx, hb, hml, hown, hts⟩, ⟨hr, hlk⟩, -, -, -⟩ := id X
  have hl : lv_has ls 2 [(0, .int (nI iN)), (1, .int (nI 17))] := hl
  refine lv_iinc (v := nI (iN + 1)) (lv' := [(0, .int (nI (iN + 1))), (1, .int (nI 17))]) hx hb dJ4_inc_0 hl (k := 0) rfl (nI_add _ 1) (by decide) rfl (fun ls hl => ?_)
  refine lv_iload_n hx hb dJ4_inc_3 rfl (lv_at hl 0 rfl) ?_
  refine lv_iload_n hx hb dJ4_inc_4 rfl (lv_at hl 1 rfl) ?_
  refine n_icmp_lt (tgt := 10) hx hb (by omega) (by omega) dJ4_inc_5 (by decide) (fun c1 => ?_) (fun c1 => ?_)
  · refine lv_iload_n hx hb dJ4_inc_10 rfl (lv_at hl 0 rfl) ?_
    exact ret _ _ _ (by rw [Nat.mod_eq_of_lt c1]) dJ4_inc_11
  · refine lv_iconst (v := nI 0) hx hb dJ4_inc_8 (by decide) ?_
    refine lv_istore_n (lv' := [(0, .int (nI 0)), (1, .int (nI 17))]) hx hb dJ4_inc_9 rfl hl (by decide) rfl (fun ls hl => ?_)
    refine lv_iload_n hx hb dJ4_inc_10 rfl (lv_at hl 0 rfl) ?_
    exact ret _ _ _ (by rw [show iN + 1 = 17 by omega]) dJ4_inc_11
theorem dec17 : ∀ i, i < 17 → (0 ≤ nI i + (-1) → nI i + (-1) = nI ((i + 16) % 17)) ∧ (¬ 0 ≤ nI i + (-1) → nI 17 - nI 1 = nI ((i + 16) % 17)) := by decide +kernel
theorem hds_J4_dec : yJ4_dec.cls ≠ "java/lang/invoke/MethodHandle" ∧ yJ4_dec.cls ≠ "java/lang/invoke/VarHandle" ∧ (parseMethodDescriptor yJ4_dec.desc).map (fun d => d.parameters.length) = some 2 := by decide +kernel
theorem c_J4_dec (hE : EnvOK G E) (hi : iN < 17) : RO l G E yJ4_dec cJ4_dec 2 .int 1 [.int (nI iN), .int (nI 17)] (fun _ => True) (.int (nI ((iN + 16) % 17))) := by
  refine ROi hE (by decide) (Nat.le_of_ble_eq_true rfl) (fun pR eV sT mI below meth cd QQ ls X hP hl ret => ?_)
  obtain ⟨⟨hx, hb, hml, hown, hts⟩, ⟨hr, hlk⟩, -, -, -⟩ := id X
  have hl : lv_has ls 2 [(0, .int (nI iN)), (1, .int (nI 17))] := hl
  refine lv_iinc (v := (nI iN) + (-1)) (lv' := [(0, .int ((nI iN) + (-1))), (1, .int (nI 17))]) hx hb dJ4_dec_0 hl (k := 0) rfl rfl (by decide) rfl (fun ls hl => ?_)
  refine lv_iload_n hx hb dJ4_dec_3 rfl (lv_at hl 0 rfl) ?_
  refine lv_if_ge (tgt := 11) hx hb dJ4_dec_4 (by decide) (fun c1 => ?_) (fun c1 => ?_)
  · refine lv_iload_n hx hb dJ4_dec_11 rfl (lv_at hl 0 rfl) ?_
    exact ret _ _ _ ((dec17 iN hi).1 c1) dJ4_dec_12
  · refine lv_iload_n hx hb dJ4_dec_7 rfl (lv_at hl 1 rfl) ?_
    refine lv_iconst (v := nI 1) hx hb dJ4_dec_8 (by decide) ?_
    refine n_isub hx hb (by omega) dJ4_dec_9 ?_
    refine lv_istore_n (lv' := [(0, .int (nI (17 - 1))), (1, .int (nI 17))]) hx hb dJ4_dec_10 rfl hl (by decide) rfl (fun ls hl => ?_)
    refine lv_iload_n hx hb dJ4_dec_11 rfl (lv_at hl 0 rfl) ?_
    exact ret _ _ _ ((dec17 iN hi).2 c1) dJ4_dec_12
theorem hdv_J4_size : yJ4_size.cls = RJ4 ∧ yJ4_size.cls ≠ "java/lang/invoke/MethodHandle" ∧ yJ4_size.cls ≠ "java/lang/invoke/VarHandle" ∧ (parseMethodDescriptor yJ4_size.desc).map (fun d => d.parameters.length) = some 0 := by decide +kernel
theorem c_J4_size (hE : EnvOK G E) (h0 : oC dN 11 [.ref eN, .int (nI hN), .int (nI tN)] ∈ ws) (h1 : qC G eN 17 fr ∈ ws) (hh : hN < 17) (ht : tN < 17) : RO l G E yJ4_size cJ4_size 1 .int 2 [.ref dN] (va_P G.1 cls (ws)) (.int (nI (dqn tN hN))) := by
  refine ROi hE (by decide) (Nat.le_of_ble_eq_true rfl) (fun pR eV sT mI below meth cd QQ ls X hP hl ret => ?_)
  obtain ⟨⟨hx, hb, hml, hown, hts⟩, ⟨hr, hlk⟩, -, -, -⟩ := id X
  have hl : lv_has ls 1 [(0, .ref dN)] := hl
  refine lv_aload_n hx hb dJ4_size_0 rfl (lv_at hl 0 rfl) ?_
  refine x_get X hP in_J4 h0 rfl 2 (by decide) q213 (fun _ h => h) rfl dJ4_size_1 ?_
  refine lv_aload_n hx hb dJ4_size_4 rfl (lv_at hl 0 rfl) ?_
  refine x_get X hP in_J4 h0 rfl 1 (by decide) q212 (fun _ h => h) rfl dJ4_size_5 ?_
  refine lv_aload_n hx hb dJ4_size_8 rfl (lv_at hl 0 rfl) ?_
  refine x_get X hP in_J4 h0 rfl 0 (by decide) q211 (fun _ h => h) rfl dJ4_size_9 ?_
  refine x_alen X hP h1 (t0 := 2) rfl dJ4_size_12 ?_
  refine x_RS (c_J4_sub hE ht hh) X va_S.rf trivial (lw_S q834 q835 q69 q836) hds_J4_sub ⟨Nat.le_of_ble_eq_true rfl, Nat.le_of_ble_eq_true rfl⟩ rfl hl.1 rfl (Nat.le_of_ble_eq_true rfl) ⟨Nat.le_refl _, Nat.le_refl _⟩ dJ4_size_13 ?_
  exact ret _ _ _ (rfl) dJ4_size_16
theorem hdv_J4_isEmpty : yJ4_isEmpty.cls = RJ4 ∧ yJ4_isEmpty.cls ≠ "java/lang/invoke/MethodHandle" ∧ yJ4_isEmpty.cls ≠ "java/lang/invoke/VarHandle" ∧ (parseMethodDescriptor yJ4_isEmpty.desc).map (fun d => d.parameters.length) = some 0 := by decide +kernel
theorem c_J4_isEmpty (hE : EnvOK G E) (h0 : oC dN 11 [.ref eN, .int (nI hN), .int (nI tN)] ∈ ws) (hh : hN < 17) (ht : tN < 17) : RO l G E yJ4_isEmpty cJ4_isEmpty 1 .boolean 1 [.ref dN] (va_P G.1 cls (ws)) (.int (bI (decide (hN = tN)))) := by
  refine ROz hE (by decide) (Nat.le_of_ble_eq_true rfl) (bI_nar _) (fun pR eV sT mI below meth cd QQ ls X hP hl ret => ?_)
  obtain ⟨⟨hx, hb, hml, hown, hts⟩, ⟨hr, hlk⟩, -, -, -⟩ := id X
  have hl : lv_has ls 1 [(0, .ref dN)] := hl
  refine lv_aload_n hx hb dJ4_isEmpty_0 rfl (lv_at hl 0 rfl) ?_
  refine x_get X hP in_J4 h0 rfl 1 (by decide) q212 (fun _ h => h) rfl dJ4_isEmpty_1 ?_
  refine lv_aload_n hx hb dJ4_isEmpty_4 rfl (lv_at hl 0 rfl) ?_
  refine x_get X hP in_J4 h0 rfl 2 (by decide) q213 (fun _ h => h) rfl dJ4_isEmpty_5 ?_
  refine n_icmp_ne (tgt := 15) hx hb (by omega) (by omega) dJ4_isEmpty_8 (by decide) (fun c1 => ?_) (fun c1 => ?_)
  · refine lv_iconst (v := nI 0) hx hb dJ4_isEmpty_15 (by decide) ?_
    exact ret _ _ _ (bI_f (decide_eq_false c1)) dJ4_isEmpty_16
  · refine lv_iconst (v := nI 1) hx hb dJ4_isEmpty_11 (by decide) ?_
    refine lv_goto (tgt := 16) hx hb dJ4_isEmpty_12 (by decide) ?_
    exact ret _ _ _ (bI_t (decide_eq_true c1)) dJ4_isEmpty_16
theorem hds_J4_elementAt : yJ4_elementAt.cls ≠ "java/lang/invoke/MethodHandle" ∧ yJ4_elementAt.cls ≠ "java/lang/invoke/VarHandle" ∧ (parseMethodDescriptor yJ4_elementAt.desc).map (fun d => d.parameters.length) = some 2 := by decide +kernel
theorem c_J4_elementAt (hE : EnvOK G E) (h1 : qC G eN 17 fr ∈ ws) (hi : iN < 17) : RO l G E yJ4_elementAt cJ4_elementAt 2 (.object "java/lang/Object") 1 [.ref eN, .int (nI iN)] (va_P G.1 cls (ws)) ((va_rf (fr iN))) := by
  refine ROa hE (by decide) (Nat.le_of_ble_eq_true rfl) (Or.inl ⟨_, rfl⟩) (va_rf_or _) (fun pR eV sT mI below meth cd QQ ls X hP hl ret => ?_)
  obtain ⟨⟨hx, hb, hml, hown, hts⟩, ⟨hr, hlk⟩, -, -, -⟩ := id X
  have hl : lv_has ls 2 [(0, .ref eN), (1, .int (nI iN))] := hl
  refine lv_aload_n hx hb dJ4_elementAt_0 rfl (lv_at hl 0 rfl) ?_
  refine lv_iload_n hx hb dJ4_elementAt_1 rfl (lv_at hl 1 rfl) ?_
  refine x_aald X hP h1 (t0 := 2) rfl (by omega) (by decide) dJ4_elementAt_2 ?_
  exact ret _ _ _ (rfl) dJ4_elementAt_3
theorem hdv_J4_addLast : yJ4_addLast.cls = RJ4 ∧ yJ4_addLast.cls ≠ "java/lang/invoke/MethodHandle" ∧ yJ4_addLast.cls ≠ "java/lang/invoke/VarHandle" ∧ (parseMethodDescriptor yJ4_addLast.desc).map (fun d => d.parameters.length) = some 1 := by decide +kernel
theorem c_J4_addLast (hE : EnvOK G E) (hJ : EnvJ G E sa) {xN ci : Nat} {vs : List Value} {rC : vw_C} (hv : oC xN ci vs ∈ wr) (hc : cls[ci]? = some rC) (hca : Cond.castable rC.1 "java/lang/Object" ∈ lw_tbl) (hh : hN < 17) (ht : tN < 17) (hne : (tN + 1) % 17 ≠ hN) : MU vV l G E yJ4_addLast cJ4_addLast 3 none 2 0 0 [.ref dN, .ref xN] ([oC dN 11 [.ref eN, .int (nI hN), .int (nI tN)], qC G eN 17 fr] ++ wr) (fun _ w => w = [oC dN 11 [.ref eN, .int (nI hN), .int (nI ((tN + 1) % 17))], qC G eN 17 (va_up fr tN (some xN))] ++ wr) := by
  refine MUv hE (by decide) (Nat.le_of_ble_eq_true rfl) (fun pR eV sT mI below meth cd QQ ls X hH hl ret => ?_)
  obtain ⟨⟨hx, hb, hml, hown, hts⟩, ⟨hr, hlk⟩, -, -, -⟩ := id X
  have hJs := X.J hJ
  have hl : lv_has ls 3 [(0, .ref dN), (1, .ref xN)] := hl
  refine wgen (H := sT.heap) (locs := []) hH (fun H locs hH => ?_)
  refine lv_aload_n hx hb dJ4_addLast_0 rfl (lv_at hl 1 rfl) ?_
  refine lv_ifnonnull (tgt := 12) hx hb dJ4_addLast_1 (by decide) ?_
  refine lv_aload_n hx hb dJ4_addLast_12 rfl (lv_at hl 0 rfl) ?_
  refine x_get X hH.1.1 in_J4 (mem_k 0 rfl) rfl 0 (by decide) q211 (fun _ h => h) rfl dJ4_addLast_13 ?_
  refine lv_astore_n (lv' := [(2, .ref eN), (0, .ref dN), (1, .ref xN)]) hx hb dJ4_addLast_16 rfl hl (by decide) rfl (fun ls hl => ?_)
  refine lv_aload_n hx hb dJ4_addLast_17 rfl (lv_at hl 0 rfl) ?_
  refine lv_aload_n hx hb dJ4_addLast_18 rfl (lv_at hl 1 rfl) ?_
  refine x_get X hH.1.1 in_J4 (mem_k 0 rfl) rfl 2 (by decide) q213 (fun _ h => h) rfl dJ4_addLast_19 ?_
  refine lv_aload_n hx hb dJ4_addLast_22 rfl (lv_at hl 2 rfl) ?_
  refine x_aast X hH 1 rfl (t0 := 2) rfl (hJs.nw hca rfl) (mem_r hv) hc (by omega) (by decide) dJ4_addLast_23 (fun g_1 H locs eg_1 hH => ?_)
  have hH : HH G sT ([oC dN 11 [.ref eN, .int (nI hN), .int (nI tN)], qC G eN 17 g_1] ++ wr) H locs := hH
  refine lv_aload_n hx hb dJ4_addLast_24 rfl (lv_at hl 1 rfl) ?_
  refine x_get X hH.1.1 in_J4 (mem_k 0 rfl) rfl 1 (by decide) q212 (fun _ h => h) rfl dJ4_addLast_25 ?_
  refine lv_aload_n hx hb dJ4_addLast_28 rfl (lv_at hl 1 rfl) ?_
  refine lv_aload_n hx hb dJ4_addLast_29 rfl (lv_at hl 1 rfl) ?_
  refine x_get X hH.1.1 in_J4 (mem_k 0 rfl) rfl 2 (by decide) q213 (fun _ h => h) rfl dJ4_addLast_30 ?_
  refine lv_aload_n hx hb dJ4_addLast_33 rfl (lv_at hl 0 rfl) ?_
  refine x_alen X hH.1.1 (mem_k 1 rfl) (t0 := 2) rfl dJ4_addLast_34 ?_
  refine x_RS (c_J4_inc hE ht) X hH.2 trivial (lw_S q848 q849 q69 q850) hds_J4_inc ⟨Nat.le_of_ble_eq_true rfl, Nat.le_of_ble_eq_true rfl⟩ rfl hl.1 rfl (Nat.le_of_ble_eq_true rfl) ⟨(Nat.le_of_ble_eq_true rfl), (Nat.le_of_ble_eq_true rfl)⟩ dJ4_addLast_35 ?_
  refine lv_dup_x1 hx hb dJ4_addLast_38 rfl rfl ?_
  refine x_put X hH in_J4 tyJ4 tyJ4_ok nmJ4 0 rfl rfl 2 (by decide) q213 (fun _ h => h) rfl (ty := .int) (by decide +kernel) rfl rfl (Nat.le_of_ble_eq_true rfl) dJ4_addLast_39 (fun H locs hH => ?_)
  have hH : HH G sT ([oC dN 11 [.ref eN, .int (nI hN), .int (nI ((tN + 1) % 17))], qC G eN 17 g_1] ++ wr) H locs := hH
  refine n_icmp_ne (tgt := 50) hx hb (by omega) (by omega) dJ4_addLast_42 (by decide) (fun c1 => ?_) (fun c1 => absurd c1.symm hne)
  exact ret _ _ _ _ _ _ _ hH (by rw [eg_1]) (Nat.le_of_ble_eq_true rfl) (Nat.le_of_ble_eq_true rfl) dJ4_addLast_50
theorem hdv_J4_pollFirst : yJ4_pollFirst.cls = RJ4 ∧ yJ4_pollFirst.cls ≠ "java/lang/invoke/MethodHandle" ∧ yJ4_pollFirst.cls ≠ "java/lang/invoke/VarHandle" ∧ (parseMethodDescriptor yJ4_pollFirst.desc).map (fun d => d.parameters.length) = some 0 := by decide +kernel
theorem c_J4_pollFirst (hE : EnvOK G E) (hJ : EnvJ G E sa) {yN : Nat} (hh : hN < 17) (ht : tN < 17) (hy : fr hN = some yN) : MU vA l G E yJ4_pollFirst cJ4_pollFirst 4 (some (.object "java/lang/Object")) 2 0 0 [.ref dN] ([oC dN 11 [.ref eN, .int (nI hN), .int (nI tN)], qC G eN 17 fr] ++ wr) (fun r w => yN = r ∧ w = [oC dN 11 [.ref eN, .int (nI ((hN + 1) % 17)), .int (nI tN)], qC G eN 17 (va_up fr hN none)] ++ wr) := by
  refine MUa hE (by decide) (Nat.le_of_ble_eq_true rfl) (Or.inl ⟨_, rfl⟩) (fun pR eV sT mI below meth cd QQ ls X hH hl ret => ?_)
  obtain ⟨⟨hx, hb, hml, hown, hts⟩, ⟨hr, hlk⟩, -, -, -⟩ := id X
  have hJs := X.J hJ
  have hl : lv_has ls 4 [(0, .ref dN)] := hl
  refine wgen (H := sT.heap) (locs := []) hH (fun H locs hH => ?_)
  refine lv_aload_n hx hb dJ4_pollFirst_0 rfl (lv_at hl 0 rfl) ?_
  refine x_get X hH.1.1 in_J4 (mem_k 0 rfl) rfl 0 (by decide) q211 (fun _ h => h) rfl dJ4_pollFirst_1 ?_
  refine lv_dup hx hb dJ4_pollFirst_4 rfl ?_
  refine lv_astore_n (lv' := [(1, .ref eN), (0, .ref dN)]) hx hb dJ4_pollFirst_5 rfl hl (by decide) rfl (fun ls hl => ?_)
  refine lv_aload_n hx hb dJ4_pollFirst_6 rfl (lv_at hl 1 rfl) ?_
  refine x_get X hH.1.1 in_J4 (mem_k 0 rfl) rfl 1 (by decide) q212 (fun _ h => h) rfl dJ4_pollFirst_7 ?_
  refine lv_dup hx hb dJ4_pollFirst_10 rfl ?_
  refine lv_istore_n (lv' := [(2, .int (nI hN)), (1, .ref eN), (0, .ref dN)]) hx hb dJ4_pollFirst_11 rfl hl (by decide) rfl (fun ls hl => ?_)
  refine x_RS (c_J4_elementAt hE (mem_k 1 rfl) hh) X hH.2 hH.1.1 (lw_S q845 q846 q69 q847) hds_J4_elementAt ⟨Nat.le_of_ble_eq_true rfl, Nat.le_of_ble_eq_true rfl⟩ rfl hl.1 rfl (Nat.le_of_ble_eq_true rfl) ⟨(Nat.le_of_ble_eq_true rfl), (Nat.le_of_ble_eq_true rfl)⟩ dJ4_pollFirst_12 ?_
  refine x_rf (y := yN) (hy) ?_
  refine lv_astore_n (lv' := [(3, .ref yN), (2, .int (nI hN)), (1, .ref eN), (0, .ref dN)]) hx hb dJ4_pollFirst_15 rfl hl (by decide) rfl (fun ls hl => ?_)
  refine lv_aload_n hx hb dJ4_pollFirst_16 rfl (lv_at hl 0 rfl) ?_
  refine lv_ifnull hx hb dJ4_pollFirst_17 ?_
  refine lv_aload_n hx hb dJ4_pollFirst_20 rfl (lv_at hl 2 rfl) ?_
  refine lv_iload_n hx hb dJ4_pollFirst_21 rfl (lv_at hl 1 rfl) ?_
  refine lv_null hx hb dJ4_pollFirst_22 ?_
  refine x_aastN X hH 1 rfl (t0 := 2) rfl (by omega) (by decide) dJ4_pollFirst_23 (fun g_1 H locs eg_1 hH => ?_)
  have hH : HH G sT ([oC dN 11 [.ref eN, .int (nI hN), .int (nI tN)], qC G eN 17 g_1] ++ wr) H locs := hH
  refine lv_aload_n hx hb dJ4_pollFirst_24 rfl (lv_at hl 3 rfl) ?_
  refine lv_iload_n hx hb dJ4_pollFirst_25 rfl (lv_at hl 1 rfl) ?_
  refine lv_aload_n hx hb dJ4_pollFirst_26 rfl (lv_at hl 2 rfl) ?_
  refine x_alen X hH.1.1 (mem_k 1 rfl) (t0 := 2) rfl dJ4_pollFirst_27 ?_
  refine x_RS (c_J4_inc hE hh) X hH.2 trivial (lw_S q848 q849 q69 q850) hds_J4_inc ⟨Nat.le_of_ble_eq_true rfl, Nat.le_of_ble_eq_true rfl⟩ rfl hl.1 rfl (Nat.le_of_ble_eq_true rfl) ⟨(Nat.le_of_ble_eq_true rfl), (Nat.le_of_ble_eq_true rfl)⟩ dJ4_pollFirst_28 ?_
  refine x_put X hH in_J4 tyJ4 tyJ4_ok nmJ4 0 rfl rfl 1 (by decide) q212 (fun _ h => h) rfl (ty := .int) (by decide +kernel) rfl rfl (Nat.le_of_ble_eq_true rfl) dJ4_pollFirst_31 (fun H locs hH => ?_)
  have hH : HH G sT ([oC dN 11 [.ref eN, .int (nI ((hN + 1) % 17)), .int (nI tN)], qC G eN 17 g_1] ++ wr) H locs := hH
  refine lv_aload_n hx hb dJ4_pollFirst_34 rfl (lv_at hl 0 rfl) ?_
  exact ret _ _ _ _ _ _ _ _ hH (⟨rfl, by rw [eg_1]⟩) (Nat.le_of_ble_eq_true rfl) (Nat.le_of_ble_eq_true rfl) dJ4_pollFirst_35
theorem hdv_J4_removeFirst : yJ4_removeFirst.cls = RJ4 ∧ yJ4_removeFirst.cls ≠ "java/lang/invoke/MethodHandle" ∧ yJ4_removeFirst.cls ≠ "java/lang/invoke/VarHandle" ∧ (parseMethodDescriptor yJ4_removeFirst.desc).map (fun d => d.parameters.length) = some 0 := by decide +kernel
theorem c_J4_removeFirst (hE : EnvOK G E) (hJ : EnvJ G E sa) {yN : Nat} (hh : hN < 17) (ht : tN < 17) (hy : fr hN = some yN) : MU vA l G E yJ4_removeFirst cJ4_removeFirst 2 (some (.object "java/lang/Object")) 3 0 0 [.ref dN] ([oC dN 11 [.ref eN, .int (nI hN), .int (nI tN)], qC G eN 17 fr] ++ wr) (fun r w => yN = r ∧ w = [oC dN 11 [.ref eN, .int (nI ((hN + 1) % 17)), .int (nI tN)], qC G eN 17 (va_up fr hN none)] ++ wr) := by
  refine MUa hE (by decide) (Nat.le_of_ble_eq_true rfl) (Or.inl ⟨_, rfl⟩) (fun pR eV sT mI below meth cd QQ ls X hH hl ret => ?_)
  obtain ⟨⟨hx, hb, hml, hown, hts⟩, ⟨hr, hlk⟩, -, -, -⟩ := id X
  have hJs := X.J hJ
  have hl : lv_has ls 2 [(0, .ref dN)] := hl
  refine wgen (H := sT.heap) (locs := []) hH (fun H locs hH => ?_)
  refine lv_aload_n hx hb dJ4_removeFirst_0 rfl (lv_at hl 0 rfl) ?_
  refine x_MVa (c_J4_pollFirst hE hJ hh ht hy) X hH (x_rc X hH.1.1 (mem_k 0 rfl) rfl) (lw_V q841 q842 q843 q69 q844) hdv_J4_pollFirst ⟨Nat.le_of_ble_eq_true rfl, Nat.le_of_ble_eq_true rfl⟩ rfl hl.1 rfl (Nat.le_of_ble_eq_true rfl) ⟨(Nat.le_of_ble_eq_true rfl), (Nat.le_of_ble_eq_true rfl)⟩ dJ4_removeFirst_1 (fun r w H locs hq hH => ?_)
  obtain ⟨rfl, rfl⟩ := hq
  have hH : HH G sT ([oC dN 11 [.ref eN, .int (nI ((hN + 1) % 17)), .int (nI tN)], qC G eN 17 (va_up fr hN none)] ++ wr) H locs := hH
  refine lv_astore_n (lv' := [(1, .ref yN), (0, .ref dN)]) hx hb dJ4_removeFirst_4 rfl hl (by decide) rfl (fun ls hl => ?_)
  refine lv_aload_n hx hb dJ4_removeFirst_5 rfl (lv_at hl 0 rfl) ?_
  refine lv_ifnonnull (tgt := 17) hx hb dJ4_removeFirst_6 (by decide) ?_
  refine lv_aload_n hx hb dJ4_removeFirst_17 rfl (lv_at hl 0 rfl) ?_
  exact ret _ _ _ _ _ _ _ _ hH (⟨rfl, rfl⟩) (Nat.le_of_ble_eq_true rfl) (Nat.le_of_ble_eq_true rfl) dJ4_removeFirst_18
theorem hdv_J4_pollLast : yJ4_pollLast.cls = RJ4 ∧ yJ4_pollLast.cls ≠ "java/lang/invoke/MethodHandle" ∧ yJ4_pollLast.cls ≠ "java/lang/invoke/VarHandle" ∧ (parseMethodDescriptor yJ4_pollLast.desc).map (fun d => d.parameters.length) = some 0 := by decide +kernel
theorem c_J4_pollLast (hE : EnvOK G E) (hJ : EnvJ G E sa) {yN : Nat} (hh : hN < 17) (ht : tN < 17) (hy : fr ((tN + 16) % 17) = some yN) : MU vA l G E yJ4_pollLast cJ4_pollLast 4 (some (.object "java/lang/Object")) 2 0 0 [.ref dN] ([oC dN 11 [.ref eN, .int (nI hN), .int (nI tN)], qC G eN 17 fr] ++ wr) (fun r w => yN = r ∧ w = [oC dN 11 [.ref eN, .int (nI hN), .int (nI ((tN + 16) % 17))], qC G eN 17 (va_up fr ((tN + 16) % 17) none)] ++ wr) := by
  refine MUa hE (by decide) (Nat.le_of_ble_eq_true rfl) (Or.inl ⟨_, rfl⟩) (fun pR eV sT mI below meth cd QQ ls X hH hl ret => ?_)
  obtain ⟨⟨hx, hb, hml, hown, hts⟩, ⟨hr, hlk⟩, -, -, -⟩ := id X
  have hJs := X.J hJ
  have hl : lv_has ls 4 [(0, .ref dN)] := hl
  refine wgen (H := sT.heap) (locs := []) hH (fun H locs hH => ?_)
  have hm : (tN + 16) % 17 < 17 := Nat.mod_lt _ (by decide)
  refine lv_aload_n hx hb dJ4_pollLast_0 rfl (lv_at hl 0 rfl) ?_
  refine x_get X hH.1.1 in_J4 (mem_k 0 rfl) rfl 0 (by decide) q211 (fun _ h => h) rfl dJ4_pollLast_1 ?_
  refine lv_dup hx hb dJ4_pollLast_4 rfl ?_
  refine lv_astore_n (lv' := [(1, .ref eN), (0, .ref dN)]) hx hb dJ4_pollLast_5 rfl hl (by decide) rfl (fun ls hl => ?_)
  refine lv_aload_n hx hb dJ4_pollLast_6 rfl (lv_at hl 1 rfl) ?_
  refine x_get X hH.1.1 in_J4 (mem_k 0 rfl) rfl 2 (by decide) q213 (fun _ h => h) rfl dJ4_pollLast_7 ?_
  refine lv_aload_n hx hb dJ4_pollLast_10 rfl (lv_at hl 0 rfl) ?_
  refine x_alen X hH.1.1 (mem_k 1 rfl) (t0 := 2) rfl dJ4_pollLast_11 ?_
  refine x_RS (c_J4_dec hE ht) X hH.2 trivial (lw_S q1448 q1449 q69 q1450) hds_J4_dec ⟨Nat.le_of_ble_eq_true rfl, Nat.le_of_ble_eq_true rfl⟩ rfl hl.1 rfl (Nat.le_of_ble_eq_true rfl) ⟨(Nat.le_of_ble_eq_true rfl), (Nat.le_of_ble_eq_true rfl)⟩ dJ4_pollLast_12 ?_
  refine lv_dup hx hb dJ4_pollLast_15 rfl ?_
  refine lv_istore_n (lv' := [(2, .int (nI ((tN + 16) % 17))), (1, .ref eN), (0, .ref dN)]) hx hb dJ4_pollLast_16 rfl hl (by decide) rfl (fun ls hl => ?_)
  refine x_RS (c_J4_elementAt hE (mem_k 1 rfl) hm) X hH.2 hH.1.1 (lw_S q845 q846 q69 q847) hds_J4_elementAt ⟨Nat.le_of_ble_eq_true rfl, Nat.le_of_ble_eq_true rfl⟩ rfl hl.1 rfl (Nat.le_of_ble_eq_true rfl) ⟨(Nat.le_of_ble_eq_true rfl), (Nat.le_of_ble_eq_true rfl)⟩ dJ4_pollLast_17 ?_
  refine x_rf (y := yN) (hy) ?_
  refine lv_astore_n (lv' := [(3, .ref yN), (2, .int (nI ((tN + 16) % 17))), (1, .ref eN), (0, .ref dN)]) hx hb dJ4_pollLast_20 rfl hl (by decide) rfl (fun ls hl => ?_)
  refine lv_aload_n hx hb dJ4_pollLast_21 rfl (lv_at hl 0 rfl) ?_
  refine lv_ifnull hx hb dJ4_pollLast_22 ?_
  refine lv_aload_n hx hb dJ4_pollLast_25 rfl (lv_at hl 2 rfl) ?_
  refine lv_aload_n hx hb dJ4_pollLast_26 rfl (lv_at hl 3 rfl) ?_
  refine lv_iload_n hx hb dJ4_pollLast_27 rfl (lv_at hl 1 rfl) ?_
  refine lv_dup_x1 hx hb dJ4_pollLast_28 rfl rfl ?_
  refine x_put X hH in_J4 tyJ4 tyJ4_ok nmJ4 0 rfl rfl 2 (by decide) q213 (fun _ h => h) rfl (ty := .int) (by decide +kernel) rfl rfl (Nat.le_of_ble_eq_true rfl) dJ4_pollLast_29 (fun H locs hH => ?_)
  have hH : HH G sT ([oC dN 11 [.ref eN, .int (nI hN), .int (nI ((tN + 16) % 17))], qC G eN 17 fr] ++ wr) H locs := hH
  refine lv_null hx hb dJ4_pollLast_32 ?_
  refine x_aastN X hH 1 rfl (t0 := 2) rfl (by omega) (by decide) dJ4_pollLast_33 (fun g_1 H locs eg_1 hH => ?_)
  have hH : HH G sT ([oC dN 11 [.ref eN, .int (nI hN), .int (nI ((tN + 16) % 17))], qC G eN 17 g_1] ++ wr) H locs := hH
  refine lv_aload_n hx hb dJ4_pollLast_34 rfl (lv_at hl 0 rfl) ?_
  exact ret _ _ _ _ _ _ _ _ hH (⟨rfl, by rw [eg_1]⟩) (Nat.le_of_ble_eq_true rfl) (Nat.le_of_ble_eq_true rfl) dJ4_pollLast_35
theorem hdv_J4_removeLast : yJ4_removeLast.cls = RJ4 ∧ yJ4_removeLast.cls ≠ "java/lang/invoke/MethodHandle" ∧ yJ4_removeLast.cls ≠ "java/lang/invoke/VarHandle" ∧ (parseMethodDescriptor yJ4_removeLast.desc).map (fun d => d.parameters.length) = some 0 := by decide +kernel
theorem c_J4_removeLast (hE : EnvOK G E) (hJ : EnvJ G E sa) {yN : Nat} (hh : hN < 17) (ht : tN < 17) (hy : fr ((tN + 16) % 17) = some yN) : MU vA l G E yJ4_removeLast cJ4_removeLast 2 (some (.object "java/lang/Object")) 3 0 0 [.ref dN] ([oC dN 11 [.ref eN, .int (nI hN), .int (nI tN)], qC G eN 17 fr] ++ wr) (fun r w => yN = r ∧ w = [oC dN 11 [.ref eN, .int (nI hN), .int (nI ((tN + 16) % 17))], qC G eN 17 (va_up fr ((tN + 16) % 17) none)] ++ wr) := by
  refine MUa hE (by decide) (Nat.le_of_ble_eq_true rfl) (Or.inl ⟨_, rfl⟩) (fun pR eV sT mI below meth cd QQ ls X hH hl ret => ?_)
  obtain ⟨⟨hx, hb, hml, hown, hts⟩, ⟨hr, hlk⟩, -, -, -⟩ := id X
  have hJs := X.J hJ
  have hl : lv_has ls 2 [(0, .ref dN)] := hl
  refine wgen (H := sT.heap) (locs := []) hH (fun H locs hH => ?_)
  refine lv_aload_n hx hb dJ4_removeLast_0 rfl (lv_at hl 0 rfl) ?_
  refine x_MVa (c_J4_pollLast hE hJ hh ht hy) X hH (x_rc X hH.1.1 (mem_k 0 rfl) rfl) (lw_V q1444 q1445 q1446 q69 q1447) hdv_J4_pollLast ⟨Nat.le_of_ble_eq_true rfl, Nat.le_of_ble_eq_true rfl⟩ rfl hl.1 rfl (Nat.le_of_ble_eq_true rfl) ⟨(Nat.le_of_ble_eq_true rfl), (Nat.le_of_ble_eq_true rfl)⟩ dJ4_removeLast_1 (fun r w H locs hq hH => ?_)
  obtain ⟨rfl, rfl⟩ := hq
  have hH : HH G sT ([oC dN 11 [.ref eN, .int (nI hN), .int (nI ((tN + 16) % 17))], qC G eN 17 (va_up fr ((tN + 16) % 17) none)] ++ wr) H locs := hH
  refine lv_astore_n (lv' := [(1, .ref yN), (0, .ref dN)]) hx hb dJ4_removeLast_4 rfl hl (by decide) rfl (fun ls hl => ?_)
  refine lv_aload_n hx hb dJ4_removeLast_5 rfl (lv_at hl 0 rfl) ?_
  refine lv_ifnonnull (tgt := 17) hx hb dJ4_removeLast_6 (by decide) ?_
  refine lv_aload_n hx hb dJ4_removeLast_17 rfl (lv_at hl 0 rfl) ?_
  exact ret _ _ _ _ _ _ _ _ hH (⟨rfl, rfl⟩) (Nat.le_of_ble_eq_true rfl) (Nat.le_of_ble_eq_true rfl) dJ4_removeLast_18
theorem hds_J4_init : yJ4_init.cls ≠ "java/lang/invoke/MethodHandle" ∧ yJ4_init.cls ≠ "java/lang/invoke/VarHandle" ∧ (parseMethodDescriptor yJ4_init.desc).map (fun d => d.parameters.length) = some 0 := by decide +kernel
theorem c_J4_init (hE : EnvOK G E) (hJ : EnvJ G E sa) : MU vV l G E yJ4_init cJ4_init 1 none 2 1 17 [.ref dN] ([oC dN 11 [.null, .int (nI 0), .int (nI 0)]] ++ wr) (fun _ w => ∃ q, w = [oC dN 11 [.ref q, .int (nI 0), .int (nI 0)], qC G q 17 (fun _ => none)] ++ wr) := by
  refine MUc hE (by decide) (Nat.le_of_ble_eq_true rfl) (fun pR eV sT mI below meth cd QQ ls hin X hH hl ret => ?_)
  obtain ⟨⟨hx, hb, hml, hown, hts⟩, ⟨hr, hlk⟩, -, -, -⟩ := id X
  have hJs := X.J hJ
  have hl : lv_has ls 1 [(0, .ref dN)] := hl
  refine wgen (H := sT.heap) (locs := []) hH (fun H locs hH => ?_)
  refine lv_aload_n hx hb dJ4_init_0 rfl (lv_at hl 0 rfl) ?_
  refine x_MI (c_J0_init (wr := [oC dN 11 [.null, .int (nI 0), .int (nI 0)]] ++ wr) hE) X hH q123 q64 q208 q122 rfl hds_J0_init ⟨Nat.le_of_ble_eq_true rfl, Nat.le_of_ble_eq_true rfl⟩ rfl hl.1 rfl (Nat.le_of_ble_eq_true rfl) ⟨(Nat.le_of_ble_eq_true rfl), (Nat.le_of_ble_eq_true rfl)⟩ dJ4_init_1 (fun w H locs hq hH => ?_)
  obtain rfl := hq
  have hH : HH G sT ([oC dN 11 [.null, .int (nI 0), .int (nI 0)]] ++ wr) H locs := hH
  refine lv_aload_n hx hb dJ4_init_4 rfl (lv_at hl 0 rfl) ?_
  refine lv_bipush (v := nI 17) hx hb dJ4_init_5 (by decide) ?_
  refine x_newq X hH (t0 := 2) rfl q209 hJs.2.1.1 (by decide) (Nat.le_of_ble_eq_true rfl) (Nat.le_of_ble_eq_true rfl) dJ4_init_7 (fun q H hH => ?_)
  refine x_widen (k2 := 1) (n2 := 17) (Nat.le_of_ble_eq_true rfl) (Nat.le_of_ble_eq_true rfl) ?_
  have hH : HH G sT ([qC G q 17 (fun _ => none), oC dN 11 [.null, .int (nI 0), .int (nI 0)]] ++ wr) H locs := hH
  refine x_put X hH in_J4 tyJ4 tyJ4_ok nmJ4 1 rfl rfl 0 (by decide) q211 (fun _ h => h) rfl (ty := .array (.object "java/lang/Object")) (by decide +kernel) rfl rfl (Nat.le_of_ble_eq_true rfl) dJ4_init_10 (fun H locs hH => ?_)
  have hH : HH G sT ([qC G q 17 (fun _ => none), oC dN 11 [.ref q, .int (nI 0), .int (nI 0)]] ++ wr) H locs := hH
  have hH : HH G sT ([oC dN 11 [.ref q, .int (nI 0), .int (nI 0)], qC G q 17 (fun _ => none)] ++ wr) H locs := HH.pickN hH 2 [1, 0] rfl (by decide) rfl
  exact ret _ _ _ _ _ _ _ hH (⟨q, rfl⟩) (Nat.le_of_ble_eq_true rfl) (Nat.le_of_ble_eq_true rfl) dJ4_init_13
def dqW (G : GG) (d e h t : Nat) (f : Nat → Option Nat) : va_W := [oC d 11 [.ref e, .int (nI h), .int (nI t)], qC G e 17 f]
/-- n elements S from h on, to t, round and round -/
def dqK (h t n : Nat) (f : Nat → Option Nat) (S : Nat → Nat) : Prop := h < 17 ∧ t = (h + n) % 17 ∧ n ≤ 5 ∧ ∀ i, i < n → f ((h + i) % 17) = some (S i)
theorem dqK.t17 {h t n : Nat} {f : Nat → Option Nat} {S : Nat → Nat} (k : dqK h t n f S) : t < 17 := by rw [k.2.1]; exact Nat.mod_lt _ (by decide)
theorem dqn_n {h t n : Nat} {f : Nat → Option Nat} {S : Nat → Nat} (k : dqK h t n f S) : dqn t h = n := by
  obtain ⟨h1, h2, h3, -⟩ := k
  unfold dqn
  split <;> omega
variable {S : Nat → Nat} {nN : Nat}
theorem d_size (hE : EnvOK G E) (hW : ∀ q ∈ dqW G dN eN hN tN fr, q ∈ ws) (hK : dqK hN tN nN fr S) : RO l G E yJ4_size cJ4_size 1 .int 2 [.ref dN] (va_P G.1 cls ws) (.int (nI nN)) := by
  have h := c_J4_size (l := l) hE (hW _ List.mem_cons_self) (hW _ (List.mem_cons_of_mem _ List.mem_cons_self)) hK.1 hK.t17
  rw [dqn_n hK] at h
  exact h
theorem d_isEmpty (hE : EnvOK G E) (hW : ∀ q ∈ dqW G dN eN hN tN fr, q ∈ ws) (hK : dqK hN tN nN fr S) : RO l G E yJ4_isEmpty cJ4_isEmpty 1 .boolean 1 [.ref dN] (va_P G.1 cls ws) (.int (bI (decide (nN = 0)))) := by
  have h := c_J4_isEmpty (l := l) hE (hW _ List.mem_cons_self) hK.1 hK.t17
  rw [show decide (hN = tN) = decide (nN = 0) from by obtain ⟨h1, h2, h3, -⟩ := hK; by_cases e : nN = 0 <;> simp only [e, decide_true, decide_false, decide_eq_true_eq, decide_eq_false_iff_not] <;> omega] at h
  exact h
theorem d_addLast (hE : EnvOK G E) (hJ : EnvJ G E sa) {xN ci : Nat} {vs : List Value} {rC : vw_C} (hv : oC xN ci vs ∈ wr) (hc : cls[ci]? = some rC) (hca : Cond.castable rC.1 "java/lang/Object" ∈ lw_tbl) (hK : dqK hN tN nN fr S) (hn : nN ≤ 4) : MU vV l G E yJ4_addLast cJ4_addLast 3 none 2 0 0 [.ref dN, .ref xN] (dqW G dN eN hN tN fr ++ wr) (fun _ w => ∃ t' f', dqK hN t' (nN + 1) f' (fun i => if i = nN then xN else S i) ∧ w = dqW G dN eN hN t' f' ++ wr) := by
  have ht := hK.t17
  obtain ⟨h1, h2, h3, h4⟩ := hK
  refine MU.imp (c_J4_addLast hE hJ hv hc hca h1 ht (by omega)) (fun _ w h => ⟨_, _, ⟨h1, by omega, by omega, fun i hi => ?_⟩, h⟩)
  show _ = some (if i = nN then xN else S i)
  rcases Nat.lt_or_ge i nN with q | q
  · rw [va_up_ne _ _ (by omega), if_neg (by omega)]
    exact h4 i q
  · rw [show i = nN by omega, ← h2, va_up_self, if_pos rfl]
theorem d_removeFirst (hE : EnvOK G E) (hJ : EnvJ G E sa) (hK : dqK hN tN nN fr S) (hn : 0 < nN) : MU vA l G E yJ4_removeFirst cJ4_removeFirst 2 (some (.object "java/lang/Object")) 3 0 0 [.ref dN] (dqW G dN eN hN tN fr ++ wr) (fun r w => ∃ h' f', r = S 0 ∧ dqK h' tN (nN - 1) f' (fun i => S (i + 1)) ∧ w = dqW G dN eN h' tN f' ++ wr) := by
  have ht := hK.t17
  obtain ⟨h1, h2, h3, h4⟩ := hK
  have hy := h4 0 hn
  rw [Nat.add_zero, Nat.mod_eq_of_lt h1] at hy
  refine MU.imp (c_J4_removeFirst hE hJ h1 ht hy) (fun r w h => ⟨_, _, h.1.symm, ⟨Nat.mod_lt _ (by decide), by omega, by omega, fun i hi => ?_⟩, h.2⟩)
  rw [va_up_ne _ _ (by omega), show ((hN + 1) % 17 + i) % 17 = (hN + (i + 1)) % 17 by omega]
  exact h4 (i + 1) (by omega)
theorem d_removeLast (hE : EnvOK G E) (hJ : EnvJ G E sa) (hK : dqK hN tN nN fr S) (hn : 0 < nN) : MU vA l G E yJ4_removeLast cJ4_removeLast 2 (some (.object "java/lang/Object")) 3 0 0 [.ref dN] (dqW G dN eN hN tN fr ++ wr) (fun r w => ∃ t' f', r = S (nN - 1) ∧ dqK hN t' (nN - 1) f' S ∧ w = dqW G dN eN hN t' f' ++ wr) := by
  have ht := hK.t17
  obtain ⟨h1, h2, h3, h4⟩ := hK
  have hy := h4 (nN - 1) (by omega)
  rw [show (hN + (nN - 1)) % 17 = (tN + 16) % 17 by omega] at hy
  refine MU.imp (c_J4_removeLast hE hJ h1 ht hy) (fun r w h => ⟨_, _, h.1.symm, ⟨h1, by omega, by omega, fun i hi => ?_⟩, h.2⟩)
  rw [va_up_ne _ _ (by omega)]
  exact h4 i (by omega)
variable {aN nN : Nat} {fa : Nat → Int32} {x : Int32}
theorem hds_J3_fill : yJ3_fill.cls ≠ "java/lang/invoke/MethodHandle" ∧ yJ3_fill.cls ≠ "java/lang/invoke/VarHandle" ∧ (parseMethodDescriptor yJ3_fill.desc).map (fun d => d.parameters.length) = some 2 := by decide +kernel
theorem c_J3_fill (hE : EnvOK G E) (hn : nN < 2 ^ 20) : MU vV l G E yJ3_fill cJ3_fill 4 none 1 0 0 [.ref aN, .int x] ([iC G aN nN fa] ++ wr) (fun _ w => ∃ g, (∀ k, k < nN → g k = x) ∧ w = [iC G aN nN g] ++ wr) := by
  refine MUv hE (by decide) (Nat.le_of_ble_eq_true rfl) (fun pR eV sT mI below meth cd QQ ls X hH hl ret => ?_)
  obtain ⟨⟨hx, hb, hml, hown, hts⟩, ⟨hr, hlk⟩, -, -, -⟩ := id X
  have hl : lv_has ls 4 [(0, .ref aN), (1, .int x)] := hl
  refine wgen (H := sT.heap) (locs := []) hH (fun H locs hH => ?_)
  refine lv_iconst (v := nI 0) hx hb dJ3_fill_0 (by decide) ?_
  refine lv_istore_n (lv' := [(2, .int (nI 0)), (0, .ref aN), (1, .int x)]) hx hb dJ3_fill_1 rfl hl (by decide) rfl (fun ls hl => ?_)
  refine lv_aload_n hx hb dJ3_fill_2 rfl (lv_at hl 1 rfl) ?_
  refine x_alen X hH.1.1 (mem_k 0 rfl) (t0 := 0) rfl dJ3_fill_3 ?_
  refine lv_istore_n (lv' := [(3, .int (nI nN)), (2, .int (nI 0)), (0, .ref aN), (1, .int x)]) hx hb dJ3_fill_4 rfl hl (by decide) rfl (fun ls hl => ?_)
  have lp : ∀ (fu : Nat) (kN : Nat) (faw : Nat → Int32), (kN ≤ nN) → (∀ k, k < kN → faw k = x) → nN - kN < fu → ∀ (H : Heap) (locs : List Loc), HH G sT ([iC G aN nN faw] ++ wr) H locs → ∀ ls : Array Slot, lv_has ls 4 [(0, .ref aN), (1, .int x), (2, .int (nI kN)), (3, .int (nI nN))] → W pR l eV (Rm 1 0 0) sT mI ([.ref aN, .int x] : List Value).toArray below meth cd H locs 0 0 QQ (F0 mI 5 ls []) := by
    intro fu
    induction fu with
    | zero => intro kN faw hk hk2 hm; exact absurd hm (Nat.not_lt_zero _)
    | succ fu ih_lp =>
      intro kN faw hk hk2 hm H locs hH ls hl
      refine lv_iload_n hx hb dJ3_fill_5 rfl (lv_at hl 2 rfl) ?_
      refine lv_iload_n hx hb dJ3_fill_6 rfl (lv_at hl 3 rfl) ?_
      refine n_icmp_ge (tgt := 20) hx hb (by omega) (by omega) dJ3_fill_7 (by decide) (fun c1 => ?_) (fun c1 => ?_)
      · exact ret _ _ _ _ _ _ _ hH (⟨faw, fun k h => hk2 k (by omega), rfl⟩) (Nat.le_of_ble_eq_true rfl) (Nat.le_of_ble_eq_true rfl) dJ3_fill_20
      · refine lv_aload_n hx hb dJ3_fill_10 rfl (lv_at hl 0 rfl) ?_
        refine lv_iload_n hx hb dJ3_fill_11 rfl (lv_at hl 2 rfl) ?_
        refine lv_iload_n hx hb dJ3_fill_12 rfl (lv_at hl 1 rfl) ?_
        refine x_iast X hH 0 rfl (by omega) (by omega) dJ3_fill_13 (fun g_1 H locs eg_1 hH => ?_)
        have hH : HH G sT ([iC G aN nN g_1] ++ wr) H locs := hH
        refine lv_iinc (v := nI (kN + 1)) (lv' := [(2, .int (nI (kN + 1))), (0, .ref aN), (1, .int x), (3, .int (nI nN))]) hx hb dJ3_fill_14 hl (k := 2) rfl (nI_add _ 1) (by decide) rfl (fun ls hl => ?_)
        refine lv_goto (tgt := 5) hx hb dJ3_fill_17 (by decide) ?_
        exact ih_lp (kN + 1) g_1  (by omega) (fun k h => by rw [eg_1]; rcases Nat.lt_or_ge k kN with q | q; rw [updNe (by omega)]; exact hk2 k q; rw [show k = kN by omega]; exact updEq) (by omega) _ _ hH ls (lv_sub hl [1, 2, 0, 3] rfl)
  exact lp _ 0 fa  (Nat.zero_le _) (fun k h => absurd h (Nat.not_lt_zero _)) (Nat.lt_succ_self _) _ _ hH ls (lv_sub hl [2, 3, 1, 0] rfl)
end C5
