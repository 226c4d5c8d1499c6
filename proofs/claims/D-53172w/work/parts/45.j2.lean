/-! JDK 2: strings compared, bits counted -/
section C2
variable {l : Launch} {G : GG} {E : State → Prop} {sa : Nat → Nat} {ws wr : va_W}
variable {s1 s2 q1 q2 n1 n2 : Nat} {hh zz h2 z2 : Int32} {fa fb : Nat → Int32} {ta tb : Nat → Nat}
def eqS (n1 n2 : Nat) (ta tb : Nat → Nat) : Bool := decide (n1 = n2) && allB n1 (fun k => decide (ta k = tb k))
theorem hds_J16_equals : yJ16_equals.cls ≠ "java/lang/invoke/MethodHandle" ∧ yJ16_equals.cls ≠ "java/lang/invoke/VarHandle" ∧ (parseMethodDescriptor yJ16_equals.desc).map (fun d => d.parameters.length) = some 2 := by decide +kernel
theorem c_J16_equals (hE : EnvOK G E) (h1 : bC G q1 n1 fa ∈ ws) (ht : ∀ k, k < n1 → fa k = nI (ta k) ∧ ta k < 128) (hn : n1 < 2 ^ 20) (h3 : bC G q2 n2 fb ∈ ws) (ht2 : ∀ k, k < n2 → fb k = nI (tb k) ∧ tb k < 128) (hn2 : n2 < 2 ^ 20) : RO l G E yJ16_equals cJ16_equals 3 .boolean 1 [.ref q1, .ref q2] (va_P G.1 cls (ws)) (.int (bI (eqS n1 n2 ta tb))) := by
  refine ROz hE (by decide) (Nat.le_of_ble_eq_true rfl) (bI_nar _) (fun pR eV sT mI below meth cd QQ ls X hP hl ret => ?_)
  obtain ⟨⟨hx, hb, hml, hown, hts⟩, ⟨hr, hlk⟩, -, -, -⟩ := id X
  have hl : lv_has ls 3 [(0, .ref q1), (1, .ref q2)] := hl
  refine lv_aload_n hx hb dJ16_equals_0 rfl (lv_at hl 0 rfl) ?_
  refine x_alen X hP h1 (t0 := 1) rfl dJ16_equals_1 ?_
  refine lv_aload_n hx hb dJ16_equals_2 rfl (lv_at hl 1 rfl) ?_
  refine x_alen X hP h3 (t0 := 1) rfl dJ16_equals_3 ?_
  refine n_icmp_ne (tgt := 34) hx hb (by omega) (by omega) dJ16_equals_4 (by decide) (fun c1 => ?_) (fun c1 => ?_)
  · refine lv_iconst (v := nI 0) hx hb dJ16_equals_34 (by decide) ?_
    exact ret _ _ _ (bI_f (by unfold eqS; rw [decide_eq_false c1]; rfl)) dJ16_equals_35
  · refine lv_iconst (v := nI 0) hx hb dJ16_equals_7 (by decide) ?_
    refine lv_istore_n (lv' := [(2, .int (nI 0)), (0, .ref q1), (1, .ref q2)]) hx hb dJ16_equals_8 rfl hl (by decide) rfl (fun ls hl => ?_)
    have lp : ∀ (fu : Nat) (kN : Nat), (kN ≤ n1) → (∀ k, k < kN → decide (ta k = tb k) = true) → n1 - kN < fu → ∀ ls : Array Slot, lv_has ls 3 [(0, .ref q1), (1, .ref q2), (2, .int (nI kN))] → W pR l eV (Rm 1 0 0) sT mI ([.ref q1, .ref q2] : List Value).toArray below meth cd sT.heap [] 0 0 QQ (F0 mI 9 ls []) := by
      intro fu
      induction fu with
      | zero => intro kN hk hk2 hm; exact absurd hm (Nat.not_lt_zero _)
      | succ fu ih_lp =>
        intro kN hk hk2 hm  ls hl
        refine lv_iload_n hx hb dJ16_equals_9 rfl (lv_at hl 2 rfl) ?_
        refine lv_aload_n hx hb dJ16_equals_10 rfl (lv_at hl 0 rfl) ?_
        refine x_alen X hP h1 (t0 := 1) rfl dJ16_equals_11 ?_
        refine n_icmp_ge (tgt := 32) hx hb (by omega) (by omega) dJ16_equals_12 (by decide) (fun c2 => ?_) (fun c2 => ?_)
        · refine lv_iconst (v := nI 1) hx hb dJ16_equals_32 (by decide) ?_
          exact ret _ _ _ (bI_t (by unfold eqS; rw [decide_eq_true c1, Bool.true_and]; exact allB_iff.mpr (fun k h => hk2 k (by omega)))) dJ16_equals_33
        · refine lv_aload_n hx hb dJ16_equals_15 rfl (lv_at hl 0 rfl) ?_
          refine lv_iload_n hx hb dJ16_equals_16 rfl (lv_at hl 2 rfl) ?_
          refine x_bald X hP h1 (by omega) (by omega) dJ16_equals_17 ?_
          refine n_top (y := nI (ta kN)) ((ht _ (by omega)).1) ?_
          refine lv_aload_n hx hb dJ16_equals_18 rfl (lv_at hl 1 rfl) ?_
          refine lv_iload_n hx hb dJ16_equals_19 rfl (lv_at hl 2 rfl) ?_
          refine x_bald X hP h3 (by omega) (by omega) dJ16_equals_20 ?_
          refine n_top (y := nI (tb kN)) ((ht2 _ (by omega)).1) ?_
          have hta := (ht kN (by omega)).2
          have htb := (ht2 kN (by omega)).2
          refine n_icmp_eq (tgt := 26) hx hb (by omega) (by omega) dJ16_equals_21 (by decide) (fun c3 => ?_) (fun c3 => ?_)
          · refine lv_iinc (v := nI (kN + 1)) (lv' := [(2, .int (nI (kN + 1))), (0, .ref q1), (1, .ref q2)]) hx hb dJ16_equals_26 hl (k := 2) rfl (nI_add _ 1) (by decide) rfl (fun ls hl => ?_)
            refine lv_goto (tgt := 9) hx hb dJ16_equals_29 (by decide) ?_
            exact ih_lp (kN + 1)  (by omega) (fun k h => by rcases Nat.lt_or_ge k kN with q | q; exact hk2 k q; rw [show k = kN by omega]; exact decide_eq_true c3) (by omega) ls (lv_sub hl [1, 2, 0] rfl)
          · refine lv_iconst (v := nI 0) hx hb dJ16_equals_24 (by decide) ?_
            exact ret _ _ _ (bI_f (by unfold eqS; rw [allB_f (k := kN) (by omega) (decide_eq_false c3), Bool.and_false])) dJ16_equals_25
    exact lp _ 0  (Nat.zero_le _) (fun k h => absurd h (Nat.not_lt_zero _)) (Nat.lt_succ_self _) ls (lv_sub hl [1, 2, 0] rfl)
theorem hdv_J12_equals : yJ12_equals.cls = RJ12 ∧ yJ12_equals.cls ≠ "java/lang/invoke/MethodHandle" ∧ yJ12_equals.cls ≠ "java/lang/invoke/VarHandle" ∧ (parseMethodDescriptor yJ12_equals.desc).map (fun d => d.parameters.length) = some 1 := by decide +kernel
theorem c_J12_equals (hE : EnvOK G E) (hJ : EnvJ G E sa) (h0 : oC s1 13 [.ref q1, .int (nI 0), .int hh, .int zz] ∈ ws) (h1 : bC G q1 n1 fa ∈ ws) (ht : ∀ k, k < n1 → fa k = nI (ta k) ∧ ta k < 128) (hn : n1 < 2 ^ 20) (h2o : oC s2 13 [.ref q2, .int (nI 0), .int h2, .int z2] ∈ ws) (h3 : bC G q2 n2 fb ∈ ws) (ht2 : ∀ k, k < n2 → fb k = nI (tb k) ∧ tb k < 128) (hn2 : n2 < 2 ^ 20) (hne : s1 ≠ s2) : RO l G E yJ12_equals cJ12_equals 3 .boolean 2 [.ref s1, .ref s2] (va_P G.1 cls (ws)) (.int (bI (eqS n1 n2 ta tb))) := by
  refine ROz hE (by decide) (Nat.le_of_ble_eq_true rfl) (bI_nar _) (fun pR eV sT mI below meth cd QQ ls X hP hl ret => ?_)
  obtain ⟨⟨hx, hb, hml, hown, hts⟩, ⟨hr, hlk⟩, -, -, -⟩ := id X
  have hJs := X.J hJ
  have hl : lv_has ls 3 [(0, .ref s1), (1, .ref s2)] := hl
  refine lv_aload_n hx hb dJ12_equals_0 rfl (lv_at hl 0 rfl) ?_
  refine lv_aload_n hx hb dJ12_equals_1 rfl (lv_at hl 1 rfl) ?_
  refine lv_acmp_ne (rx := some s1) (ry := some s2) (tgt := 7) hx hb dJ12_equals_2 (by decide) (fun c1 => ?_) (fun c1 => absurd (Option.some.inj c1) hne)
  refine lv_aload_n hx hb dJ12_equals_7 rfl (lv_at hl 1 rfl) ?_
  refine x_instS X hP h2o rfl q1082 dJ12_equals_8 ?_
  refine lv_if_eq (tgt := 54) hx hb dJ12_equals_11 (by decide) (fun h => absurd h (by decide)) (fun _ => ?_)
  refine lv_aload_n hx hb dJ12_equals_14 rfl (lv_at hl 1 rfl) ?_
  refine x_castS X hP h2o rfl q1082 dJ12_equals_15 ?_
  refine lv_astore_n (lv' := [(2, .ref s2), (0, .ref s1), (1, .ref s2)]) hx hb dJ12_equals_18 rfl hl (by decide) rfl (fun ls hl => ?_)
  refine x_gets X va_S.rf hJs.2.2.2.2.1.1 q661 (fun _ h => h) dJ12_equals_19 ?_
  refine lv_if_eq (tgt := 36) hx hb dJ12_equals_22 (by decide) (fun h => absurd h (by decide)) (fun _ => ?_)
  refine lv_aload_n hx hb dJ12_equals_25 rfl (lv_at hl 1 rfl) ?_
  refine x_get X hP in_J12 h0 rfl 1 (by decide) q706 (fun _ h => h) rfl dJ12_equals_26 ?_
  refine lv_aload_n hx hb dJ12_equals_29 rfl (lv_at hl 0 rfl) ?_
  refine x_get X hP in_J12 h2o rfl 1 (by decide) q706 (fun _ h => h) rfl dJ12_equals_30 ?_
  refine n_icmp_ne (tgt := 54) hx hb (by omega) (by omega) dJ12_equals_33 (by decide) (fun c4 => absurd rfl c4) (fun c4 => ?_)
  refine lv_aload_n hx hb dJ12_equals_36 rfl (lv_at hl 1 rfl) ?_
  refine x_get X hP in_J12 h0 rfl 0 (by decide) q705 (fun _ h => h) rfl dJ12_equals_37 ?_
  refine lv_aload_n hx hb dJ12_equals_40 rfl (lv_at hl 0 rfl) ?_
  refine x_get X hP in_J12 h2o rfl 0 (by decide) q705 (fun _ h => h) rfl dJ12_equals_41 ?_
  refine x_RS (c_J16_equals hE h1 ht hn h3 ht2 hn2) X va_S.rf hP (lw_S q1083 q1084 q88 q1085) hds_J16_equals ⟨Nat.le_of_ble_eq_true rfl, Nat.le_of_ble_eq_true rfl⟩ rfl hl.1 rfl (Nat.le_of_ble_eq_true rfl) ⟨Nat.le_refl _, Nat.le_refl _⟩ dJ12_equals_44 ?_
  refine b_if_eq (tgt := 54) hx hb dJ12_equals_47 (by decide) (fun c5 => ?_) (fun c5 => ?_)
  · refine lv_iconst (v := nI 0) hx hb dJ12_equals_54 (by decide) ?_
    exact ret _ _ _ (bI_f c5) dJ12_equals_55
  · refine lv_iconst (v := nI 1) hx hb dJ12_equals_50 (by decide) ?_
    refine lv_goto (tgt := 55) hx hb dJ12_equals_51 (by decide) ?_
    exact ret _ _ _ (bI_t c5) dJ12_equals_55
def mmI (ta tb : Nat → Nat) (f : Nat) : Nat → Nat → Int32
  | 0, _ => -1
  | j + 1, i => if ta (f + i) = tb i then mmI ta tb f j (i + 1) else nI i
theorem mmI_iff {ta tb : Nat → Nat} {f : Nat} : ∀ j i, i + j < 2 ^ 20 → (mmI ta tb f j i < 0 ↔ ∀ k, k < j → ta (f + (i + k)) = tb (i + k)) := by
  intro j
  induction j with
  | zero => intro i _; exact ⟨fun _ k h => absurd h (Nat.not_lt_zero _), fun _ => by show (-1 : Int32) < 0; decide⟩
  | succ j ih =>
    intro i hi
    unfold mmI
    split
    · next h =>
      rw [ih (i + 1) (by omega)]
      constructor
      · intro h2 k hk
        cases k with
        | zero => exact h
        | succ k => have := h2 k (by omega); rw [show i + (k + 1) = i + 1 + k by omega]; exact this
      · intro h2 k hk
        have := h2 (k + 1) (by omega)
        rw [show i + 1 + k = i + (k + 1) by omega]; exact this
    · next h => exact ⟨fun h2 => absurd h2 (nI_pos (by omega)), fun h2 => absurd (h2 0 (by omega)) h⟩
theorem hds_J14_mismatch : yJ14_mismatch.cls ≠ "java/lang/invoke/MethodHandle" ∧ yJ14_mismatch.cls ≠ "java/lang/invoke/VarHandle" ∧ (parseMethodDescriptor yJ14_mismatch.desc).map (fun d => d.parameters.length) = some 5 := by decide +kernel
theorem c_J14_mismatch (hE : EnvOK G E) {fN lN : Nat} (h1 : bC G q1 n1 fa ∈ ws) (ht : ∀ k, k < n1 → fa k = nI (ta k) ∧ ta k < 128) (hn : n1 < 2 ^ 20) (h3 : bC G q2 n2 fb ∈ ws) (ht2 : ∀ k, k < n2 → fb k = nI (tb k) ∧ tb k < 128) (hn2 : n2 < 2 ^ 20) (hL : lN ≤ 7) (hfl : fN + lN ≤ n1) (hl2 : lN ≤ n2) : RO l G E yJ14_mismatch cJ14_mismatch 8 .int 1 [.ref q1, .int (nI fN), .ref q2, .int (nI 0), .int (nI lN)] (va_P G.1 cls (ws)) (.int (mmI ta tb fN lN 0)) := by
  refine ROi hE (by decide) (Nat.le_of_ble_eq_true rfl) (fun pR eV sT mI below meth cd QQ ls X hP hl ret => ?_)
  obtain ⟨⟨hx, hb, hml, hown, hts⟩, ⟨hr, hlk⟩, -, -, -⟩ := id X
  have hl : lv_has ls 8 [(0, .ref q1), (1, .int (nI fN)), (2, .ref q2), (3, .int (nI 0)), (4, .int (nI lN))] := hl
  refine lv_iconst (v := nI 0) hx hb dJ14_mismatch_0 (by decide) ?_
  refine lv_istore (lv' := [(5, .int (nI 0)), (0, .ref q1), (1, .int (nI fN)), (2, .ref q2), (3, .int (nI 0)), (4, .int (nI lN))]) hx hb dJ14_mismatch_1 hl (by decide) rfl (fun ls hl => ?_)
  refine lv_iload hx hb dJ14_mismatch_3 (lv_at hl 5 rfl) ?_
  refine lv_bipush (v := nI 7) hx hb dJ14_mismatch_5 (by decide) ?_
  refine n_icmp_le (tgt := 70) hx hb (by omega) (by omega) dJ14_mismatch_7 (by decide) (fun c1 => ?_) (fun c1 => absurd c1 (by omega))
  have lp : ∀ (fu : Nat) (kN : Nat), (kN ≤ lN) → (mmI ta tb fN lN 0 = mmI ta tb fN (lN - kN) kN) → lN - kN < fu → ∀ ls : Array Slot, lv_has ls 8 [(0, .ref q1), (1, .int (nI fN)), (2, .ref q2), (3, .int (nI 0)), (4, .int (nI lN)), (5, .int (nI kN))] → W pR l eV (Rm 1 0 0) sT mI ([.ref q1, .int (nI fN), .ref q2, .int (nI 0), .int (nI lN)] : List Value).toArray below meth cd sT.heap [] 0 0 QQ (F0 mI 70 ls []) := by
    intro fu
    induction fu with
    | zero => intro kN hk hk2 hm; exact absurd hm (Nat.not_lt_zero _)
    | succ fu ih_lp =>
      intro kN hk hk2 hm  ls hl
      refine lv_iload hx hb dJ14_mismatch_70 (lv_at hl 5 rfl) ?_
      refine lv_iload hx hb dJ14_mismatch_72 (lv_at hl 4 rfl) ?_
      refine n_icmp_ge (tgt := 101) hx hb (by omega) (by omega) dJ14_mismatch_74 (by decide) (fun c2 => ?_) (fun c2 => ?_)
      · refine lv_iconst (v := (-1)) hx hb dJ14_mismatch_101 (by decide) ?_
        exact ret _ _ _ (by rw [hk2, show lN - kN = 0 by omega]; rfl) dJ14_mismatch_102
      · refine lv_aload_n hx hb dJ14_mismatch_77 rfl (lv_at hl 0 rfl) ?_
        refine lv_iload_n hx hb dJ14_mismatch_78 rfl (lv_at hl 1 rfl) ?_
        refine lv_iload hx hb dJ14_mismatch_79 (lv_at hl 5 rfl) ?_
        refine n_iadd hx hb dJ14_mismatch_81 ?_
        refine x_bald X hP h1 (by omega) (by omega) dJ14_mismatch_82 ?_
        refine n_top (y := nI (ta (fN + kN))) ((ht _ (by omega)).1) ?_
        refine lv_aload_n hx hb dJ14_mismatch_83 rfl (lv_at hl 2 rfl) ?_
        refine lv_iload_n hx hb dJ14_mismatch_84 rfl (lv_at hl 3 rfl) ?_
        refine lv_iload hx hb dJ14_mismatch_85 (lv_at hl 5 rfl) ?_
        refine n_iadd hx hb dJ14_mismatch_87 ?_
        refine x_bald X hP h3 (by omega) (by omega) dJ14_mismatch_88 ?_
        refine n_top (y := nI (tb kN)) (by rw [Nat.zero_add]; exact (ht2 _ (by omega)).1) ?_
        have hta := (ht (fN + kN) (by omega)).2
        have htb := (ht2 kN (by omega)).2
        have e : mmI ta tb fN (lN - kN) kN = if ta (fN + kN) = tb kN then mmI ta tb fN (lN - (kN + 1)) (kN + 1) else nI kN := by rw [show lN - kN = (lN - (kN + 1)) + 1 by omega]; rfl
        refine n_icmp_eq (tgt := 95) hx hb (by omega) (by omega) dJ14_mismatch_89 (by decide) (fun c3 => ?_) (fun c3 => ?_)
        · refine lv_iinc (v := nI (kN + 1)) (lv' := [(5, .int (nI (kN + 1))), (0, .ref q1), (1, .int (nI fN)), (2, .ref q2), (3, .int (nI 0)), (4, .int (nI lN))]) hx hb dJ14_mismatch_95 hl (k := 5) rfl (nI_add _ 1) (by decide) rfl (fun ls hl => ?_)
          refine lv_goto (tgt := 70) hx hb dJ14_mismatch_98 (by decide) ?_
          exact ih_lp (kN + 1)  (by omega) (by rw [hk2, e, if_pos c3]) (by omega) ls (lv_sub hl [1, 2, 3, 4, 5, 0] rfl)
        · refine lv_iload hx hb dJ14_mismatch_92 (lv_at hl 5 rfl) ?_
          exact ret _ _ _ (by rw [hk2, e, if_neg c3]) dJ14_mismatch_94
  exact lp _ 0  (Nat.zero_le _) (rfl) (Nat.lt_succ_self _) ls (lv_sub hl [1, 2, 3, 4, 5, 0] rfl)
theorem nI_leS {f n L : Nat} (hf : f < 2 ^ 20) (hn : n < 2 ^ 20) (hL : L < 2 ^ 20) : nI f ≤ nI n - nI L ↔ f + L ≤ n := by
  have t : ∀ k : Nat, k < 2 ^ 20 → (nI k).toInt = (k : Int) := fun k h => Int32.toInt_ofNat_of_lt (by omega)
  rw [Int32.le_iff_toInt_le, Int32.toInt_sub, t f hf, t n hn, t L hL]
  have : ((n : Int) - (L : Int)).bmod (2 ^ 32) = (n : Int) - (L : Int) := by
    rw [Int.bmod_eq_of_le] <;> omega
  rw [this]
  omega
def swB (n1 n2 : Nat) (ta tb : Nat → Nat) (f : Nat) : Bool := decide (f + n2 ≤ n1) && allB n2 (fun k => decide (ta (f + k) = tb k))
theorem hdv_J12_startsWith : yJ12_startsWith.cls = RJ12 ∧ yJ12_startsWith.cls ≠ "java/lang/invoke/MethodHandle" ∧ yJ12_startsWith.cls ≠ "java/lang/invoke/VarHandle" ∧ (parseMethodDescriptor yJ12_startsWith.desc).map (fun d => d.parameters.length) = some 2 := by decide +kernel
theorem c_J12_startsWith (hE : EnvOK G E) (hJ : EnvJ G E sa) {fN : Nat} (h0 : oC s1 13 [.ref q1, .int (nI 0), .int hh, .int zz] ∈ ws) (h1 : bC G q1 n1 fa ∈ ws) (ht : ∀ k, k < n1 → fa k = nI (ta k) ∧ ta k < 128) (hn : n1 < 2 ^ 20) (h2o : oC s2 13 [.ref q2, .int (nI 0), .int h2, .int z2] ∈ ws) (h3 : bC G q2 n2 fb ∈ ws) (ht2 : ∀ k, k < n2 → fb k = nI (tb k) ∧ tb k < 128) (hn2 : n2 < 2 ^ 20) (hL : n2 ≤ 7) (hf : fN < 2 ^ 20) : RO l G E yJ12_startsWith cJ12_startsWith 8 .boolean 3 [.ref s1, .ref s2, .int (nI fN)] (va_P G.1 cls (ws)) (.int (bI (swB n1 n2 ta tb fN))) := by
  refine ROz hE (by decide) (Nat.le_of_ble_eq_true rfl) (bI_nar _) (fun pR eV sT mI below meth cd QQ ls X hP hl ret => ?_)
  obtain ⟨⟨hx, hb, hml, hown, hts⟩, ⟨hr, hlk⟩, -, -, -⟩ := id X
  have hJs := X.J hJ
  have hl : lv_has ls 8 [(0, .ref s1), (1, .ref s2), (2, .int (nI fN))] := hl
  refine lv_iload_n hx hb dJ12_startsWith_0 rfl (lv_at hl 2 rfl) ?_
  refine lv_if_lt (tgt := 17) hx hb dJ12_startsWith_1 (by decide) (fun c1 => absurd c1 (nI_pos (by omega))) (fun c1 => ?_)
  refine lv_iload_n hx hb dJ12_startsWith_4 rfl (lv_at hl 2 rfl) ?_
  refine lv_aload_n hx hb dJ12_startsWith_5 rfl (lv_at hl 0 rfl) ?_
  refine x_RV (c_J12_length hE hJ h0 h1) X va_S.rf hP (x_rc X hP h0 rfl) (lw_V q972 q654 q655 q83 q656) hdv_J12_length ⟨Nat.le_of_ble_eq_true rfl, Nat.le_of_ble_eq_true rfl⟩ rfl hl.1 rfl (Nat.le_of_ble_eq_true rfl) ⟨Nat.le_refl _, Nat.le_refl _⟩ dJ12_startsWith_6 ?_
  refine lv_aload_n hx hb dJ12_startsWith_9 rfl (lv_at hl 1 rfl) ?_
  refine x_RV (c_J12_length hE hJ h2o h3) X va_S.rf hP (x_rc X hP h2o rfl) (lw_V q972 q654 q655 q83 q656) hdv_J12_length ⟨Nat.le_of_ble_eq_true rfl, Nat.le_of_ble_eq_true rfl⟩ rfl hl.1 rfl (Nat.le_of_ble_eq_true rfl) ⟨Nat.le_refl _, Nat.le_refl _⟩ dJ12_startsWith_10 ?_
  refine lv_isub hx hb dJ12_startsWith_13 ?_
  refine lv_icmp_le (tgt := 19) hx hb dJ12_startsWith_14 (by decide) (fun c2 => ?_) (fun c2 => ?_)
  · have c2 := (nI_leS (by omega) (by omega) (by omega)).mp c2
    refine lv_aload_n hx hb dJ12_startsWith_19 rfl (lv_at hl 0 rfl) ?_
    refine x_get X hP in_J12 h0 rfl 0 (by decide) q705 (fun _ h => h) rfl dJ12_startsWith_20 ?_
    refine lv_astore_n (lv' := [(3, .ref q1), (0, .ref s1), (1, .ref s2), (2, .int (nI fN))]) hx hb dJ12_startsWith_23 rfl hl (by decide) rfl (fun ls hl => ?_)
    refine lv_aload_n hx hb dJ12_startsWith_24 rfl (lv_at hl 2 rfl) ?_
    refine x_get X hP in_J12 h2o rfl 0 (by decide) q705 (fun _ h => h) rfl dJ12_startsWith_25 ?_
    refine lv_astore (lv' := [(4, .ref q2), (3, .ref q1), (0, .ref s1), (1, .ref s2), (2, .int (nI fN))]) hx hb dJ12_startsWith_28 hl (by decide) rfl (fun ls hl => ?_)
    refine lv_iconst (v := nI 0) hx hb dJ12_startsWith_30 (by decide) ?_
    refine lv_istore (lv' := [(5, .int (nI 0)), (4, .ref q2), (3, .ref q1), (0, .ref s1), (1, .ref s2), (2, .int (nI fN))]) hx hb dJ12_startsWith_31 hl (by decide) rfl (fun ls hl => ?_)
    refine lv_aload hx hb dJ12_startsWith_33 (lv_at hl 1 rfl) ?_
    refine x_alen X hP h3 (t0 := 1) rfl dJ12_startsWith_35 ?_
    refine lv_istore (lv' := [(6, .int (nI n2)), (5, .int (nI 0)), (4, .ref q2), (3, .ref q1), (0, .ref s1), (1, .ref s2), (2, .int (nI fN))]) hx hb dJ12_startsWith_36 hl (by decide) rfl (fun ls hl => ?_)
    refine lv_aload_n hx hb dJ12_startsWith_38 rfl (lv_at hl 4 rfl) ?_
    refine x_RV (c_J12_coder hE hJ h0) X va_S.rf hP (x_rc X hP h0 rfl) (lw_V q657 q658 q659 q83 q660) hdv_J12_coder ⟨Nat.le_of_ble_eq_true rfl, Nat.le_of_ble_eq_true rfl⟩ rfl hl.1 rfl (Nat.le_of_ble_eq_true rfl) ⟨Nat.le_refl _, Nat.le_refl _⟩ dJ12_startsWith_39 ?_
    refine lv_istore (lv' := [(7, .int (nI 0)), (6, .int (nI n2)), (5, .int (nI 0)), (4, .ref q2), (3, .ref q1), (0, .ref s1), (1, .ref s2), (2, .int (nI fN))]) hx hb dJ12_startsWith_42 hl (by decide) rfl (fun ls hl => ?_)
    refine lv_iload hx hb dJ12_startsWith_44 (lv_at hl 0 rfl) ?_
    refine lv_aload_n hx hb dJ12_startsWith_46 rfl (lv_at hl 6 rfl) ?_
    refine x_RV (c_J12_coder hE hJ h2o) X va_S.rf hP (x_rc X hP h2o rfl) (lw_V q657 q658 q659 q83 q660) hdv_J12_coder ⟨Nat.le_of_ble_eq_true rfl, Nat.le_of_ble_eq_true rfl⟩ rfl hl.1 rfl (Nat.le_of_ble_eq_true rfl) ⟨Nat.le_refl _, Nat.le_refl _⟩ dJ12_startsWith_47 ?_
    refine n_icmp_ne (tgt := 82) hx hb (by omega) (by omega) dJ12_startsWith_50 (by decide) (fun c3 => absurd rfl c3) (fun c3 => ?_)
    refine lv_iload hx hb dJ12_startsWith_53 (lv_at hl 0 rfl) ?_
    refine lv_iconst (v := nI 1) hx hb dJ12_startsWith_55 (by decide) ?_
    refine n_icmp_ne (tgt := 63) hx hb (by omega) (by omega) dJ12_startsWith_56 (by decide) (fun c4 => ?_) (fun c4 => absurd c4 (by decide))
    refine lv_aload_n hx hb dJ12_startsWith_63 rfl (lv_at hl 4 rfl) ?_
    refine lv_iload_n hx hb dJ12_startsWith_64 rfl (lv_at hl 7 rfl) ?_
    refine lv_aload hx hb dJ12_startsWith_65 (lv_at hl 3 rfl) ?_
    refine lv_iconst (v := nI 0) hx hb dJ12_startsWith_67 (by decide) ?_
    refine lv_iload hx hb dJ12_startsWith_68 (lv_at hl 1 rfl) ?_
    refine x_RS (c_J14_mismatch hE h1 ht hn h3 ht2 hn2 (by omega) c2 (Nat.le_refl _)) X va_S.rf hP (lw_S q973 q974 q85 q975) hds_J14_mismatch ⟨Nat.le_of_ble_eq_true rfl, Nat.le_of_ble_eq_true rfl⟩ rfl hl.1 rfl (Nat.le_of_ble_eq_true rfl) ⟨Nat.le_refl _, Nat.le_refl _⟩ dJ12_startsWith_70 ?_
    have hm := mmI_iff (ta := ta) (tb := tb) (f := fN) n2 0 (by omega)
    refine lv_if_ge (tgt := 80) hx hb dJ12_startsWith_73 (by decide) (fun c5 => ?_) (fun c5 => ?_)
    · refine lv_iconst (v := nI 0) hx hb dJ12_startsWith_80 (by decide) ?_
      exact ret _ _ _ (bI_f (by unfold swB; rw [decide_eq_true c2, Bool.true_and]; cases e : allB n2 (fun k => decide (ta (fN + k) = tb k)) with | false => rfl | true => exact absurd (hm.mpr (fun k h => by rw [Nat.zero_add]; exact of_decide_eq_true (allB_t e h))) (Int32.not_lt.mpr c5))) dJ12_startsWith_81
    · refine lv_iconst (v := nI 1) hx hb dJ12_startsWith_76 (by decide) ?_
      refine lv_goto (tgt := 81) hx hb dJ12_startsWith_77 (by decide) ?_
      exact ret _ _ _ (bI_t (by unfold swB; rw [decide_eq_true c2, Bool.true_and]; exact allB_iff.mpr (fun k h => decide_eq_true (by have := hm.mp (Int32.not_le.mp c5) k h; rw [Nat.zero_add] at this; exact this)))) dJ12_startsWith_81
  · refine lv_iconst (v := nI 0) hx hb dJ12_startsWith_17 (by decide) ?_
    exact ret _ _ _ (bI_f (by unfold swB; rw [decide_eq_false (fun q => c2 ((nI_leS (by omega) (by omega) (by omega)).mpr q))]; rfl)) dJ12_startsWith_18
theorem bcN : ∀ kN, kN < 2 ^ 11 → ((((((((nI kN) - ((((nI kN).toUInt32 >>> ((nI 1).toUInt32 &&& Int32.toUInt32 31)).toInt32) &&& (nI 1431655765))) &&& (nI 858993459)) + (((((nI kN) - ((((nI kN).toUInt32 >>> ((nI 1).toUInt32 &&& Int32.toUInt32 31)).toInt32) &&& (nI 1431655765))).toUInt32 >>> ((nI 2).toUInt32 &&& Int32.toUInt32 31)).toInt32) &&& (nI 858993459))) + ((((((nI kN) - ((((nI kN).toUInt32 >>> ((nI 1).toUInt32 &&& Int32.toUInt32 31)).toInt32) &&& (nI 1431655765))) &&& (nI 858993459)) + (((((nI kN) - ((((nI kN).toUInt32 >>> ((nI 1).toUInt32 &&& Int32.toUInt32 31)).toInt32) &&& (nI 1431655765))).toUInt32 >>> ((nI 2).toUInt32 &&& Int32.toUInt32 31)).toInt32) &&& (nI 858993459))).toUInt32 >>> ((nI 4).toUInt32 &&& Int32.toUInt32 31)).toInt32)) &&& (nI 252645135)) + ((((((((nI kN) - ((((nI kN).toUInt32 >>> ((nI 1).toUInt32 &&& Int32.toUInt32 31)).toInt32) &&& (nI 1431655765))) &&& (nI 858993459)) + (((((nI kN) - ((((nI kN).toUInt32 >>> ((nI 1).toUInt32 &&& Int32.toUInt32 31)).toInt32) &&& (nI 1431655765))).toUInt32 >>> ((nI 2).toUInt32 &&& Int32.toUInt32 31)).toInt32) &&& (nI 858993459))) + ((((((nI kN) - ((((nI kN).toUInt32 >>> ((nI 1).toUInt32 &&& Int32.toUInt32 31)).toInt32) &&& (nI 1431655765))) &&& (nI 858993459)) + (((((nI kN) - ((((nI kN).toUInt32 >>> ((nI 1).toUInt32 &&& Int32.toUInt32 31)).toInt32) &&& (nI 1431655765))).toUInt32 >>> ((nI 2).toUInt32 &&& Int32.toUInt32 31)).toInt32) &&& (nI 858993459))).toUInt32 >>> ((nI 4).toUInt32 &&& Int32.toUInt32 31)).toInt32)) &&& (nI 252645135)).toUInt32 >>> ((nI 8).toUInt32 &&& Int32.toUInt32 31)).toInt32)) + (((((((((nI kN) - ((((nI kN).toUInt32 >>> ((nI 1).toUInt32 &&& Int32.toUInt32 31)).toInt32) &&& (nI 1431655765))) &&& (nI 858993459)) + (((((nI kN) - ((((nI kN).toUInt32 >>> ((nI 1).toUInt32 &&& Int32.toUInt32 31)).toInt32) &&& (nI 1431655765))).toUInt32 >>> ((nI 2).toUInt32 &&& Int32.toUInt32 31)).toInt32) &&& (nI 858993459))) + ((((((nI kN) - ((((nI kN).toUInt32 >>> ((nI 1).toUInt32 &&& Int32.toUInt32 31)).toInt32) &&& (nI 1431655765))) &&& (nI 858993459)) + (((((nI kN) - ((((nI kN).toUInt32 >>> ((nI 1).toUInt32 &&& Int32.toUInt32 31)).toInt32) &&& (nI 1431655765))).toUInt32 >>> ((nI 2).toUInt32 &&& Int32.toUInt32 31)).toInt32) &&& (nI 858993459))).toUInt32 >>> ((nI 4).toUInt32 &&& Int32.toUInt32 31)).toInt32)) &&& (nI 252645135)) + ((((((((nI kN) - ((((nI kN).toUInt32 >>> ((nI 1).toUInt32 &&& Int32.toUInt32 31)).toInt32) &&& (nI 1431655765))) &&& (nI 858993459)) + (((((nI kN) - ((((nI kN).toUInt32 >>> ((nI 1).toUInt32 &&& Int32.toUInt32 31)).toInt32) &&& (nI 1431655765))).toUInt32 >>> ((nI 2).toUInt32 &&& Int32.toUInt32 31)).toInt32) &&& (nI 858993459))) + ((((((nI kN) - ((((nI kN).toUInt32 >>> ((nI 1).toUInt32 &&& Int32.toUInt32 31)).toInt32) &&& (nI 1431655765))) &&& (nI 858993459)) + (((((nI kN) - ((((nI kN).toUInt32 >>> ((nI 1).toUInt32 &&& Int32.toUInt32 31)).toInt32) &&& (nI 1431655765))).toUInt32 >>> ((nI 2).toUInt32 &&& Int32.toUInt32 31)).toInt32) &&& (nI 858993459))).toUInt32 >>> ((nI 4).toUInt32 &&& Int32.toUInt32 31)).toInt32)) &&& (nI 252645135)).toUInt32 >>> ((nI 8).toUInt32 &&& Int32.toUInt32 31)).toInt32)).toUInt32 >>> ((nI 16).toUInt32 &&& Int32.toUInt32 31)).toInt32)) &&& (nI 63) = nI (popF 11 kN) := by decide +kernel
theorem hds_J18_bitCount : yJ18_bitCount.cls ≠ "java/lang/invoke/MethodHandle" ∧ yJ18_bitCount.cls ≠ "java/lang/invoke/VarHandle" ∧ (parseMethodDescriptor yJ18_bitCount.desc).map (fun d => d.parameters.length) = some 1 := by decide +kernel
theorem c_J18_bitCount (hE : EnvOK G E) {kN : Nat} (hk : kN < 2 ^ 11) : RO l G E yJ18_bitCount cJ18_bitCount 1 .int 1 [.int (nI kN)] (fun _ => True) (.int (nI (popF 11 kN))) := by
  refine ROi hE (by decide) (Nat.le_of_ble_eq_true rfl) (fun pR eV sT mI below meth cd QQ ls X hP hl ret => ?_)
  obtain ⟨⟨hx, hb, hml, hown, hts⟩, ⟨hr, hlk⟩, -, -, -⟩ := id X
  have hl : lv_has ls 1 [(0, .int (nI kN))] := hl
  refine lv_iload_n hx hb dJ18_bitCount_0 rfl (lv_at hl 0 rfl) ?_
  refine lv_iload_n hx hb dJ18_bitCount_1 rfl (lv_at hl 0 rfl) ?_
  refine lv_iconst (v := nI 1) hx hb dJ18_bitCount_2 (by decide) ?_
  refine lv_iushr (v := ((nI kN).toUInt32 >>> ((nI 1).toUInt32 &&& Int32.toUInt32 31)).toInt32) hx hb dJ18_bitCount_3 rfl ?_
  refine lv_ldcw (v := nI 1431655765) hx hb hown (hts _ q1135) dJ18_bitCount_4 ?_
  refine lv_iand hx hb dJ18_bitCount_7 ?_
  refine lv_isub hx hb dJ18_bitCount_8 ?_
  refine lv_istore_n (lv' := [(0, .int ((nI kN) - ((((nI kN).toUInt32 >>> ((nI 1).toUInt32 &&& Int32.toUInt32 31)).toInt32) &&& (nI 1431655765))))]) hx hb dJ18_bitCount_9 rfl hl (by decide) rfl (fun ls hl => ?_)
  refine lv_iload_n hx hb dJ18_bitCount_10 rfl (lv_at hl 0 rfl) ?_
  refine lv_ldcw (v := nI 858993459) hx hb hown (hts _ q1136) dJ18_bitCount_11 ?_
  refine lv_iand hx hb dJ18_bitCount_14 ?_
  refine lv_iload_n hx hb dJ18_bitCount_15 rfl (lv_at hl 0 rfl) ?_
  refine lv_iconst (v := nI 2) hx hb dJ18_bitCount_16 (by decide) ?_
  refine lv_iushr (v := (((nI kN) - ((((nI kN).toUInt32 >>> ((nI 1).toUInt32 &&& Int32.toUInt32 31)).toInt32) &&& (nI 1431655765))).toUInt32 >>> ((nI 2).toUInt32 &&& Int32.toUInt32 31)).toInt32) hx hb dJ18_bitCount_17 rfl ?_
  refine lv_ldcw (v := nI 858993459) hx hb hown (hts _ q1136) dJ18_bitCount_18 ?_
  refine lv_iand hx hb dJ18_bitCount_21 ?_
  refine lv_iadd hx hb dJ18_bitCount_22 ?_
  refine lv_istore_n (lv' := [(0, .int ((((nI kN) - ((((nI kN).toUInt32 >>> ((nI 1).toUInt32 &&& Int32.toUInt32 31)).toInt32) &&& (nI 1431655765))) &&& (nI 858993459)) + (((((nI kN) - ((((nI kN).toUInt32 >>> ((nI 1).toUInt32 &&& Int32.toUInt32 31)).toInt32) &&& (nI 1431655765))).toUInt32 >>> ((nI 2).toUInt32 &&& Int32.toUInt32 31)).toInt32) &&& (nI 858993459))))]) hx hb dJ18_bitCount_23 rfl hl (by decide) rfl (fun ls hl => ?_)
  refine lv_iload_n hx hb dJ18_bitCount_24 rfl (lv_at hl 0 rfl) ?_
  refine lv_iload_n hx hb dJ18_bitCount_25 rfl (lv_at hl 0 rfl) ?_
  refine lv_iconst (v := nI 4) hx hb dJ18_bitCount_26 (by decide) ?_
  refine lv_iushr (v := (((((nI kN) - ((((nI kN).toUInt32 >>> ((nI 1).toUInt32 &&& Int32.toUInt32 31)).toInt32) &&& (nI 1431655765))) &&& (nI 858993459)) + (((((nI kN) - ((((nI kN).toUInt32 >>> ((nI 1).toUInt32 &&& Int32.toUInt32 31)).toInt32) &&& (nI 1431655765))).toUInt32 >>> ((nI 2).toUInt32 &&& Int32.toUInt32 31)).toInt32) &&& (nI 858993459))).toUInt32 >>> ((nI 4).toUInt32 &&& Int32.toUInt32 31)).toInt32) hx hb dJ18_bitCount_27 rfl ?_
  refine lv_iadd hx hb dJ18_bitCount_28 ?_
  refine lv_ldcw (v := nI 252645135) hx hb hown (hts _ q1137) dJ18_bitCount_29 ?_
  refine lv_iand hx hb dJ18_bitCount_32 ?_
  refine lv_istore_n (lv' := [(0, .int ((((((nI kN) - ((((nI kN).toUInt32 >>> ((nI 1).toUInt32 &&& Int32.toUInt32 31)).toInt32) &&& (nI 1431655765))) &&& (nI 858993459)) + (((((nI kN) - ((((nI kN).toUInt32 >>> ((nI 1).toUInt32 &&& Int32.toUInt32 31)).toInt32) &&& (nI 1431655765))).toUInt32 >>> ((nI 2).toUInt32 &&& Int32.toUInt32 31)).toInt32) &&& (nI 858993459))) + ((((((nI kN) - ((((nI kN).toUInt32 >>> ((nI 1).toUInt32 &&& Int32.toUInt32 31)).toInt32) &&& (nI 1431655765))) &&& (nI 858993459)) + (((((nI kN) - ((((nI kN).toUInt32 >>> ((nI 1).toUInt32 &&& Int32.toUInt32 31)).toInt32) &&& (nI 1431655765))).toUInt32 >>> ((nI 2).toUInt32 &&& Int32.toUInt32 31)).toInt32) &&& (nI 858993459))).toUInt32 >>> ((nI 4).toUInt32 &&& Int32.toUInt32 31)).toInt32)) &&& (nI 252645135)))]) hx hb dJ18_bitCount_33 rfl hl (by decide) rfl (fun ls hl => ?_)
  refine lv_iload_n hx hb dJ18_bitCount_34 rfl (lv_at hl 0 rfl) ?_
  refine lv_iload_n hx hb dJ18_bitCount_35 rfl (lv_at hl 0 rfl) ?_
  refine lv_bipush (v := nI 8) hx hb dJ18_bitCount_36 (by decide) ?_
  refine lv_iushr (v := (((((((nI kN) - ((((nI kN).toUInt32 >>> ((nI 1).toUInt32 &&& Int32.toUInt32 31)).toInt32) &&& (nI 1431655765))) &&& (nI 858993459)) + (((((nI kN) - ((((nI kN).toUInt32 >>> ((nI 1).toUInt32 &&& Int32.toUInt32 31)).toInt32) &&& (nI 1431655765))).toUInt32 >>> ((nI 2).toUInt32 &&& Int32.toUInt32 31)).toInt32) &&& (nI 858993459))) + ((((((nI kN) - ((((nI kN).toUInt32 >>> ((nI 1).toUInt32 &&& Int32.toUInt32 31)).toInt32) &&& (nI 1431655765))) &&& (nI 858993459)) + (((((nI kN) - ((((nI kN).toUInt32 >>> ((nI 1).toUInt32 &&& Int32.toUInt32 31)).toInt32) &&& (nI 1431655765))).toUInt32 >>> ((nI 2).toUInt32 &&& Int32.toUInt32 31)).toInt32) &&& (nI 858993459))).toUInt32 >>> ((nI 4).toUInt32 &&& Int32.toUInt32 31)).toInt32)) &&& (nI 252645135)).toUInt32 >>> ((nI 8).toUInt32 &&& Int32.toUInt32 31)).toInt32) hx hb dJ18_bitCount_38 rfl ?_
  refine lv_iadd hx hb dJ18_bitCount_39 ?_
  refine lv_istore_n (lv' := [(0, .int (((((((nI kN) - ((((nI kN).toUInt32 >>> ((nI 1).toUInt32 &&& Int32.toUInt32 31)).toInt32) &&& (nI 1431655765))) &&& (nI 858993459)) + (((((nI kN) - ((((nI kN).toUInt32 >>> ((nI 1).toUInt32 &&& Int32.toUInt32 31)).toInt32) &&& (nI 1431655765))).toUInt32 >>> ((nI 2).toUInt32 &&& Int32.toUInt32 31)).toInt32) &&& (nI 858993459))) + ((((((nI kN) - ((((nI kN).toUInt32 >>> ((nI 1).toUInt32 &&& Int32.toUInt32 31)).toInt32) &&& (nI 1431655765))) &&& (nI 858993459)) + (((((nI kN) - ((((nI kN).toUInt32 >>> ((nI 1).toUInt32 &&& Int32.toUInt32 31)).toInt32) &&& (nI 1431655765))).toUInt32 >>> ((nI 2).toUInt32 &&& Int32.toUInt32 31)).toInt32) &&& (nI 858993459))).toUInt32 >>> ((nI 4).toUInt32 &&& Int32.toUInt32 31)).toInt32)) &&& (nI 252645135)) + ((((((((nI kN) - ((((nI kN).toUInt32 >>> ((nI 1).toUInt32 &&& Int32.toUInt32 31)).toInt32) &&& (nI 1431655765))) &&& (nI 858993459)) + (((((nI kN) - ((((nI kN).toUInt32 >>> ((nI 1).toUInt32 &&& Int32.toUInt32 31)).toInt32) &&& (nI 1431655765))).toUInt32 >>> ((nI 2).toUInt32 &&& Int32.toUInt32 31)).toInt32) &&& (nI 858993459))) + ((((((nI kN) - ((((nI kN).toUInt32 >>> ((nI 1).toUInt32 &&& Int32.toUInt32 31)).toInt32) &&& (nI 1431655765))) &&& (nI 858993459)) + (((((nI kN) - ((((nI kN).toUInt32 >>> ((nI 1).toUInt32 &&& Int32.toUInt32 31)).toInt32) &&& (nI 1431655765))).toUInt32 >>> ((nI 2).toUInt32 &&& Int32.toUInt32 31)).toInt32) &&& (nI 858993459))).toUInt32 >>> ((nI 4).toUInt32 &&& Int32.toUInt32 31)).toInt32)) &&& (nI 252645135)).toUInt32 >>> ((nI 8).toUInt32 &&& Int32.toUInt32 31)).toInt32)))]) hx hb dJ18_bitCount_40 rfl hl (by decide) rfl (fun ls hl => ?_)
  refine lv_iload_n hx hb dJ18_bitCount_41 rfl (lv_at hl 0 rfl) ?_
  refine lv_iload_n hx hb dJ18_bitCount_42 rfl (lv_at hl 0 rfl) ?_
  refine lv_bipush (v := nI 16) hx hb dJ18_bitCount_43 (by decide) ?_
  refine lv_iushr (v := ((((((((nI kN) - ((((nI kN).toUInt32 >>> ((nI 1).toUInt32 &&& Int32.toUInt32 31)).toInt32) &&& (nI 1431655765))) &&& (nI 858993459)) + (((((nI kN) - ((((nI kN).toUInt32 >>> ((nI 1).toUInt32 &&& Int32.toUInt32 31)).toInt32) &&& (nI 1431655765))).toUInt32 >>> ((nI 2).toUInt32 &&& Int32.toUInt32 31)).toInt32) &&& (nI 858993459))) + ((((((nI kN) - ((((nI kN).toUInt32 >>> ((nI 1).toUInt32 &&& Int32.toUInt32 31)).toInt32) &&& (nI 1431655765))) &&& (nI 858993459)) + (((((nI kN) - ((((nI kN).toUInt32 >>> ((nI 1).toUInt32 &&& Int32.toUInt32 31)).toInt32) &&& (nI 1431655765))).toUInt32 >>> ((nI 2).toUInt32 &&& Int32.toUInt32 31)).toInt32) &&& (nI 858993459))).toUInt32 >>> ((nI 4).toUInt32 &&& Int32.toUInt32 31)).toInt32)) &&& (nI 252645135)) + ((((((((nI kN) - ((((nI kN).toUInt32 >>> ((nI 1).toUInt32 &&& Int32.toUInt32 31)).toInt32) &&& (nI 1431655765))) &&& (nI 858993459)) + (((((nI kN) - ((((nI kN).toUInt32 >>> ((nI 1).toUInt32 &&& Int32.toUInt32 31)).toInt32) &&& (nI 1431655765))).toUInt32 >>> ((nI 2).toUInt32 &&& Int32.toUInt32 31)).toInt32) &&& (nI 858993459))) + ((((((nI kN) - ((((nI kN).toUInt32 >>> ((nI 1).toUInt32 &&& Int32.toUInt32 31)).toInt32) &&& (nI 1431655765))) &&& (nI 858993459)) + (((((nI kN) - ((((nI kN).toUInt32 >>> ((nI 1).toUInt32 &&& Int32.toUInt32 31)).toInt32) &&& (nI 1431655765))).toUInt32 >>> ((nI 2).toUInt32 &&& Int32.toUInt32 31)).toInt32) &&& (nI 858993459))).toUInt32 >>> ((nI 4).toUInt32 &&& Int32.toUInt32 31)).toInt32)) &&& (nI 252645135)).toUInt32 >>> ((nI 8).toUInt32 &&& Int32.toUInt32 31)).toInt32)).toUInt32 >>> ((nI 16).toUInt32 &&& Int32.toUInt32 31)).toInt32) hx hb dJ18_bitCount_45 rfl ?_
  refine lv_iadd hx hb dJ18_bitCount_46 ?_
  refine lv_istore_n (lv' := [(0, .int ((((((((nI kN) - ((((nI kN).toUInt32 >>> ((nI 1).toUInt32 &&& Int32.toUInt32 31)).toInt32) &&& (nI 1431655765))) &&& (nI 858993459)) + (((((nI kN) - ((((nI kN).toUInt32 >>> ((nI 1).toUInt32 &&& Int32.toUInt32 31)).toInt32) &&& (nI 1431655765))).toUInt32 >>> ((nI 2).toUInt32 &&& Int32.toUInt32 31)).toInt32) &&& (nI 858993459))) + ((((((nI kN) - ((((nI kN).toUInt32 >>> ((nI 1).toUInt32 &&& Int32.toUInt32 31)).toInt32) &&& (nI 1431655765))) &&& (nI 858993459)) + (((((nI kN) - ((((nI kN).toUInt32 >>> ((nI 1).toUInt32 &&& Int32.toUInt32 31)).toInt32) &&& (nI 1431655765))).toUInt32 >>> ((nI 2).toUInt32 &&& Int32.toUInt32 31)).toInt32) &&& (nI 858993459))).toUInt32 >>> ((nI 4).toUInt32 &&& Int32.toUInt32 31)).toInt32)) &&& (nI 252645135)) + ((((((((nI kN) - ((((nI kN).toUInt32 >>> ((nI 1).toUInt32 &&& Int32.toUInt32 31)).toInt32) &&& (nI 1431655765))) &&& (nI 858993459)) + (((((nI kN) - ((((nI kN).toUInt32 >>> ((nI 1).toUInt32 &&& Int32.toUInt32 31)).toInt32) &&& (nI 1431655765))).toUInt32 >>> ((nI 2).toUInt32 &&& Int32.toUInt32 31)).toInt32) &&& (nI 858993459))) + ((((((nI kN) - ((((nI kN).toUInt32 >>> ((nI 1).toUInt32 &&& Int32.toUInt32 31)).toInt32) &&& (nI 1431655765))) &&& (nI 858993459)) + (((((nI kN) - ((((nI kN).toUInt32 >>> ((nI 1).toUInt32 &&& Int32.toUInt32 31)).toInt32) &&& (nI 1431655765))).toUInt32 >>> ((nI 2).toUInt32 &&& Int32.toUInt32 31)).toInt32) &&& (nI 858993459))).toUInt32 >>> ((nI 4).toUInt32 &&& Int32.toUInt32 31)).toInt32)) &&& (nI 252645135)).toUInt32 >>> ((nI 8).toUInt32 &&& Int32.toUInt32 31)).toInt32)) + (((((((((nI kN) - ((((nI kN).toUInt32 >>> ((nI 1).toUInt32 &&& Int32.toUInt32 31)).toInt32) &&& (nI 1431655765))) &&& (nI 858993459)) + (((((nI kN) - ((((nI kN).toUInt32 >>> ((nI 1).toUInt32 &&& Int32.toUInt32 31)).toInt32) &&& (nI 1431655765))).toUInt32 >>> ((nI 2).toUInt32 &&& Int32.toUInt32 31)).toInt32) &&& (nI 858993459))) + ((((((nI kN) - ((((nI kN).toUInt32 >>> ((nI 1).toUInt32 &&& Int32.toUInt32 31)).toInt32) &&& (nI 1431655765))) &&& (nI 858993459)) + (((((nI kN) - ((((nI kN).toUInt32 >>> ((nI 1).toUInt32 &&& Int32.toUInt32 31)).toInt32) &&& (nI 1431655765))).toUInt32 >>> ((nI 2).toUInt32 &&& Int32.toUInt32 31)).toInt32) &&& (nI 858993459))).toUInt32 >>> ((nI 4).toUInt32 &&& Int32.toUInt32 31)).toInt32)) &&& (nI 252645135)) + ((((((((nI kN) - ((((nI kN).toUInt32 >>> ((nI 1).toUInt32 &&& Int32.toUInt32 31)).toInt32) &&& (nI 1431655765))) &&& (nI 858993459)) + (((((nI kN) - ((((nI kN).toUInt32 >>> ((nI 1).toUInt32 &&& Int32.toUInt32 31)).toInt32) &&& (nI 1431655765))).toUInt32 >>> ((nI 2).toUInt32 &&& Int32.toUInt32 31)).toInt32) &&& (nI 858993459))) + ((((((nI kN) - ((((nI kN).toUInt32 >>> ((nI 1).toUInt32 &&& Int32.toUInt32 31)).toInt32) &&& (nI 1431655765))) &&& (nI 858993459)) + (((((nI kN) - ((((nI kN).toUInt32 >>> ((nI 1).toUInt32 &&& Int32.toUInt32 31)).toInt32) &&& (nI 1431655765))).toUInt32 >>> ((nI 2).toUInt32 &&& Int32.toUInt32 31)).toInt32) &&& (nI 858993459))).toUInt32 >>> ((nI 4).toUInt32 &&& Int32.toUInt32 31)).toInt32)) &&& (nI 252645135)).toUInt32 >>> ((nI 8).toUInt32 &&& Int32.toUInt32 31)).toInt32)).toUInt32 >>> ((nI 16).toUInt32 &&& Int32.toUInt32 31)).toInt32)))]) hx hb dJ18_bitCount_47 rfl hl (by decide) rfl (fun ls hl => ?_)
  refine lv_iload_n hx hb dJ18_bitCount_48 rfl (lv_at hl 0 rfl) ?_
  refine lv_bipush (v := nI 63) hx hb dJ18_bitCount_49 (by decide) ?_
  refine lv_iand hx hb dJ18_bitCount_51 ?_
  exact ret _ _ _ (bcN _ hk) dJ18_bitCount_52
end C2
