/-! MODEL, methods 2: what fits -/
section
variable {l : Launch} {G : GG} {E : State → Prop} {a : Nat → Nat} {x4 x5 x7 x8 x11 x15 : Int32} {f1 f2 f3 f4 f5 f6 f7 f8 f9 f10 f11 : Nat → Int32} {h : Int64} {wr : va_W}
def idB (x : Int32) (n : Nat) : Bool := decide (nI 0 ≤ x) && decide (x ≤ nI n - nI 1)
theorem idB_iff {x : Int32} {n : Nat} (hn : n < 2 ^ 31) : idB x n = true ↔ ∃ j, j < n ∧ x = nI j := by
  unfold idB
  rw [Bool.and_eq_true, decide_eq_true_eq, decide_eq_true_eq]
  constructor
  · rintro ⟨h1, h2⟩
    obtain ⟨j, hj, rfl⟩ := nI_of (Int32.not_lt.mpr h1)
    refine ⟨j, ?_, rfl⟩
    cases n with
    | zero => exact absurd (Int32.le_trans h1 h2) (by decide)
    | succ n =>
      rw [show nI (n + 1) - nI 1 = nI n from nI_pred n] at h2
      have := (nI_leI hj (by omega)).mp h2
      omega
  · rintro ⟨j, hj, rfl⟩
    refine ⟨(nI_leI (by omega) (by omega)).mpr (Nat.zero_le _), ?_⟩
    cases n with
    | zero => exact absurd hj (Nat.not_lt_zero _)
    | succ n =>
      rw [show nI (n + 1) - nI 1 = nI n from nI_pred n]
      exact (nI_leI (by omega) (by omega)).mpr (by omega)
theorem hdv_X6_isStamp : yX6_isStamp.cls = RX6 ∧ yX6_isStamp.cls ≠ "java/lang/invoke/MethodHandle" ∧ yX6_isStamp.cls ≠ "java/lang/invoke/VarHandle" ∧ (parseMethodDescriptor yX6_isStamp.desc).map (fun d => d.parameters.length) = some 1 := by decide +kernel
theorem c_X6_isStamp (hE : EnvOK G E) {x : Int32} (hR : ROk f1) : RO l G E yX6_isStamp cX6_isStamp 2 .boolean 2 [.ref (a 0), .int x] (va_P G.1 cls (mw G a x4 x5 x7 x8 x11 x15 f1 f2 f3 f4 f5 f6 f7 f8 f9 f10 f11 h)) (.int (bI (idB x (nS f1)))) := by
  refine ROz hE (by decide) (Nat.le_of_ble_eq_true rfl) (bI_nar _) (fun pR eV sT mI below meth cd QQ ls X hP hl ret => ?_)
  obtain ⟨⟨hx, hb, hml, hown, hts⟩, ⟨hr, hlk⟩, -, -, -⟩ := id X
  have hl : lv_has ls 2 [(0, .ref (a 0)), (1, .int x)] := hl
  refine lv_iload_n hx hb dX6_isStamp_0 rfl (lv_at hl 1 rfl) ?_
  refine lv_iconst (v := nI 0) hx hb dX6_isStamp_1 (by decide) ?_
  refine lv_aload_n hx hb dX6_isStamp_2 rfl (lv_at hl 0 rfl) ?_
  refine m_g0 X hP dX6_isStamp_3 ?_
  refine lv_iconst (v := nI 0) hx hb dX6_isStamp_6 (by decide) ?_
  refine m_ld1 X hP (by omega) dX6_isStamp_7 ?_
  refine lv_iconst (v := nI 1) hx hb dX6_isStamp_8 (by decide) ?_
  refine lv_isub hx hb dX6_isStamp_9 ?_
  refine m_S (c_X6_in hE) X va_S.rf (lw_S q1528 q1529 q72 q1530) hds_X6_in ⟨Nat.le_of_ble_eq_true rfl, Nat.le_of_ble_eq_true rfl⟩ ⟨Nat.le_refl _, Nat.le_refl _⟩ rfl hl.1 rfl (Nat.le_of_ble_eq_true rfl) dX6_isStamp_10 ?_
  exact ret _ _ _ (by rw [hR.s0]; rfl) dX6_isStamp_13
theorem hdv_X6_isWord : yX6_isWord.cls = RX6 ∧ yX6_isWord.cls ≠ "java/lang/invoke/MethodHandle" ∧ yX6_isWord.cls ≠ "java/lang/invoke/VarHandle" ∧ (parseMethodDescriptor yX6_isWord.desc).map (fun d => d.parameters.length) = some 1 := by decide +kernel
theorem c_X6_isWord (hE : EnvOK G E) {x : Int32} (hR : ROk f1) : RO l G E yX6_isWord cX6_isWord 2 .boolean 2 [.ref (a 0), .int x] (va_P G.1 cls (mw G a x4 x5 x7 x8 x11 x15 f1 f2 f3 f4 f5 f6 f7 f8 f9 f10 f11 h)) (.int (bI (idB x (nW f1)))) := by
  refine ROz hE (by decide) (Nat.le_of_ble_eq_true rfl) (bI_nar _) (fun pR eV sT mI below meth cd QQ ls X hP hl ret => ?_)
  obtain ⟨⟨hx, hb, hml, hown, hts⟩, ⟨hr, hlk⟩, -, -, -⟩ := id X
  have hl : lv_has ls 2 [(0, .ref (a 0)), (1, .int x)] := hl
  refine lv_iload_n hx hb dX6_isWord_0 rfl (lv_at hl 1 rfl) ?_
  refine lv_iconst (v := nI 0) hx hb dX6_isWord_1 (by decide) ?_
  refine lv_aload_n hx hb dX6_isWord_2 rfl (lv_at hl 0 rfl) ?_
  refine m_g0 X hP dX6_isWord_3 ?_
  refine lv_iconst (v := nI 1) hx hb dX6_isWord_6 (by decide) ?_
  refine m_ld1 X hP (by omega) dX6_isWord_7 ?_
  refine lv_iconst (v := nI 1) hx hb dX6_isWord_8 (by decide) ?_
  refine lv_isub hx hb dX6_isWord_9 ?_
  refine m_S (c_X6_in hE) X va_S.rf (lw_S q1528 q1529 q72 q1530) hds_X6_in ⟨Nat.le_of_ble_eq_true rfl, Nat.le_of_ble_eq_true rfl⟩ ⟨Nat.le_refl _, Nat.le_refl _⟩ rfl hl.1 rfl (Nat.le_of_ble_eq_true rfl) dX6_isWord_10 ?_
  exact ret _ _ _ (by rw [hR.w0]; rfl) dX6_isWord_13
theorem hdv_X6_canTurn : yX6_canTurn.cls = RX6 ∧ yX6_canTurn.cls ≠ "java/lang/invoke/MethodHandle" ∧ yX6_canTurn.cls ≠ "java/lang/invoke/VarHandle" ∧ (parseMethodDescriptor yX6_canTurn.desc).map (fun d => d.parameters.length) = some 1 := by decide +kernel
theorem c_X6_canTurn (hE : EnvOK G E) {sN : Nat} (hR : ROk f1) (hs : sN < nS f1) : RO l G E yX6_canTurn cX6_canTurn 4 .boolean 2 [.ref (a 0), .int (nI sN)] (va_P G.1 cls (mw G a x4 x5 x7 x8 x11 x15 f1 f2 f3 f4 f5 f6 f7 f8 f9 f10 f11 h)) (.int (bI (canT f1 sN))) := by
  refine ROz hE (by decide) (Nat.le_of_ble_eq_true rfl) (bI_nar _) (fun pR eV sT mI below meth cd QQ ls X hP hl ret => ?_)
  obtain ⟨⟨hx, hb, hml, hown, hts⟩, ⟨hr, hlk⟩, -, -, -⟩ := id X
  have hl : lv_has ls 4 [(0, .ref (a 0)), (1, .int (nI sN))] := hl
  have hs9 : sN < 10 := by have := hR.s1; omega
  have hL := hR.sl1 hs
  refine lv_iconst (v := nI 1) hx hb dX6_canTurn_0 (by decide) ?_
  refine lv_istore_n (lv' := [(2, .int (nI 1)), (0, .ref (a 0)), (1, .int (nI sN))]) hx hb dX6_canTurn_1 rfl hl (by decide) rfl (fun ls hl => ?_)
  refine lv_iconst (v := nI 0) hx hb dX6_canTurn_2 (by decide) ?_
  refine lv_istore_n (lv' := [(3, .int (nI 0)), (2, .int (nI 1)), (0, .ref (a 0)), (1, .int (nI sN))]) hx hb dX6_canTurn_3 rfl hl (by decide) rfl (fun ls hl => ?_)
  have hl : lv_has ls 4 [(3, .int (nI 0)), (2, .int (bI (allB 0 (fun k => decide (tlN (sC f1 sN k) ≠ -1))))), (0, .ref (a 0)), (1, .int (nI sN))] := by rw [← (show (nI 1 : Int32) = bI (allB 0 (fun k => decide (tlN (sC f1 sN k) ≠ -1))) from rfl)]; exact hl
  have lp : ∀ (fu : Nat) (kN : Nat), kN ≤ sL f1 sN → sL f1 sN - kN < fu → ∀ ls : Array Slot, lv_has ls 4 [(0, .ref (a 0)), (1, .int (nI sN)), (2, .int (bI (allB kN (fun k => decide (tlN (sC f1 sN k) ≠ -1))))), (3, .int (nI kN))] → W pR l eV (Rm 2 0 0) sT mI ([.ref (a 0), .int (nI sN)] : List Value).toArray below meth cd sT.heap [] 0 0 QQ (F0 mI 4 ls []) := by
    intro fu
    induction fu with
    | zero => intro kN hk hm; exact absurd hm (Nat.not_lt_zero _)
    | succ fu ih_lp =>
      intro kN hk hm  ls hl
      refine lv_iload_n hx hb dX6_canTurn_4 rfl (lv_at hl 3 rfl) ?_
      refine lv_aload_n hx hb dX6_canTurn_5 rfl (lv_at hl 0 rfl) ?_
      refine m_g0 X hP dX6_canTurn_6 ?_
      refine lv_iload_n hx hb dX6_canTurn_9 rfl (lv_at hl 1 rfl) ?_
      refine m_S (c_X6_stampAt hE) X va_S.rf (lw_S q1551 q1552 q72 q1553) hds_X6_stampAt ⟨Nat.le_of_ble_eq_true rfl, Nat.le_of_ble_eq_true rfl⟩ ⟨Nat.le_refl _, Nat.le_refl _⟩ rfl hl.1 rfl (Nat.le_of_ble_eq_true rfl) dX6_canTurn_10 ?_
      refine m_ld1 X hP (by omega) dX6_canTurn_13 ?_
      refine n_top (y := nI (sL f1 sN)) (hR.sl hs) ?_
      refine n_icmp_ge (tgt := 53) hx hb (by omega) (by omega) dX6_canTurn_14 (by decide) (fun c1 => ?_) (fun c1 => ?_)
      · refine lv_iload_n hx hb dX6_canTurn_53 rfl (lv_at hl 2 rfl) ?_
        exact ret _ _ _ (by rw [show kN = sL f1 sN by omega]; rfl) dX6_canTurn_54
      · refine lv_iload_n hx hb dX6_canTurn_17 rfl (lv_at hl 2 rfl) ?_
        refine b_if_eq (tgt := 45) hx hb dX6_canTurn_18 (by decide) (fun c2 => ?_) (fun c2 => ?_)
        · refine lv_iconst (v := nI 0) hx hb dX6_canTurn_45 (by decide) ?_
          refine n_top (y := bI (allB (kN + 1) (fun k => decide (tlN (sC f1 sN k) ≠ -1)))) (bI_f (by simp only [allB, c2, Bool.false_and])) ?_
          refine lv_istore_n (lv' := [(2, .int (bI (allB (kN + 1) (fun k => decide (tlN (sC f1 sN k) ≠ -1))))), (0, .ref (a 0)), (1, .int (nI sN)), (3, .int (nI kN))]) hx hb dX6_canTurn_46 rfl hl (by decide) rfl (fun ls hl => ?_)
          refine lv_iinc (v := nI (kN + 1)) (lv' := [(3, .int (nI (kN + 1))), (2, .int (bI (allB (kN + 1) (fun k => decide (tlN (sC f1 sN k) ≠ -1))))), (0, .ref (a 0)), (1, .int (nI sN))]) hx hb dX6_canTurn_47 hl (k := 3) rfl (nI_add _ 1) (by decide) rfl (fun ls hl => ?_)
          refine lv_goto (tgt := 4) hx hb dX6_canTurn_50 (by decide) ?_
          exact ih_lp (kN + 1)  (by omega) (by omega) ls (lv_sub hl [2, 3, 1, 0] rfl)
        · refine lv_aload_n hx hb dX6_canTurn_21 rfl (lv_at hl 0 rfl) ?_
          refine m_g0 X hP dX6_canTurn_22 ?_
          refine lv_iload_n hx hb dX6_canTurn_25 rfl (lv_at hl 1 rfl) ?_
          refine m_S (c_X6_stampAt hE) X va_S.rf (lw_S q1551 q1552 q72 q1553) hds_X6_stampAt ⟨Nat.le_of_ble_eq_true rfl, Nat.le_of_ble_eq_true rfl⟩ ⟨Nat.le_refl _, Nat.le_refl _⟩ rfl hl.1 rfl (Nat.le_of_ble_eq_true rfl) dX6_canTurn_26 ?_
          refine lv_iconst (v := nI 1) hx hb dX6_canTurn_29 (by decide) ?_
          refine n_iadd hx hb dX6_canTurn_30 ?_
          refine lv_iload_n hx hb dX6_canTurn_31 rfl (lv_at hl 3 rfl) ?_
          refine n_iadd hx hb dX6_canTurn_32 ?_
          refine m_ld1 X hP (by omega) dX6_canTurn_33 ?_
          refine n_top (y := nI (sC f1 sN kN)) (hR.sc hs c1) ?_
          refine m_S (c_X6_turned hE (hR.sc1 hs c1)) X va_S.rf (lw_S q1649 q1650 q72 q1651) hds_X6_turned ⟨Nat.le_of_ble_eq_true rfl, Nat.le_of_ble_eq_true rfl⟩ ⟨Nat.le_refl _, Nat.le_refl _⟩ rfl hl.1 rfl (Nat.le_of_ble_eq_true rfl) dX6_canTurn_34 ?_
          refine lv_iconst (v := (-1)) hx hb dX6_canTurn_37 (by decide) ?_
          refine lv_icmp_eq (tgt := 45) hx hb dX6_canTurn_38 (by decide) (fun c3 => ?_) (fun c3 => ?_)
          · refine lv_iconst (v := nI 0) hx hb dX6_canTurn_45 (by decide) ?_
            refine n_top (y := bI (allB (kN + 1) (fun k => decide (tlN (sC f1 sN k) ≠ -1)))) (bI_f (by simp only [allB, c2, c3, Bool.true_and, ne_eq, not_true_eq_false, decide_false])) ?_
            refine lv_istore_n (lv' := [(2, .int (bI (allB (kN + 1) (fun k => decide (tlN (sC f1 sN k) ≠ -1))))), (0, .ref (a 0)), (1, .int (nI sN)), (3, .int (nI kN))]) hx hb dX6_canTurn_46 rfl hl (by decide) rfl (fun ls hl => ?_)
            refine lv_iinc (v := nI (kN + 1)) (lv' := [(3, .int (nI (kN + 1))), (2, .int (bI (allB (kN + 1) (fun k => decide (tlN (sC f1 sN k) ≠ -1))))), (0, .ref (a 0)), (1, .int (nI sN))]) hx hb dX6_canTurn_47 hl (k := 3) rfl (nI_add _ 1) (by decide) rfl (fun ls hl => ?_)
            refine lv_goto (tgt := 4) hx hb dX6_canTurn_50 (by decide) ?_
            exact ih_lp (kN + 1)  (by omega) (by omega) ls (lv_sub hl [2, 3, 1, 0] rfl)
          · refine lv_iconst (v := nI 1) hx hb dX6_canTurn_41 (by decide) ?_
            refine lv_goto (tgt := 46) hx hb dX6_canTurn_42 (by decide) ?_
            refine n_top (y := bI (allB (kN + 1) (fun k => decide (tlN (sC f1 sN k) ≠ -1)))) (bI_t (by simp only [allB, c2, Bool.true_and, decide_eq_true_eq]; exact c3)) ?_
            refine lv_istore_n (lv' := [(2, .int (bI (allB (kN + 1) (fun k => decide (tlN (sC f1 sN k) ≠ -1))))), (0, .ref (a 0)), (1, .int (nI sN)), (3, .int (nI kN))]) hx hb dX6_canTurn_46 rfl hl (by decide) rfl (fun ls hl => ?_)
            refine lv_iinc (v := nI (kN + 1)) (lv' := [(3, .int (nI (kN + 1))), (2, .int (bI (allB (kN + 1) (fun k => decide (tlN (sC f1 sN k) ≠ -1))))), (0, .ref (a 0)), (1, .int (nI sN))]) hx hb dX6_canTurn_47 hl (k := 3) rfl (nI_add _ 1) (by decide) rfl (fun ls hl => ?_)
            refine lv_goto (tgt := 4) hx hb dX6_canTurn_50 (by decide) ?_
            exact ih_lp (kN + 1)  (by omega) (by omega) ls (lv_sub hl [2, 3, 1, 0] rfl)
  exact lp _ 0  (Nat.zero_le _) (Nat.lt_succ_self _) ls (lv_sub hl [2, 3, 1, 0] rfl)
theorem hdv_X6_printed : yX6_printed.cls = RX6 ∧ yX6_printed.cls ≠ "java/lang/invoke/MethodHandle" ∧ yX6_printed.cls ≠ "java/lang/invoke/VarHandle" ∧ (parseMethodDescriptor yX6_printed.desc).map (fun d => d.parameters.length) = some 3 := by decide +kernel
theorem c_X6_printed (hE : EnvOK G E) {sN kN : Nat} {tB : Bool} (hR : ROk f1) (hs : sN < nS f1) (hk : kN < sL f1 sN) : RO l G E yX6_printed cX6_printed 5 .int 2 [.ref (a 0), .int (nI sN), .int (nI kN), .int (bI tB)] (va_P G.1 cls (mw G a x4 x5 x7 x8 x11 x15 f1 f2 f3 f4 f5 f6 f7 f8 f9 f10 f11 h)) (.int (pC f1 sN kN tB)) := by
  refine ROi hE (by decide) (Nat.le_of_ble_eq_true rfl) (fun pR eV sT mI below meth cd QQ ls X hP hl ret => ?_)
  obtain ⟨⟨hx, hb, hml, hown, hts⟩, ⟨hr, hlk⟩, -, -, -⟩ := id X
  have hl : lv_has ls 5 [(0, .ref (a 0)), (1, .int (nI sN)), (2, .int (nI kN)), (3, .int (bI tB))] := hl
  have hs9 : sN < 10 := by have := hR.s1; omega
  have hL := hR.sl1 hs
  refine lv_iload_n hx hb dX6_printed_0 rfl (lv_at hl 1 rfl) ?_
  refine m_S (c_X6_stampAt hE) X va_S.rf (lw_S q1551 q1552 q72 q1553) hds_X6_stampAt ⟨Nat.le_of_ble_eq_true rfl, Nat.le_of_ble_eq_true rfl⟩ ⟨Nat.le_refl _, Nat.le_refl _⟩ rfl hl.1 rfl (Nat.le_of_ble_eq_true rfl) dX6_printed_1 ?_
  refine lv_istore (lv' := [(4, .int (nI (7 + 9 * sN))), (0, .ref (a 0)), (1, .int (nI sN)), (2, .int (nI kN)), (3, .int (bI tB))]) hx hb dX6_printed_4 hl (by decide) rfl (fun ls hl => ?_)
  refine lv_iload_n hx hb dX6_printed_6 rfl (lv_at hl 4 rfl) ?_
  refine b_if_eq (tgt := 33) hx hb dX6_printed_7 (by decide) (fun c1 => ?_) (fun c1 => ?_)
  · refine lv_aload_n hx hb dX6_printed_33 rfl (lv_at hl 1 rfl) ?_
    refine m_g0 X hP dX6_printed_34 ?_
    refine lv_iload hx hb dX6_printed_37 (lv_at hl 0 rfl) ?_
    refine lv_iconst (v := nI 1) hx hb dX6_printed_39 (by decide) ?_
    refine n_iadd hx hb dX6_printed_40 ?_
    refine lv_iload_n hx hb dX6_printed_41 rfl (lv_at hl 3 rfl) ?_
    refine n_iadd hx hb dX6_printed_42 ?_
    refine m_ld1 X hP (by omega) dX6_printed_43 ?_
    exact ret _ _ _ (by rw [c1]; rfl) dX6_printed_44
  · refine lv_aload_n hx hb dX6_printed_10 rfl (lv_at hl 1 rfl) ?_
    refine m_g0 X hP dX6_printed_11 ?_
    refine lv_iload hx hb dX6_printed_14 (lv_at hl 0 rfl) ?_
    refine lv_aload_n hx hb dX6_printed_16 rfl (lv_at hl 1 rfl) ?_
    refine m_g0 X hP dX6_printed_17 ?_
    refine lv_iload hx hb dX6_printed_20 (lv_at hl 0 rfl) ?_
    refine m_ld1 X hP (by omega) dX6_printed_22 ?_
    refine n_top (y := nI (sL f1 sN)) (hR.sl hs) ?_
    refine n_iadd hx hb dX6_printed_23 ?_
    refine lv_iload_n hx hb dX6_printed_24 rfl (lv_at hl 3 rfl) ?_
    refine n_isub hx hb (by omega) dX6_printed_25 ?_
    refine m_ld1 X hP (by omega) dX6_printed_26 ?_
    refine n_top (y := nI (sC f1 sN (sL f1 sN - 1 - kN))) (by rw [show 7 + 9 * sN + sL f1 sN - kN = 7 + 9 * sN + 1 + (sL f1 sN - 1 - kN) by omega]; exact hR.sc hs (by omega)) ?_
    refine m_S (c_X6_turned hE (hR.sc1 hs (by omega))) X va_S.rf (lw_S q1649 q1650 q72 q1651) hds_X6_turned ⟨Nat.le_of_ble_eq_true rfl, Nat.le_of_ble_eq_true rfl⟩ ⟨Nat.le_refl _, Nat.le_refl _⟩ rfl hl.1 rfl (Nat.le_of_ble_eq_true rfl) dX6_printed_27 ?_
    refine lv_goto (tgt := 44) hx hb dX6_printed_30 (by decide) ?_
    exact ret _ _ _ (by rw [c1]; rfl) dX6_printed_44
theorem hdv_X6_counts : yX6_counts.cls = RX6 ∧ yX6_counts.cls ≠ "java/lang/invoke/MethodHandle" ∧ yX6_counts.cls ≠ "java/lang/invoke/VarHandle" ∧ (parseMethodDescriptor yX6_counts.desc).map (fun d => d.parameters.length) = some 1 := by decide +kernel
theorem c_X6_counts (hE : EnvOK G E) {sN : Nat} (hR : ROk f1) (hs : sN < nS f1) : RO l G E yX6_counts cX6_counts 4 .boolean 3 [.ref (a 0), .int (nI sN)] (va_P G.1 cls (mw G a x4 x5 x7 x8 x11 x15 f1 f2 f3 f4 f5 f6 f7 f8 f9 f10 f11 h)) (.int (bI (cntB f1 sN))) := by
  refine ROz hE (by decide) (Nat.le_of_ble_eq_true rfl) (bI_nar _) (fun pR eV sT mI below meth cd QQ ls X hP hl ret => ?_)
  obtain ⟨⟨hx, hb, hml, hown, hts⟩, ⟨hr, hlk⟩, -, -, -⟩ := id X
  have hl : lv_has ls 4 [(0, .ref (a 0)), (1, .int (nI sN))] := hl
  have hs9 : sN < 10 := by have := hR.s1; omega
  have hL := hR.sl1 hs
  refine lv_aload_n hx hb dX6_counts_0 rfl (lv_at hl 0 rfl) ?_
  refine lv_iload_n hx hb dX6_counts_1 rfl (lv_at hl 1 rfl) ?_
  refine m_R (c_X6_canTurn hE hR hs) X va_S.rf hP (lw_V q1656 q1658 qs44 q72 q1659) hdv_X6_canTurn ⟨Nat.le_of_ble_eq_true rfl, Nat.le_of_ble_eq_true rfl⟩ ⟨Nat.le_refl _, Nat.le_refl _⟩ rfl hl.1 rfl (Nat.le_of_ble_eq_true rfl) dX6_counts_2 ?_
  refine b_if_ne (tgt := 10) hx hb dX6_counts_5 (by decide) (fun c0 => ?_) (fun c0 => ?_)
  · refine lv_iconst (v := nI 1) hx hb dX6_counts_10 (by decide) ?_
    refine lv_istore_n (lv' := [(2, .int (nI 1)), (0, .ref (a 0)), (1, .int (nI sN))]) hx hb dX6_counts_11 rfl hl (by decide) rfl (fun ls hl => ?_)
    refine lv_iconst (v := nI 0) hx hb dX6_counts_12 (by decide) ?_
    refine lv_istore_n (lv' := [(3, .int (nI 0)), (2, .int (nI 1)), (0, .ref (a 0)), (1, .int (nI sN))]) hx hb dX6_counts_13 rfl hl (by decide) rfl (fun ls hl => ?_)
    have hl : lv_has ls 4 [(3, .int (nI 0)), (2, .int (bI (allB 0 (fun k => decide (pC f1 sN k true = pC f1 sN k false))))), (0, .ref (a 0)), (1, .int (nI sN))] := by rw [← (show (nI 1 : Int32) = bI (allB 0 (fun k => decide (pC f1 sN k true = pC f1 sN k false))) from rfl)]; exact hl
    have lp : ∀ (fu : Nat) (kN : Nat), kN ≤ sL f1 sN → sL f1 sN - kN < fu → ∀ ls : Array Slot, lv_has ls 4 [(0, .ref (a 0)), (1, .int (nI sN)), (2, .int (bI (allB kN (fun k => decide (pC f1 sN k true = pC f1 sN k false))))), (3, .int (nI kN))] → W pR l eV (Rm 3 0 0) sT mI ([.ref (a 0), .int (nI sN)] : List Value).toArray below meth cd sT.heap [] 0 0 QQ (F0 mI 14 ls []) := by
      intro fu
      induction fu with
      | zero => intro kN hk hm; exact absurd hm (Nat.not_lt_zero _)
      | succ fu ih_lp =>
        intro kN hk hm  ls hl
        refine lv_iload_n hx hb dX6_counts_14 rfl (lv_at hl 3 rfl) ?_
        refine lv_aload_n hx hb dX6_counts_15 rfl (lv_at hl 0 rfl) ?_
        refine m_g0 X hP dX6_counts_16 ?_
        refine lv_iload_n hx hb dX6_counts_19 rfl (lv_at hl 1 rfl) ?_
        refine m_S (c_X6_stampAt hE) X va_S.rf (lw_S q1551 q1552 q72 q1553) hds_X6_stampAt ⟨Nat.le_of_ble_eq_true rfl, Nat.le_of_ble_eq_true rfl⟩ ⟨Nat.le_refl _, Nat.le_refl _⟩ rfl hl.1 rfl (Nat.le_of_ble_eq_true rfl) dX6_counts_20 ?_
        refine m_ld1 X hP (by omega) dX6_counts_23 ?_
        refine n_top (y := nI (sL f1 sN)) (hR.sl hs) ?_
        refine n_icmp_ge (tgt := 60) hx hb (by omega) (by omega) dX6_counts_24 (by decide) (fun c1 => ?_) (fun c1 => ?_)
        · refine lv_iload_n hx hb dX6_counts_60 rfl (lv_at hl 2 rfl) ?_
          refine b_if_ne (tgt := 68) hx hb dX6_counts_61 (by decide) (fun c2 => ?_) (fun c2 => ?_)
          · refine lv_iconst (v := nI 0) hx hb dX6_counts_68 (by decide) ?_
            exact ret _ _ _ (bI_f (by unfold cntB samB; rw [show sL f1 sN = kN by omega, c2, Bool.not_true, Bool.and_false])) dX6_counts_69
          · refine lv_iconst (v := nI 1) hx hb dX6_counts_64 (by decide) ?_
            refine lv_goto (tgt := 69) hx hb dX6_counts_65 (by decide) ?_
            exact ret _ _ _ (bI_t (by unfold cntB samB; rw [c0, show sL f1 sN = kN by omega, c2]; rfl)) dX6_counts_69
        · refine lv_iload_n hx hb dX6_counts_27 rfl (lv_at hl 2 rfl) ?_
          refine b_if_eq (tgt := 52) hx hb dX6_counts_28 (by decide) (fun c2 => ?_) (fun c2 => ?_)
          · refine lv_iconst (v := nI 0) hx hb dX6_counts_52 (by decide) ?_
            refine n_top (y := bI (allB (kN + 1) (fun k => decide (pC f1 sN k true = pC f1 sN k false)))) (bI_f (by simp only [allB, c2, Bool.false_and])) ?_
            refine lv_istore_n (lv' := [(2, .int (bI (allB (kN + 1) (fun k => decide (pC f1 sN k true = pC f1 sN k false))))), (0, .ref (a 0)), (1, .int (nI sN)), (3, .int (nI kN))]) hx hb dX6_counts_53 rfl hl (by decide) rfl (fun ls hl => ?_)
            refine lv_iinc (v := nI (kN + 1)) (lv' := [(3, .int (nI (kN + 1))), (2, .int (bI (allB (kN + 1) (fun k => decide (pC f1 sN k true = pC f1 sN k false))))), (0, .ref (a 0)), (1, .int (nI sN))]) hx hb dX6_counts_54 hl (k := 3) rfl (nI_add _ 1) (by decide) rfl (fun ls hl => ?_)
            refine lv_goto (tgt := 14) hx hb dX6_counts_57 (by decide) ?_
            exact ih_lp (kN + 1)  (by omega) (by omega) ls (lv_sub hl [2, 3, 1, 0] rfl)
          · refine lv_aload_n hx hb dX6_counts_31 rfl (lv_at hl 0 rfl) ?_
            refine lv_iload_n hx hb dX6_counts_32 rfl (lv_at hl 1 rfl) ?_
            refine lv_iload_n hx hb dX6_counts_33 rfl (lv_at hl 3 rfl) ?_
            refine lv_iconst (v := nI 1) hx hb dX6_counts_34 (by decide) ?_
            refine m_R (c_X6_printed (tB := true) hE hR hs c1) X va_S.rf hP (lw_V q1645 q1647 qs42 q72 q1648) hdv_X6_printed ⟨Nat.le_of_ble_eq_true rfl, Nat.le_of_ble_eq_true rfl⟩ ⟨Nat.le_refl _, Nat.le_refl _⟩ rfl hl.1 rfl (Nat.le_of_ble_eq_true rfl) dX6_counts_35 ?_
            refine lv_aload_n hx hb dX6_counts_38 rfl (lv_at hl 0 rfl) ?_
            refine lv_iload_n hx hb dX6_counts_39 rfl (lv_at hl 1 rfl) ?_
            refine lv_iload_n hx hb dX6_counts_40 rfl (lv_at hl 3 rfl) ?_
            refine lv_iconst (v := nI 0) hx hb dX6_counts_41 (by decide) ?_
            refine m_R (c_X6_printed (tB := false) hE hR hs c1) X va_S.rf hP (lw_V q1645 q1647 qs42 q72 q1648) hdv_X6_printed ⟨Nat.le_of_ble_eq_true rfl, Nat.le_of_ble_eq_true rfl⟩ ⟨Nat.le_refl _, Nat.le_refl _⟩ rfl hl.1 rfl (Nat.le_of_ble_eq_true rfl) dX6_counts_42 ?_
            refine lv_icmp_ne (tgt := 52) hx hb dX6_counts_45 (by decide) (fun c3 => ?_) (fun c3 => ?_)
            · refine lv_iconst (v := nI 0) hx hb dX6_counts_52 (by decide) ?_
              refine n_top (y := bI (allB (kN + 1) (fun k => decide (pC f1 sN k true = pC f1 sN k false)))) (bI_f (by simp only [allB, c2, Bool.true_and, decide_eq_false_iff_not]; exact c3)) ?_
              refine lv_istore_n (lv' := [(2, .int (bI (allB (kN + 1) (fun k => decide (pC f1 sN k true = pC f1 sN k false))))), (0, .ref (a 0)), (1, .int (nI sN)), (3, .int (nI kN))]) hx hb dX6_counts_53 rfl hl (by decide) rfl (fun ls hl => ?_)
              refine lv_iinc (v := nI (kN + 1)) (lv' := [(3, .int (nI (kN + 1))), (2, .int (bI (allB (kN + 1) (fun k => decide (pC f1 sN k true = pC f1 sN k false))))), (0, .ref (a 0)), (1, .int (nI sN))]) hx hb dX6_counts_54 hl (k := 3) rfl (nI_add _ 1) (by decide) rfl (fun ls hl => ?_)
              refine lv_goto (tgt := 14) hx hb dX6_counts_57 (by decide) ?_
              exact ih_lp (kN + 1)  (by omega) (by omega) ls (lv_sub hl [2, 3, 1, 0] rfl)
            · refine lv_iconst (v := nI 1) hx hb dX6_counts_48 (by decide) ?_
              refine lv_goto (tgt := 53) hx hb dX6_counts_49 (by decide) ?_
              refine n_top (y := bI (allB (kN + 1) (fun k => decide (pC f1 sN k true = pC f1 sN k false)))) (bI_t (by simp only [allB, c2, Bool.true_and, decide_eq_true_eq]; exact c3)) ?_
              refine lv_istore_n (lv' := [(2, .int (bI (allB (kN + 1) (fun k => decide (pC f1 sN k true = pC f1 sN k false))))), (0, .ref (a 0)), (1, .int (nI sN)), (3, .int (nI kN))]) hx hb dX6_counts_53 rfl hl (by decide) rfl (fun ls hl => ?_)
              refine lv_iinc (v := nI (kN + 1)) (lv' := [(3, .int (nI (kN + 1))), (2, .int (bI (allB (kN + 1) (fun k => decide (pC f1 sN k true = pC f1 sN k false))))), (0, .ref (a 0)), (1, .int (nI sN))]) hx hb dX6_counts_54 hl (k := 3) rfl (nI_add _ 1) (by decide) rfl (fun ls hl => ?_)
              refine lv_goto (tgt := 14) hx hb dX6_counts_57 (by decide) ?_
              exact ih_lp (kN + 1)  (by omega) (by omega) ls (lv_sub hl [2, 3, 1, 0] rfl)
    exact lp _ 0  (Nat.zero_le _) (Nat.lt_succ_self _) ls (lv_sub hl [2, 3, 1, 0] rfl)
  · refine lv_iconst (v := nI 0) hx hb dX6_counts_8 (by decide) ?_
    exact ret _ _ _ (bI_f (by unfold cntB; rw [c0]; rfl)) dX6_counts_9
theorem hdv_X6_fits : yX6_fits.cls = RX6 ∧ yX6_fits.cls ≠ "java/lang/invoke/MethodHandle" ∧ yX6_fits.cls ≠ "java/lang/invoke/VarHandle" ∧ (parseMethodDescriptor yX6_fits.desc).map (fun d => d.parameters.length) = some 4 := by decide +kernel
theorem c_X6_fits (hE : EnvOK G E) {wN fN sN : Nat} {tB : Bool} (hR : ROk f1) (hw : wN < nW f1) (hs : sN < nS f1) (hf : fN ≤ 12) : RO l G E yX6_fits cX6_fits 8 .boolean 3 [.ref (a 0), .int (nI wN), .int (nI fN), .int (nI sN), .int (bI tB)] (va_P G.1 cls (mw G a x4 x5 x7 x8 x11 x15 f1 f2 f3 f4 f5 f6 f7 f8 f9 f10 f11 h)) (.int (bI (fitB f1 wN fN sN tB))) := by
  refine ROz hE (by decide) (Nat.le_of_ble_eq_true rfl) (bI_nar _) (fun pR eV sT mI below meth cd QQ ls X hP hl ret => ?_)
  obtain ⟨⟨hx, hb, hml, hown, hts⟩, ⟨hr, hlk⟩, -, -, -⟩ := id X
  have hl : lv_has ls 8 [(0, .ref (a 0)), (1, .int (nI wN)), (2, .int (nI fN)), (3, .int (nI sN)), (4, .int (bI tB))] := hl
  have hs9 : sN < 10 := by have := hR.s1; omega
  have hL := hR.sl1 hs
  have hw9 : wN < 7 := by have := hR.w1; omega
  have hM := hR.wl1 hw
  refine lv_aload_n hx hb dX6_fits_0 rfl (lv_at hl 0 rfl) ?_
  refine m_g0 X hP dX6_fits_1 ?_
  refine lv_iload_n hx hb dX6_fits_4 rfl (lv_at hl 3 rfl) ?_
  refine m_S (c_X6_stampAt hE) X va_S.rf (lw_S q1551 q1552 q72 q1553) hds_X6_stampAt ⟨Nat.le_of_ble_eq_true rfl, Nat.le_of_ble_eq_true rfl⟩ ⟨Nat.le_refl _, Nat.le_refl _⟩ rfl hl.1 rfl (Nat.le_of_ble_eq_true rfl) dX6_fits_5 ?_
  refine m_ld1 X hP (by omega) dX6_fits_8 ?_
  refine n_top (y := nI (sL f1 sN)) (hR.sl hs) ?_
  refine lv_istore (lv' := [(5, .int (nI (sL f1 sN))), (0, .ref (a 0)), (1, .int (nI wN)), (2, .int (nI fN)), (3, .int (nI sN)), (4, .int (bI tB))]) hx hb dX6_fits_9 hl (by decide) rfl (fun ls hl => ?_)
  refine lv_iload_n hx hb dX6_fits_11 rfl (lv_at hl 3 rfl) ?_
  refine lv_iload hx hb dX6_fits_12 (lv_at hl 0 rfl) ?_
  refine n_iadd hx hb dX6_fits_14 ?_
  refine lv_aload_n hx hb dX6_fits_15 rfl (lv_at hl 1 rfl) ?_
  refine m_g0 X hP dX6_fits_16 ?_
  refine lv_iload_n hx hb dX6_fits_19 rfl (lv_at hl 2 rfl) ?_
  refine m_S (c_X6_wordAt hE) X va_S.rf (lw_S q1562 q1563 q72 q1564) hds_X6_wordAt ⟨Nat.le_of_ble_eq_true rfl, Nat.le_of_ble_eq_true rfl⟩ ⟨Nat.le_refl _, Nat.le_refl _⟩ rfl hl.1 rfl (Nat.le_of_ble_eq_true rfl) dX6_fits_20 ?_
  refine m_ld1 X hP (by omega) dX6_fits_23 ?_
  refine n_top (y := nI (wL f1 wN)) (hR.wl hw) ?_
  refine n_icmp_le (tgt := 29) hx hb (by omega) (by omega) dX6_fits_24 (by decide) (fun c0 => ?_) (fun c0 => ?_)
  · refine lv_iconst (v := nI 1) hx hb dX6_fits_29 (by decide) ?_
    refine lv_istore (lv' := [(6, .int (nI 1)), (5, .int (nI (sL f1 sN))), (0, .ref (a 0)), (1, .int (nI wN)), (2, .int (nI fN)), (3, .int (nI sN)), (4, .int (bI tB))]) hx hb dX6_fits_30 hl (by decide) rfl (fun ls hl => ?_)
    refine lv_iconst (v := nI 0) hx hb dX6_fits_32 (by decide) ?_
    refine lv_istore (lv' := [(7, .int (nI 0)), (6, .int (nI 1)), (5, .int (nI (sL f1 sN))), (0, .ref (a 0)), (1, .int (nI wN)), (2, .int (nI fN)), (3, .int (nI sN)), (4, .int (bI tB))]) hx hb dX6_fits_33 hl (by decide) rfl (fun ls hl => ?_)
    have hl : lv_has ls 8 [(7, .int (nI 0)), (6, .int (bI (allB 0 (fun k => decide (pC f1 sN k tB = f1 (97 + 14 * wN + 2 + fN + k)))))), (5, .int (nI (sL f1 sN))), (0, .ref (a 0)), (1, .int (nI wN)), (2, .int (nI fN)), (3, .int (nI sN)), (4, .int (bI tB))] := by rw [← (show (nI 1 : Int32) = bI (allB 0 (fun k => decide (pC f1 sN k tB = f1 (97 + 14 * wN + 2 + fN + k)))) from rfl)]; exact hl
    have lp : ∀ (fu : Nat) (kN : Nat), kN ≤ sL f1 sN → sL f1 sN - kN < fu → ∀ ls : Array Slot, lv_has ls 8 [(0, .ref (a 0)), (1, .int (nI wN)), (2, .int (nI fN)), (3, .int (nI sN)), (4, .int (bI tB)), (5, .int (nI (sL f1 sN))), (6, .int (bI (allB kN (fun k => decide (pC f1 sN k tB = f1 (97 + 14 * wN + 2 + fN + k)))))), (7, .int (nI kN))] → W pR l eV (Rm 3 0 0) sT mI ([.ref (a 0), .int (nI wN), .int (nI fN), .int (nI sN), .int (bI tB)] : List Value).toArray below meth cd sT.heap [] 0 0 QQ (F0 mI 35 ls []) := by
      intro fu
      induction fu with
      | zero => intro kN hk hm; exact absurd hm (Nat.not_lt_zero _)
      | succ fu ih_lp =>
        intro kN hk hm  ls hl
        refine lv_iload hx hb dX6_fits_35 (lv_at hl 7 rfl) ?_
        refine lv_iload hx hb dX6_fits_37 (lv_at hl 5 rfl) ?_
        refine n_icmp_ge (tgt := 88) hx hb (by omega) (by omega) dX6_fits_39 (by decide) (fun c1 => ?_) (fun c1 => ?_)
        · refine lv_iload hx hb dX6_fits_88 (lv_at hl 6 rfl) ?_
          exact ret _ _ _ (by unfold fitB; rw [decide_eq_true c0, Bool.true_and, show sL f1 sN = kN by omega]) dX6_fits_90
        · refine lv_iload hx hb dX6_fits_42 (lv_at hl 6 rfl) ?_
          refine b_if_eq (tgt := 88) hx hb dX6_fits_44 (by decide) (fun c2 => ?_) (fun c2 => ?_)
          · refine lv_iload hx hb dX6_fits_88 (lv_at hl 6 rfl) ?_
            exact ret _ _ _ (by unfold fitB; rw [decide_eq_true c0, Bool.true_and, c2, allB_le hk c2]) dX6_fits_90
          · refine lv_aload_n hx hb dX6_fits_47 rfl (lv_at hl 0 rfl) ?_
            refine lv_iload_n hx hb dX6_fits_48 rfl (lv_at hl 3 rfl) ?_
            refine lv_iload hx hb dX6_fits_49 (lv_at hl 7 rfl) ?_
            refine lv_iload hx hb dX6_fits_51 (lv_at hl 4 rfl) ?_
            refine m_R (c_X6_printed (tB := tB) hE hR hs c1) X va_S.rf hP (lw_V q1645 q1647 qs42 q72 q1648) hdv_X6_printed ⟨Nat.le_of_ble_eq_true rfl, Nat.le_of_ble_eq_true rfl⟩ ⟨Nat.le_refl _, Nat.le_refl _⟩ rfl hl.1 rfl (Nat.le_of_ble_eq_true rfl) dX6_fits_53 ?_
            refine lv_aload_n hx hb dX6_fits_56 rfl (lv_at hl 0 rfl) ?_
            refine m_g0 X hP dX6_fits_57 ?_
            refine lv_iload_n hx hb dX6_fits_60 rfl (lv_at hl 1 rfl) ?_
            refine m_S (c_X6_wordAt hE) X va_S.rf (lw_S q1562 q1563 q72 q1564) hds_X6_wordAt ⟨Nat.le_of_ble_eq_true rfl, Nat.le_of_ble_eq_true rfl⟩ ⟨Nat.le_refl _, Nat.le_refl _⟩ rfl hl.1 rfl (Nat.le_of_ble_eq_true rfl) dX6_fits_61 ?_
            refine lv_iconst (v := nI 2) hx hb dX6_fits_64 (by decide) ?_
            refine n_iadd hx hb dX6_fits_65 ?_
            refine lv_iload_n hx hb dX6_fits_66 rfl (lv_at hl 2 rfl) ?_
            refine n_iadd hx hb dX6_fits_67 ?_
            refine lv_iload hx hb dX6_fits_68 (lv_at hl 7 rfl) ?_
            refine n_iadd hx hb dX6_fits_70 ?_
            refine m_ld1 X hP (by omega) dX6_fits_71 ?_
            refine lv_icmp_ne (tgt := 79) hx hb dX6_fits_72 (by decide) (fun c3 => ?_) (fun c3 => ?_)
            · refine lv_iconst (v := nI 0) hx hb dX6_fits_79 (by decide) ?_
              refine n_top (y := bI (allB (kN + 1) (fun k => decide (pC f1 sN k tB = f1 (97 + 14 * wN + 2 + fN + k))))) (bI_f (by simp only [allB, c2, Bool.true_and, decide_eq_false_iff_not]; exact c3)) ?_
              refine lv_istore (lv' := [(6, .int (bI (allB (kN + 1) (fun k => decide (pC f1 sN k tB = f1 (97 + 14 * wN + 2 + fN + k)))))), (0, .ref (a 0)), (1, .int (nI wN)), (2, .int (nI fN)), (3, .int (nI sN)), (4, .int (bI tB)), (5, .int (nI (sL f1 sN))), (7, .int (nI kN))]) hx hb dX6_fits_80 hl (by decide) rfl (fun ls hl => ?_)
              refine lv_iinc (v := nI (kN + 1)) (lv' := [(7, .int (nI (kN + 1))), (6, .int (bI (allB (kN + 1) (fun k => decide (pC f1 sN k tB = f1 (97 + 14 * wN + 2 + fN + k)))))), (0, .ref (a 0)), (1, .int (nI wN)), (2, .int (nI fN)), (3, .int (nI sN)), (4, .int (bI tB)), (5, .int (nI (sL f1 sN)))]) hx hb dX6_fits_82 hl (k := 7) rfl (nI_add _ 1) (by decide) rfl (fun ls hl => ?_)
              refine lv_goto (tgt := 35) hx hb dX6_fits_85 (by decide) ?_
              exact ih_lp (kN + 1)  (by omega) (by omega) ls (lv_sub hl [2, 3, 4, 5, 6, 7, 1, 0] rfl)
            · refine lv_iconst (v := nI 1) hx hb dX6_fits_75 (by decide) ?_
              refine lv_goto (tgt := 80) hx hb dX6_fits_76 (by decide) ?_
              refine n_top (y := bI (allB (kN + 1) (fun k => decide (pC f1 sN k tB = f1 (97 + 14 * wN + 2 + fN + k))))) (bI_t (by simp only [allB, c2, Bool.true_and, decide_eq_true_eq]; exact c3)) ?_
              refine lv_istore (lv' := [(6, .int (bI (allB (kN + 1) (fun k => decide (pC f1 sN k tB = f1 (97 + 14 * wN + 2 + fN + k)))))), (0, .ref (a 0)), (1, .int (nI wN)), (2, .int (nI fN)), (3, .int (nI sN)), (4, .int (bI tB)), (5, .int (nI (sL f1 sN))), (7, .int (nI kN))]) hx hb dX6_fits_80 hl (by decide) rfl (fun ls hl => ?_)
              refine lv_iinc (v := nI (kN + 1)) (lv' := [(7, .int (nI (kN + 1))), (6, .int (bI (allB (kN + 1) (fun k => decide (pC f1 sN k tB = f1 (97 + 14 * wN + 2 + fN + k)))))), (0, .ref (a 0)), (1, .int (nI wN)), (2, .int (nI fN)), (3, .int (nI sN)), (4, .int (bI tB)), (5, .int (nI (sL f1 sN)))]) hx hb dX6_fits_82 hl (k := 7) rfl (nI_add _ 1) (by decide) rfl (fun ls hl => ?_)
              refine lv_goto (tgt := 35) hx hb dX6_fits_85 (by decide) ?_
              exact ih_lp (kN + 1)  (by omega) (by omega) ls (lv_sub hl [2, 3, 4, 5, 6, 7, 1, 0] rfl)
    exact lp _ 0  (Nat.zero_le _) (Nat.lt_succ_self _) ls (lv_sub hl [3, 4, 5, 6, 7, 2, 1, 0] rfl)
  · refine lv_iconst (v := nI 0) hx hb dX6_fits_27 (by decide) ?_
    exact ret _ _ _ (bI_f (by unfold fitB; rw [decide_eq_false (by omega)]; rfl)) dX6_fits_28
theorem hdv_X6_fresh : yX6_fresh.cls = RX6 ∧ yX6_fresh.cls ≠ "java/lang/invoke/MethodHandle" ∧ yX6_fresh.cls ≠ "java/lang/invoke/VarHandle" ∧ (parseMethodDescriptor yX6_fresh.desc).map (fun d => d.parameters.length) = some 0 := by decide +kernel
theorem c_X6_fresh (hE : EnvOK G E) (hR : ROk f1) : RO l G E yX6_fresh cX6_fresh 3 .int 3 [.ref (a 0)] (va_P G.1 cls (mw G a x4 x5 x7 x8 x11 x15 f1 f2 f3 f4 f5 f6 f7 f8 f9 f10 f11 h)) (.int (frI f1 (nS f1))) := by
  refine ROi hE (by decide) (Nat.le_of_ble_eq_true rfl) (fun pR eV sT mI below meth cd QQ ls X hP hl ret => ?_)
  obtain ⟨⟨hx, hb, hml, hown, hts⟩, ⟨hr, hlk⟩, -, -, -⟩ := id X
  have hl : lv_has ls 3 [(0, .ref (a 0))] := hl
  have hm := hR.s1
  refine lv_iconst (v := nI 0) hx hb dX6_fresh_0 (by decide) ?_
  refine lv_istore_n (lv' := [(1, .int (nI 0)), (0, .ref (a 0))]) hx hb dX6_fresh_1 rfl hl (by decide) rfl (fun ls hl => ?_)
  refine lv_iconst (v := nI 0) hx hb dX6_fresh_2 (by decide) ?_
  refine lv_istore_n (lv' := [(2, .int (nI 0)), (1, .int (nI 0)), (0, .ref (a 0))]) hx hb dX6_fresh_3 rfl hl (by decide) rfl (fun ls hl => ?_)
  have hl : lv_has ls 3 [(2, .int (nI 0)), (1, .int (frI f1 0)), (0, .ref (a 0))] := by rw [← (show (nI 0 : Int32) = frI f1 0 from rfl)]; exact hl
  have lp : ∀ (fu : Nat) (sN : Nat), sN ≤ nS f1 → nS f1 - sN < fu → ∀ ls : Array Slot, lv_has ls 3 [(0, .ref (a 0)), (1, .int (frI f1 sN)), (2, .int (nI sN))] → W pR l eV (Rm 3 0 0) sT mI ([.ref (a 0)] : List Value).toArray below meth cd sT.heap [] 0 0 QQ (F0 mI 4 ls []) := by
    intro fu
    induction fu with
    | zero => intro sN hk hm; exact absurd hm (Nat.not_lt_zero _)
    | succ fu ih_lp =>
      intro sN hk hm  ls hl
      refine lv_iload_n hx hb dX6_fresh_4 rfl (lv_at hl 2 rfl) ?_
      refine lv_aload_n hx hb dX6_fresh_5 rfl (lv_at hl 0 rfl) ?_
      refine m_g0 X hP dX6_fresh_6 ?_
      refine lv_iconst (v := nI 0) hx hb dX6_fresh_9 (by decide) ?_
      refine m_ld1 X hP (by omega) dX6_fresh_10 ?_
      refine n_top (y := nI (nS f1)) (hR.s0) ?_
      refine n_icmp_ge (tgt := 38) hx hb (by omega) (by omega) dX6_fresh_11 (by decide) (fun c1 => ?_) (fun c1 => ?_)
      · refine lv_iload_n hx hb dX6_fresh_38 rfl (lv_at hl 1 rfl) ?_
        exact ret _ _ _ (by rw [show nS f1 = sN by omega]) dX6_fresh_39
      · refine lv_iload_n hx hb dX6_fresh_14 rfl (lv_at hl 1 rfl) ?_
        refine lv_aload_n hx hb dX6_fresh_15 rfl (lv_at hl 0 rfl) ?_
        refine lv_iload_n hx hb dX6_fresh_16 rfl (lv_at hl 2 rfl) ?_
        refine m_R (c_X6_isWorn hE (show sN < 20 by omega)) X va_S.rf hP (lw_V q1625 q1627 qs37 q72 q1628) hdv_X6_isWorn ⟨Nat.le_of_ble_eq_true rfl, Nat.le_of_ble_eq_true rfl⟩ ⟨Nat.le_refl _, Nat.le_refl _⟩ rfl hl.1 rfl (Nat.le_of_ble_eq_true rfl) dX6_fresh_17 ?_
        refine b_if_eq (tgt := 27) hx hb dX6_fresh_20 (by decide) (fun c2 => ?_) (fun c2 => ?_)
        · refine lv_iconst (v := nI 1) hx hb dX6_fresh_27 (by decide) ?_
          refine lv_iload_n hx hb dX6_fresh_28 rfl (lv_at hl 2 rfl) ?_
          refine lv_ishl hx hb dX6_fresh_29 ?_
          refine lv_ior hx hb dX6_fresh_30 ?_
          refine n_top (y := frI f1 (sN + 1)) (by rw [frI, c2]; rfl) ?_
          refine lv_istore_n (lv' := [(1, .int (frI f1 (sN + 1))), (0, .ref (a 0)), (2, .int (nI sN))]) hx hb dX6_fresh_31 rfl hl (by decide) rfl (fun ls hl => ?_)
          refine lv_iinc (v := nI (sN + 1)) (lv' := [(2, .int (nI (sN + 1))), (1, .int (frI f1 (sN + 1))), (0, .ref (a 0))]) hx hb dX6_fresh_32 hl (k := 2) rfl (nI_add _ 1) (by decide) rfl (fun ls hl => ?_)
          refine lv_goto (tgt := 4) hx hb dX6_fresh_35 (by decide) ?_
          exact ih_lp (sN + 1)  (by omega) (by omega) ls (lv_sub hl [2, 1, 0] rfl)
        · refine lv_iconst (v := nI 0) hx hb dX6_fresh_23 (by decide) ?_
          refine lv_goto (tgt := 30) hx hb dX6_fresh_24 (by decide) ?_
          refine lv_ior hx hb dX6_fresh_30 ?_
          refine n_top (y := frI f1 (sN + 1)) (by rw [frI, c2]; rfl) ?_
          refine lv_istore_n (lv' := [(1, .int (frI f1 (sN + 1))), (0, .ref (a 0)), (2, .int (nI sN))]) hx hb dX6_fresh_31 rfl hl (by decide) rfl (fun ls hl => ?_)
          refine lv_iinc (v := nI (sN + 1)) (lv' := [(2, .int (nI (sN + 1))), (1, .int (frI f1 (sN + 1))), (0, .ref (a 0))]) hx hb dX6_fresh_32 hl (k := 2) rfl (nI_add _ 1) (by decide) rfl (fun ls hl => ?_)
          refine lv_goto (tgt := 4) hx hb dX6_fresh_35 (by decide) ?_
          exact ih_lp (sN + 1)  (by omega) (by omega) ls (lv_sub hl [2, 1, 0] rfl)
  exact lp _ 0  (Nat.zero_le _) (Nat.lt_succ_self _) ls (lv_sub hl [2, 1, 0] rfl)
end
