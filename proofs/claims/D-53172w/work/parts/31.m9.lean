/-! MODEL, methods 9: the set -/
theorem idB_t {n j : Nat} (h : j < n) (hn : n < 2 ^ 31) : idB (nI j) n = true := (idB_iff hn).mpr ⟨j, h, rfl⟩
/-- rows of the calls that change the set -/
def comR (R : Nat → Int32) (w f n : Nat) : Nat → Int32 := fun k => if k = 0 then nI (nS R + 1) else if k = 7 + 9 * nS R then nI n else if 7 + 9 * nS R + 1 ≤ k ∧ k < 7 + 9 * nS R + 1 + n then R (97 + 14 * w + 2 + f + (k - (7 + 9 * nS R + 1))) else clrR R (7 + 9 * nS R) k
def rmvR (R : Nat → Int32) (s : Nat) : Nat → Int32 := fun k => if k = 0 then nI (nS R - 1) else if 7 + 9 * s ≤ k ∧ k < 7 + 9 * (nS R - 1) then R (k + 9) else R k
def drpR (R : Nat → Int32) (w : Nat) : Nat → Int32 := fun k => if k = 1 then nI (nW R - 1) else if 97 + 14 * w ≤ k ∧ k < 97 + 14 * (nW R - 1) then R (k + 14) else R k
def clnR (R : Nat → Int32) (s : Nat) (had : Int32) : Nat → Int32 := upd (upd (upd R 6 (R 6 + had)) (7 + 9 * s + 6) (-1)) (7 + 9 * s + 7) (nI 0)
def hadI (R : Nat → Int32) (s : Nat) : Int32 := if R (7 + 9 * s + 6) = -1 then nI 0 else nI 1
/-- a part of a word: from place f on, n letters, all numbers as they come -/
def prtB (R : Nat → Int32) (w : Nat) (x y : Int32) : Bool := rgB (nI 0) (nI (wL R w) - nI 1) x && (rgB (nI 1) (nI 5) y && decide (y ≤ nI (wL R w) - x))
section
variable {l : Launch} {G : GG} {E : State → Prop} {a : Nat → Nat} {x4 x5 x7 x8 x11 x15 : Int32} {f1 f2 f3 f4 f5 f6 f7 f8 f9 f10 f11 : Nat → Int32} {h : Int64} {wr : va_W}
theorem hdv_X6_isPart : yX6_isPart.cls = RX6 ∧ yX6_isPart.cls ≠ "java/lang/invoke/MethodHandle" ∧ yX6_isPart.cls ≠ "java/lang/invoke/VarHandle" ∧ (parseMethodDescriptor yX6_isPart.desc).map (fun d => d.parameters.length) = some 3 := by decide +kernel
theorem c_X6_isPart (hE : EnvOK G E) {wN : Nat} {x y9 : Int32} (hR : ROk f1) (hw : wN < nW f1) : RO l G E yX6_isPart cX6_isPart 5 .boolean 2 [.ref (a 0), .int (nI wN), .int x, .int y9] (va_P G.1 cls (mw G a x4 x5 x7 x8 x11 x15 f1 f2 f3 f4 f5 f6 f7 f8 f9 f10 f11 h)) (.int (bI (prtB f1 wN x y9))) := by
  refine ROz hE (by decide) (Nat.le_of_ble_eq_true rfl) (bI_nar _) (fun pR eV sT mI below meth cd QQ ls X hP hl ret => ?_)
  obtain ⟨⟨hx, hb, hml, hown, hts⟩, ⟨hr, hlk⟩, -, -, -⟩ := id X
  have hl : lv_has ls 5 [(0, .ref (a 0)), (1, .int (nI wN)), (2, .int x), (3, .int y9)] := hl
  have hw9 := hR.w1
  have hM := hR.wl1 hw
  refine lv_aload_n hx hb dX6_isPart_0 rfl (lv_at hl 0 rfl) ?_
  refine m_g0 X hP dX6_isPart_1 ?_
  refine lv_iload_n hx hb dX6_isPart_4 rfl (lv_at hl 1 rfl) ?_
  refine m_S (c_X6_wordAt hE) X va_S.rf (lw_S q1562 q1563 q72 q1564) hds_X6_wordAt ⟨Nat.le_of_ble_eq_true rfl, Nat.le_of_ble_eq_true rfl⟩ ⟨Nat.le_refl _, Nat.le_refl _⟩ rfl hl.1 rfl (Nat.le_of_ble_eq_true rfl) dX6_isPart_5 ?_
  refine m_ld1 X hP (by omega) dX6_isPart_8 ?_
  refine n_top (y := nI (wL f1 wN)) (hR.wl hw) ?_
  refine lv_istore (lv' := [(4, .int (nI (wL f1 wN))), (0, .ref (a 0)), (1, .int (nI wN)), (2, .int x), (3, .int y9)]) hx hb dX6_isPart_9 hl (by decide) rfl (fun ls hl => ?_)
  refine lv_iload_n hx hb dX6_isPart_11 rfl (lv_at hl 3 rfl) ?_
  refine lv_iconst (v := nI 0) hx hb dX6_isPart_12 (by decide) ?_
  refine lv_iload hx hb dX6_isPart_13 (lv_at hl 0 rfl) ?_
  refine lv_iconst (v := nI 1) hx hb dX6_isPart_15 (by decide) ?_
  refine n_isub hx hb (by omega) dX6_isPart_16 ?_
  refine m_S (c_X6_in hE) X va_S.rf (lw_S q1528 q1529 q72 q1530) hds_X6_in ⟨Nat.le_of_ble_eq_true rfl, Nat.le_of_ble_eq_true rfl⟩ ⟨Nat.le_refl _, Nat.le_refl _⟩ rfl hl.1 rfl (Nat.le_of_ble_eq_true rfl) dX6_isPart_17 ?_
  refine n_top (y := bI (rgB (nI 0) (nI (wL f1 wN) - nI 1) x)) (by rw [pk_sub (by omega)]) ?_
  refine b_if_eq (tgt := 44) hx hb dX6_isPart_20 (by decide) (fun c1 => ?_) (fun c1 => ?_)
  · refine lv_iconst (v := nI 0) hx hb dX6_isPart_44 (by decide) ?_
    exact ret _ _ _ (bI_f (by unfold prtB; rw [c1]; rfl)) dX6_isPart_45
  · refine lv_iload_n hx hb dX6_isPart_23 rfl (lv_at hl 4 rfl) ?_
    refine lv_iconst (v := nI 1) hx hb dX6_isPart_24 (by decide) ?_
    refine lv_iconst (v := nI 5) hx hb dX6_isPart_25 (by decide) ?_
    refine m_S (c_X6_in hE) X va_S.rf (lw_S q1528 q1529 q72 q1530) hds_X6_in ⟨Nat.le_of_ble_eq_true rfl, Nat.le_of_ble_eq_true rfl⟩ ⟨Nat.le_refl _, Nat.le_refl _⟩ rfl hl.1 rfl (Nat.le_of_ble_eq_true rfl) dX6_isPart_26 ?_
    refine b_if_eq (tgt := 44) hx hb dX6_isPart_29 (by decide) (fun c2 => ?_) (fun c2 => ?_)
    · refine lv_iconst (v := nI 0) hx hb dX6_isPart_44 (by decide) ?_
      exact ret _ _ _ (bI_f (by unfold prtB; rw [c2, Bool.false_and, Bool.and_false])) dX6_isPart_45
    · refine lv_iload_n hx hb dX6_isPart_32 rfl (lv_at hl 4 rfl) ?_
      refine lv_iload hx hb dX6_isPart_33 (lv_at hl 0 rfl) ?_
      refine lv_iload_n hx hb dX6_isPart_35 rfl (lv_at hl 3 rfl) ?_
      refine lv_isub hx hb dX6_isPart_36 ?_
      refine lv_icmp_gt (tgt := 44) hx hb dX6_isPart_37 (by decide) (fun c3 => ?_) (fun c3 => ?_)
      · refine lv_iconst (v := nI 0) hx hb dX6_isPart_44 (by decide) ?_
        exact ret _ _ _ (bI_f (by unfold prtB; rw [decide_eq_false (Int32.not_le.mpr c3), Bool.and_false, Bool.and_false])) dX6_isPart_45
      · refine lv_iconst (v := nI 1) hx hb dX6_isPart_40 (by decide) ?_
        refine lv_goto (tgt := 45) hx hb dX6_isPart_41 (by decide) ?_
        exact ret _ _ _ (bI_t (by unfold prtB; rw [c1, c2, decide_eq_true (Int32.not_lt.mp c3)]; rfl)) dX6_isPart_45
theorem hdv_X6_comes : yX6_comes.cls = RX6 ∧ yX6_comes.cls ≠ "java/lang/invoke/MethodHandle" ∧ yX6_comes.cls ≠ "java/lang/invoke/VarHandle" ∧ (parseMethodDescriptor yX6_comes.desc).map (fun d => d.parameters.length) = some 3 := by decide +kernel
theorem c_X6_comes (hE : EnvOK G E) {wN fN nN : Nat} (hR : ROk f1) (hw : wN < nW f1) (hs : nS f1 < 10) (hf : fN + nN ≤ wL f1 wN) (hn5 : nN ≤ 5) : MU vI l G E yX6_comes cX6_comes 6 (some .int) 2 0 0 [.ref (a 0), .int (nI wN), .int (nI fN), .int (nI nN)] (mw G a x4 x5 x7 x8 x11 x15 f1 f2 f3 f4 f5 f6 f7 f8 f9 f10 f11 h ++ wr) (fun r w => r = nI (nS f1) ∧ w = mw G a x4 x5 x7 x8 x11 x15 (comR f1 wN fN nN) f2 f3 f4 f5 f6 f7 f8 f9 f10 f11 h ++ wr) := by
  refine MUi hE (by decide) (Nat.le_of_ble_eq_true rfl) (fun pR eV sT mI below meth cd QQ ls X hH hl ret => ?_)
  obtain ⟨⟨hx, hb, hml, hown, hts⟩, ⟨hr, hlk⟩, -, -, -⟩ := id X
  have hl : lv_has ls 6 [(0, .ref (a 0)), (1, .int (nI wN)), (2, .int (nI fN)), (3, .int (nI nN))] := hl
  refine wgen (H := sT.heap) (locs := []) hH (fun H locs hH => ?_)
  have hm := hR.s1
  have hw9 := hR.w1
  have hM := hR.wl1 hw
  refine lv_aload_n hx hb dX6_comes_0 rfl (lv_at hl 0 rfl) ?_
  refine m_g0 X hH.mp dX6_comes_1 ?_
  refine lv_iconst (v := nI 0) hx hb dX6_comes_4 (by decide) ?_
  refine m_ld1 X hH.mp (by omega) dX6_comes_5 ?_
  refine n_top (y := nI (nS f1)) (hR.s0) ?_
  refine m_S (c_X6_stampAt hE) X hH.2 (lw_S q1551 q1552 q72 q1553) hds_X6_stampAt ⟨Nat.le_of_ble_eq_true rfl, Nat.le_of_ble_eq_true rfl⟩ ⟨Nat.le_refl _, Nat.le_refl _⟩ rfl hl.1 rfl (Nat.le_of_ble_eq_true rfl) dX6_comes_6 ?_
  refine lv_istore (lv' := [(4, .int (nI (7 + 9 * (nS f1)))), (0, .ref (a 0)), (1, .int (nI wN)), (2, .int (nI fN)), (3, .int (nI nN))]) hx hb dX6_comes_9 hl (by decide) rfl (fun ls hl => ?_)
  refine lv_aload_n hx hb dX6_comes_11 rfl (lv_at hl 1 rfl) ?_
  refine lv_iload hx hb dX6_comes_12 (lv_at hl 0 rfl) ?_
  refine m_Mv (c_X6_clears (tN := 7 + 9 * nS f1) hE (by omega)) X hH (lw_V q1554 q1556 qs27 q72 q1557) hdv_X6_clears ⟨Nat.le_of_ble_eq_true rfl, Nat.le_of_ble_eq_true rfl⟩ ⟨Nat.le_refl _, Nat.le_refl _⟩ rfl hl.1 rfl (Nat.le_of_ble_eq_true rfl) dX6_comes_14 (fun w H locs hq hH => ?_)
  obtain rfl := hq
  refine lv_aload_n hx hb dX6_comes_17 rfl (lv_at hl 1 rfl) ?_
  refine m_g0 X hH.mp dX6_comes_18 ?_
  refine lv_iload hx hb dX6_comes_21 (lv_at hl 0 rfl) ?_
  refine lv_iload_n hx hb dX6_comes_23 rfl (lv_at hl 4 rfl) ?_
  refine m_st1 X hH (by omega) dX6_comes_24 (fun f1_1 H locs ef1_1 hH => ?_)
  refine lv_iconst (v := nI 0) hx hb dX6_comes_25 (by decide) ?_
  refine lv_istore (lv' := [(5, .int (nI 0)), (4, .int (nI (7 + 9 * (nS f1)))), (0, .ref (a 0)), (1, .int (nI wN)), (2, .int (nI fN)), (3, .int (nI nN))]) hx hb dX6_comes_26 hl (by decide) rfl (fun ls hl => ?_)
  have lp : ∀ (fu : Nat) (jN : Nat) (f1v : Nat → Int32), (jN ≤ nN) → (∀ k, k < 195 → f1v k = if k = 7 + 9 * nS f1 then nI nN else if 7 + 9 * nS f1 + 1 ≤ k ∧ k < 7 + 9 * nS f1 + 1 + jN then f1 (97 + 14 * wN + 2 + fN + (k - (7 + 9 * nS f1 + 1))) else clrR f1 (7 + 9 * nS f1) k) → nN - jN < fu → ∀ (H : Heap) (locs : List Loc), HH G sT (mw G a x4 x5 x7 x8 x11 x15 f1v f2 f3 f4 f5 f6 f7 f8 f9 f10 f11 h ++ wr) H locs → ∀ ls : Array Slot, lv_has ls 6 [(0, .ref (a 0)), (1, .int (nI wN)), (2, .int (nI fN)), (3, .int (nI nN)), (4, .int (nI (7 + 9 * (nS f1)))), (5, .int (nI jN))] → W pR l eV (Rm 2 0 0) sT mI ([.ref (a 0), .int (nI wN), .int (nI fN), .int (nI nN)] : List Value).toArray below meth cd H locs 0 0 QQ (F0 mI 28 ls []) := by
    intro fu
    induction fu with
    | zero => intro jN f1v hj hg hm; exact absurd hm (Nat.not_lt_zero _)
    | succ fu ih_lp =>
      intro jN f1v hj hg hm H locs hH ls hl
      refine lv_iload hx hb dX6_comes_28 (lv_at hl 5 rfl) ?_
      refine lv_iload_n hx hb dX6_comes_30 rfl (lv_at hl 3 rfl) ?_
      refine n_icmp_ge (tgt := 68) hx hb (by omega) (by omega) dX6_comes_31 (by decide) (fun c1 => ?_) (fun c1 => ?_)
      · have hjn : jN = nN := by omega
        have h00 : f1v 0 = nI (nS f1) := by rw [hg 0 (by omega), if_neg (by omega), if_neg (by omega), clrR_lo (by omega)]; exact hR.s0
        refine lv_aload_n hx hb dX6_comes_68 rfl (lv_at hl 0 rfl) ?_
        refine m_g0 X hH.mp dX6_comes_69 ?_
        refine lv_iconst (v := nI 0) hx hb dX6_comes_72 (by decide) ?_
        refine lv_dup2_11 hx hb dX6_comes_73 rfl rfl ?_
        refine m_ld1 X hH.mp (by omega) dX6_comes_74 ?_
        refine n_top (y := nI (nS f1)) (h00) ?_
        refine lv_iconst (v := nI 1) hx hb dX6_comes_75 (by decide) ?_
        refine n_iadd hx hb dX6_comes_76 ?_
        refine m_st1 X hH (by omega) dX6_comes_77 (fun f1_2 H locs ef1_2 hH => ?_)
        refine lv_aload_n hx hb dX6_comes_78 rfl (lv_at hl 0 rfl) ?_
        refine m_g0 X hH.mp dX6_comes_79 ?_
        refine lv_iconst (v := nI 0) hx hb dX6_comes_82 (by decide) ?_
        refine m_ld1 X hH.mp (by omega) dX6_comes_83 ?_
        refine n_top (y := nI (nS f1 + 1)) (by rw [ef1_2, pk_us]) ?_
        refine lv_iconst (v := nI 1) hx hb dX6_comes_84 (by decide) ?_
        refine n_isub hx hb (by omega) dX6_comes_85 ?_
        refine n_top (y := nI (nS f1)) (by rw [Nat.add_sub_cancel]) ?_
        have hH := m_cg1 (g := comR f1 wN fN nN) (fun k hk => by rw [ef1_2]; unfold comR; by_cases q : k = 0; exact (by rw [if_pos q, q, pk_us]); exact (by rw [if_neg q, pk_un q, hg k hk, hjn])) hH
        exact ret _ _ _ _ _ _ _ _ hH (⟨rfl, rfl⟩) (Nat.le_refl _) (Nat.le_refl _) dX6_comes_86
      · refine lv_aload_n hx hb dX6_comes_34 rfl (lv_at hl 0 rfl) ?_
        refine m_g0 X hH.mp dX6_comes_35 ?_
        refine lv_iload hx hb dX6_comes_38 (lv_at hl 4 rfl) ?_
        refine lv_iconst (v := nI 1) hx hb dX6_comes_40 (by decide) ?_
        refine n_iadd hx hb dX6_comes_41 ?_
        refine lv_iload hx hb dX6_comes_42 (lv_at hl 5 rfl) ?_
        refine n_iadd hx hb dX6_comes_44 ?_
        refine lv_aload_n hx hb dX6_comes_45 rfl (lv_at hl 0 rfl) ?_
        refine m_g0 X hH.mp dX6_comes_46 ?_
        refine lv_iload_n hx hb dX6_comes_49 rfl (lv_at hl 1 rfl) ?_
        refine m_S (c_X6_wordAt hE) X hH.2 (lw_S q1562 q1563 q72 q1564) hds_X6_wordAt ⟨Nat.le_of_ble_eq_true rfl, Nat.le_of_ble_eq_true rfl⟩ ⟨Nat.le_refl _, Nat.le_refl _⟩ rfl hl.1 rfl (Nat.le_of_ble_eq_true rfl) dX6_comes_50 ?_
        refine lv_iconst (v := nI 2) hx hb dX6_comes_53 (by decide) ?_
        refine n_iadd hx hb dX6_comes_54 ?_
        refine lv_iload_n hx hb dX6_comes_55 rfl (lv_at hl 2 rfl) ?_
        refine n_iadd hx hb dX6_comes_56 ?_
        refine lv_iload hx hb dX6_comes_57 (lv_at hl 5 rfl) ?_
        refine n_iadd hx hb dX6_comes_59 ?_
        refine m_ld1 X hH.mp (by omega) dX6_comes_60 ?_
        refine n_top (y := f1 (97 + 14 * wN + 2 + fN + jN)) (by rw [hg _ (by omega), if_neg (by omega), if_neg (by omega)]; unfold clrR; rw [if_neg (by omega), if_neg (by omega)]) ?_
        refine m_st1 X hH (by omega) dX6_comes_61 (fun f1_3 H locs ef1_3 hH => ?_)
        refine lv_iinc (v := nI (jN + 1)) (lv' := [(5, .int (nI (jN + 1))), (0, .ref (a 0)), (1, .int (nI wN)), (2, .int (nI fN)), (3, .int (nI nN)), (4, .int (nI (7 + 9 * (nS f1))))]) hx hb dX6_comes_62 hl (k := 5) rfl (nI_add _ 1) (by decide) rfl (fun ls hl => ?_)
        refine lv_goto (tgt := 28) hx hb dX6_comes_65 (by decide) ?_
        exact ih_lp (jN + 1) f1_3 (by omega) (fun k hk => by rw [ef1_3]; by_cases q : k = 7 + 9 * nS f1 + 1 + jN; exact (by rw [q, pk_us, if_neg (by omega), if_pos (by omega), show 7 + 9 * nS f1 + 1 + jN - (7 + 9 * nS f1 + 1) = jN by omega]); exact (by rw [pk_un q, hg k hk]; by_cases q1 : k = 7 + 9 * nS f1; exact (by rw [if_pos q1, if_pos q1]); exact (by rw [if_neg q1, if_neg q1]; by_cases q2 : 7 + 9 * nS f1 + 1 ≤ k ∧ k < 7 + 9 * nS f1 + 1 + jN; exact (by rw [if_pos q2, if_pos (by omega)]); exact (by rw [if_neg q2, if_neg (by omega)])))) (by omega) _ _ hH ls (lv_sub hl [1, 2, 3, 4, 5, 0] rfl)
  exact lp _ 0 f1_1 (Nat.zero_le _) (fun k hk => by rw [ef1_1]; by_cases q : k = 7 + 9 * nS f1; exact (by rw [if_pos q, q, pk_us]); exact (by rw [if_neg q, if_neg (by omega), pk_un q])) (Nat.lt_succ_self _) _ _ hH ls (lv_sub hl [2, 3, 4, 5, 1, 0] rfl)
theorem hdv_X6_cut : yX6_cut.cls = RX6 ∧ yX6_cut.cls ≠ "java/lang/invoke/MethodHandle" ∧ yX6_cut.cls ≠ "java/lang/invoke/VarHandle" ∧ (parseMethodDescriptor yX6_cut.desc).map (fun d => d.parameters.length) = some 3 := by decide +kernel
theorem c_X6_cut_1 (hE : EnvOK G E) {x y z9 : Int32} (hR : ROk f1) (hB : idB x (nW f1) = false) : MU vI l G E yX6_cut cX6_cut 4 (some .int) 3 0 0 [.ref (a 0), .int x, .int y, .int z9] (mw G a x4 x5 x7 x8 x11 x15 f1 f2 f3 f4 f5 f6 f7 f8 f9 f10 f11 h ++ wr) (fun r w => r = nI 0 ∧ w = mw G a x4 (nI 1) x7 x8 x11 x15 f1 f2 f3 f4 f5 f6 f7 f8 f9 f10 f11 h ++ wr) := by
  refine MUi hE (by decide) (Nat.le_of_ble_eq_true rfl) (fun pR eV sT mI below meth cd QQ ls X hH hl ret => ?_)
  obtain ⟨⟨hx, hb, hml, hown, hts⟩, ⟨hr, hlk⟩, -, -, -⟩ := id X
  have hl : lv_has ls 4 [(0, .ref (a 0)), (1, .int x), (2, .int y), (3, .int z9)] := hl
  refine wgen (H := sT.heap) (locs := []) hH (fun H locs hH => ?_)
  have hm := hR.s1
  refine lv_aload_n hx hb dX6_cut_0 rfl (lv_at hl 0 rfl) ?_
  refine lv_aload_n hx hb dX6_cut_1 rfl (lv_at hl 0 rfl) ?_
  refine lv_iload_n hx hb dX6_cut_2 rfl (lv_at hl 1 rfl) ?_
  refine m_R (c_X6_isWord hE hR) X hH.2 hH.mp (lw_V q1577 q1579 qs31 q72 q1580) hdv_X6_isWord ⟨Nat.le_of_ble_eq_true rfl, Nat.le_of_ble_eq_true rfl⟩ ⟨Nat.le_refl _, Nat.le_refl _⟩ rfl hl.1 rfl (Nat.le_of_ble_eq_true rfl) dX6_cut_3 ?_
  refine n_top (y := nI 0) (by rw [hB]; rfl) ?_
  refine lv_if_ne (tgt := 13) hx hb dX6_cut_6 (by decide) (fun h => absurd rfl h) (fun _ => ?_)
  refine lv_iconst (v := nI 1) hx hb dX6_cut_9 (by decide) ?_
  refine lv_goto (tgt := 43) hx hb dX6_cut_10 (by decide) ?_
  refine m_Mi (c_X6_refused (cN := 1) hE (by omega)) X hH (lw_V q1520 q1522 qs23 q72 q1523) hdv_X6_refused ⟨Nat.le_of_ble_eq_true rfl, Nat.le_of_ble_eq_true rfl⟩ ⟨Nat.le_refl _, Nat.le_refl _⟩ rfl hl.1 rfl (Nat.le_of_ble_eq_true rfl) dX6_cut_43 (fun r w H locs hq hH => ?_)
  obtain ⟨rfl, rfl⟩ := hq
  refine n_top (y := bI true) (rfl) ?_
  refine n_top (y := nI 1) (rfl) ?_
  refine lv_if_eq (tgt := 51) hx hb dX6_cut_46 (by decide) (fun h => absurd h (by decide)) (fun _ => ?_)
  refine lv_iconst (v := nI 0) hx hb dX6_cut_49 (by decide) ?_
  exact ret _ _ _ _ _ _ _ _ hH (⟨rfl, rfl⟩) (Nat.le_refl _) (Nat.le_refl _) dX6_cut_50
theorem c_X6_cut_2 (hE : EnvOK G E) {wN : Nat} {x y9 : Int32} (hR : ROk f1) (hw : wN < nW f1) (hB : prtB f1 wN x y9 = false) : MU vI l G E yX6_cut cX6_cut 4 (some .int) 3 0 0 [.ref (a 0), .int (nI wN), .int x, .int y9] (mw G a x4 x5 x7 x8 x11 x15 f1 f2 f3 f4 f5 f6 f7 f8 f9 f10 f11 h ++ wr) (fun r w => r = nI 0 ∧ w = mw G a x4 (nI 2) x7 x8 x11 x15 f1 f2 f3 f4 f5 f6 f7 f8 f9 f10 f11 h ++ wr) := by
  refine MUi hE (by decide) (Nat.le_of_ble_eq_true rfl) (fun pR eV sT mI below meth cd QQ ls X hH hl ret => ?_)
  obtain ⟨⟨hx, hb, hml, hown, hts⟩, ⟨hr, hlk⟩, -, -, -⟩ := id X
  have hl : lv_has ls 4 [(0, .ref (a 0)), (1, .int (nI wN)), (2, .int x), (3, .int y9)] := hl
  refine wgen (H := sT.heap) (locs := []) hH (fun H locs hH => ?_)
  have hm := hR.s1
  refine lv_aload_n hx hb dX6_cut_0 rfl (lv_at hl 0 rfl) ?_
  refine lv_aload_n hx hb dX6_cut_1 rfl (lv_at hl 0 rfl) ?_
  refine lv_iload_n hx hb dX6_cut_2 rfl (lv_at hl 1 rfl) ?_
  refine m_R (c_X6_isWord hE hR) X hH.2 hH.mp (lw_V q1577 q1579 qs31 q72 q1580) hdv_X6_isWord ⟨Nat.le_of_ble_eq_true rfl, Nat.le_of_ble_eq_true rfl⟩ ⟨Nat.le_refl _, Nat.le_refl _⟩ rfl hl.1 rfl (Nat.le_of_ble_eq_true rfl) dX6_cut_3 ?_
  refine n_top (y := nI 1) (by rw [idB_t hw (by have := hR.w1; omega)]; rfl) ?_
  refine lv_if_ne (tgt := 13) hx hb dX6_cut_6 (by decide) (fun _ => ?_) (fun h => absurd h (by decide))
  refine lv_aload_n hx hb dX6_cut_13 rfl (lv_at hl 0 rfl) ?_
  refine lv_iload_n hx hb dX6_cut_14 rfl (lv_at hl 1 rfl) ?_
  refine lv_iload_n hx hb dX6_cut_15 rfl (lv_at hl 2 rfl) ?_
  refine lv_iload_n hx hb dX6_cut_16 rfl (lv_at hl 3 rfl) ?_
  refine m_R (c_X6_isPart hE hR hw) X hH.2 hH.mp (lw_V q1581 q1583 qs32 q72 q1584) hdv_X6_isPart ⟨Nat.le_of_ble_eq_true rfl, Nat.le_of_ble_eq_true rfl⟩ ⟨Nat.le_refl _, Nat.le_refl _⟩ rfl hl.1 rfl (Nat.le_of_ble_eq_true rfl) dX6_cut_17 ?_
  refine n_top (y := nI 0) (by rw [hB]; rfl) ?_
  refine lv_if_ne (tgt := 27) hx hb dX6_cut_20 (by decide) (fun h => absurd rfl h) (fun _ => ?_)
  refine lv_iconst (v := nI 2) hx hb dX6_cut_23 (by decide) ?_
  refine lv_goto (tgt := 43) hx hb dX6_cut_24 (by decide) ?_
  refine m_Mi (c_X6_refused (cN := 2) hE (by omega)) X hH (lw_V q1520 q1522 qs23 q72 q1523) hdv_X6_refused ⟨Nat.le_of_ble_eq_true rfl, Nat.le_of_ble_eq_true rfl⟩ ⟨Nat.le_refl _, Nat.le_refl _⟩ rfl hl.1 rfl (Nat.le_of_ble_eq_true rfl) dX6_cut_43 (fun r w H locs hq hH => ?_)
  obtain ⟨rfl, rfl⟩ := hq
  refine n_top (y := bI true) (rfl) ?_
  refine n_top (y := nI 1) (rfl) ?_
  refine lv_if_eq (tgt := 51) hx hb dX6_cut_46 (by decide) (fun h => absurd h (by decide)) (fun _ => ?_)
  refine lv_iconst (v := nI 0) hx hb dX6_cut_49 (by decide) ?_
  exact ret _ _ _ _ _ _ _ _ hH (⟨rfl, rfl⟩) (Nat.le_refl _) (Nat.le_refl _) dX6_cut_50
theorem c_X6_cut_3 (hE : EnvOK G E) {wN fN nL : Nat} (hR : ROk f1) (hw : wN < nW f1) (hB : prtB f1 wN (nI fN) (nI nL) = true) (hs : nS f1 = 10) : MU vI l G E yX6_cut cX6_cut 4 (some .int) 3 0 0 [.ref (a 0), .int (nI wN), .int (nI fN), .int (nI nL)] (mw G a x4 x5 x7 x8 x11 x15 f1 f2 f3 f4 f5 f6 f7 f8 f9 f10 f11 h ++ wr) (fun r w => r = nI 0 ∧ w = mw G a x4 (nI 3) x7 x8 x11 x15 f1 f2 f3 f4 f5 f6 f7 f8 f9 f10 f11 h ++ wr) := by
  refine MUi hE (by decide) (Nat.le_of_ble_eq_true rfl) (fun pR eV sT mI below meth cd QQ ls X hH hl ret => ?_)
  obtain ⟨⟨hx, hb, hml, hown, hts⟩, ⟨hr, hlk⟩, -, -, -⟩ := id X
  have hl : lv_has ls 4 [(0, .ref (a 0)), (1, .int (nI wN)), (2, .int (nI fN)), (3, .int (nI nL))] := hl
  refine wgen (H := sT.heap) (locs := []) hH (fun H locs hH => ?_)
  have hm := hR.s1
  refine lv_aload_n hx hb dX6_cut_0 rfl (lv_at hl 0 rfl) ?_
  refine lv_aload_n hx hb dX6_cut_1 rfl (lv_at hl 0 rfl) ?_
  refine lv_iload_n hx hb dX6_cut_2 rfl (lv_at hl 1 rfl) ?_
  refine m_R (c_X6_isWord hE hR) X hH.2 hH.mp (lw_V q1577 q1579 qs31 q72 q1580) hdv_X6_isWord ⟨Nat.le_of_ble_eq_true rfl, Nat.le_of_ble_eq_true rfl⟩ ⟨Nat.le_refl _, Nat.le_refl _⟩ rfl hl.1 rfl (Nat.le_of_ble_eq_true rfl) dX6_cut_3 ?_
  refine n_top (y := nI 1) (by rw [idB_t hw (by have := hR.w1; omega)]; rfl) ?_
  refine lv_if_ne (tgt := 13) hx hb dX6_cut_6 (by decide) (fun _ => ?_) (fun h => absurd h (by decide))
  refine lv_aload_n hx hb dX6_cut_13 rfl (lv_at hl 0 rfl) ?_
  refine lv_iload_n hx hb dX6_cut_14 rfl (lv_at hl 1 rfl) ?_
  refine lv_iload_n hx hb dX6_cut_15 rfl (lv_at hl 2 rfl) ?_
  refine lv_iload_n hx hb dX6_cut_16 rfl (lv_at hl 3 rfl) ?_
  refine m_R (c_X6_isPart hE hR hw) X hH.2 hH.mp (lw_V q1581 q1583 qs32 q72 q1584) hdv_X6_isPart ⟨Nat.le_of_ble_eq_true rfl, Nat.le_of_ble_eq_true rfl⟩ ⟨Nat.le_refl _, Nat.le_refl _⟩ rfl hl.1 rfl (Nat.le_of_ble_eq_true rfl) dX6_cut_17 ?_
  refine n_top (y := nI 1) (by rw [hB]; rfl) ?_
  refine lv_if_ne (tgt := 27) hx hb dX6_cut_20 (by decide) (fun _ => ?_) (fun h => absurd h (by decide))
  refine lv_aload_n hx hb dX6_cut_27 rfl (lv_at hl 0 rfl) ?_
  refine m_g0 X hH.mp dX6_cut_28 ?_
  refine lv_iconst (v := nI 0) hx hb dX6_cut_31 (by decide) ?_
  refine m_ld1 X hH.mp (by omega) dX6_cut_32 ?_
  refine lv_bipush (v := nI 10) hx hb dX6_cut_33 (by decide) ?_
  refine n_top2 (y := nI (nS f1)) (hR.s0) ?_
  refine n_icmp_ne (tgt := 42) hx hb (by omega) (by omega) dX6_cut_35 (by decide) (fun c1 => absurd (by omega) c1) (fun c1 => ?_)
  refine lv_iconst (v := nI 3) hx hb dX6_cut_38 (by decide) ?_
  refine lv_goto (tgt := 43) hx hb dX6_cut_39 (by decide) ?_
  refine m_Mi (c_X6_refused (cN := 3) hE (by omega)) X hH (lw_V q1520 q1522 qs23 q72 q1523) hdv_X6_refused ⟨Nat.le_of_ble_eq_true rfl, Nat.le_of_ble_eq_true rfl⟩ ⟨Nat.le_refl _, Nat.le_refl _⟩ rfl hl.1 rfl (Nat.le_of_ble_eq_true rfl) dX6_cut_43 (fun r w H locs hq hH => ?_)
  obtain ⟨rfl, rfl⟩ := hq
  refine n_top (y := bI true) (rfl) ?_
  refine n_top (y := nI 1) (rfl) ?_
  refine lv_if_eq (tgt := 51) hx hb dX6_cut_46 (by decide) (fun h => absurd h (by decide)) (fun _ => ?_)
  refine lv_iconst (v := nI 0) hx hb dX6_cut_49 (by decide) ?_
  exact ret _ _ _ _ _ _ _ _ hH (⟨rfl, rfl⟩) (Nat.le_refl _) (Nat.le_refl _) dX6_cut_50
theorem c_X6_cut_0 (hE : EnvOK G E) {nN : Nat} {SV : Nat → Nat → Int32} (hn : nN ≤ 4) (hS : ∀ i, i < nN → ∀ k, k < 195 → f2 (195 * i + k) = SV i k) {wN fN nL : Nat} (hR : ROk f1) (hw : wN < nW f1) (hB : prtB f1 wN (nI fN) (nI nL) = true) (hs : nS f1 < 10) (hf : fN + nL ≤ wL f1 wN) (hn5 : nL ≤ 5) : MU vI l G E yX6_cut cX6_cut 4 (some .int) 3 0 0 [.ref (a 0), .int (nI wN), .int (nI fN), .int (nI nL)] (mw G a (nI nN) x5 x7 x8 x11 x15 f1 f2 f3 f4 f5 f6 f7 f8 f9 f10 f11 h ++ wr) (fun r w => ∃ g, (∀ i, i < svN nN → ∀ k, k < 195 → g (195 * i + k) = svF nN SV f1 i k) ∧ r = nI (nS f1) ∧ w = mw G a (nI (svN nN)) (nI 0) x7 x8 x11 x15 (comR f1 wN fN nL) g f3 f4 f5 f6 f7 f8 f9 f10 f11 h ++ wr) := by
  refine MUi hE (by decide) (Nat.le_of_ble_eq_true rfl) (fun pR eV sT mI below meth cd QQ ls X hH hl ret => ?_)
  obtain ⟨⟨hx, hb, hml, hown, hts⟩, ⟨hr, hlk⟩, -, -, -⟩ := id X
  have hl : lv_has ls 4 [(0, .ref (a 0)), (1, .int (nI wN)), (2, .int (nI fN)), (3, .int (nI nL))] := hl
  refine wgen (H := sT.heap) (locs := []) hH (fun H locs hH => ?_)
  have hm := hR.s1
  refine lv_aload_n hx hb dX6_cut_0 rfl (lv_at hl 0 rfl) ?_
  refine lv_aload_n hx hb dX6_cut_1 rfl (lv_at hl 0 rfl) ?_
  refine lv_iload_n hx hb dX6_cut_2 rfl (lv_at hl 1 rfl) ?_
  refine m_R (c_X6_isWord hE hR) X hH.2 hH.mp (lw_V q1577 q1579 qs31 q72 q1580) hdv_X6_isWord ⟨Nat.le_of_ble_eq_true rfl, Nat.le_of_ble_eq_true rfl⟩ ⟨Nat.le_refl _, Nat.le_refl _⟩ rfl hl.1 rfl (Nat.le_of_ble_eq_true rfl) dX6_cut_3 ?_
  refine n_top (y := nI 1) (by rw [idB_t hw (by have := hR.w1; omega)]; rfl) ?_
  refine lv_if_ne (tgt := 13) hx hb dX6_cut_6 (by decide) (fun _ => ?_) (fun h => absurd h (by decide))
  refine lv_aload_n hx hb dX6_cut_13 rfl (lv_at hl 0 rfl) ?_
  refine lv_iload_n hx hb dX6_cut_14 rfl (lv_at hl 1 rfl) ?_
  refine lv_iload_n hx hb dX6_cut_15 rfl (lv_at hl 2 rfl) ?_
  refine lv_iload_n hx hb dX6_cut_16 rfl (lv_at hl 3 rfl) ?_
  refine m_R (c_X6_isPart hE hR hw) X hH.2 hH.mp (lw_V q1581 q1583 qs32 q72 q1584) hdv_X6_isPart ⟨Nat.le_of_ble_eq_true rfl, Nat.le_of_ble_eq_true rfl⟩ ⟨Nat.le_refl _, Nat.le_refl _⟩ rfl hl.1 rfl (Nat.le_of_ble_eq_true rfl) dX6_cut_17 ?_
  refine n_top (y := nI 1) (by rw [hB]; rfl) ?_
  refine lv_if_ne (tgt := 27) hx hb dX6_cut_20 (by decide) (fun _ => ?_) (fun h => absurd h (by decide))
  refine lv_aload_n hx hb dX6_cut_27 rfl (lv_at hl 0 rfl) ?_
  refine m_g0 X hH.mp dX6_cut_28 ?_
  refine lv_iconst (v := nI 0) hx hb dX6_cut_31 (by decide) ?_
  refine m_ld1 X hH.mp (by omega) dX6_cut_32 ?_
  refine lv_bipush (v := nI 10) hx hb dX6_cut_33 (by decide) ?_
  refine n_top2 (y := nI (nS f1)) (hR.s0) ?_
  refine n_icmp_ne (tgt := 42) hx hb (by omega) (by omega) dX6_cut_35 (by decide) (fun c1 => ?_) (fun c1 => absurd c1 (by omega))
  refine lv_iconst (v := nI 0) hx hb dX6_cut_42 (by decide) ?_
  refine m_Mi (c_X6_refused (cN := 0) hE (by omega)) X hH (lw_V q1520 q1522 qs23 q72 q1523) hdv_X6_refused ⟨Nat.le_of_ble_eq_true rfl, Nat.le_of_ble_eq_true rfl⟩ ⟨Nat.le_refl _, Nat.le_refl _⟩ rfl hl.1 rfl (Nat.le_of_ble_eq_true rfl) dX6_cut_43 (fun r w H locs hq hH => ?_)
  obtain ⟨rfl, rfl⟩ := hq
  refine n_top (y := bI false) (rfl) ?_
  refine n_top (y := nI 0) (rfl) ?_
  refine lv_if_eq (tgt := 51) hx hb dX6_cut_46 (by decide) (fun _ => ?_) (fun h => absurd rfl h)
  refine lv_aload_n hx hb dX6_cut_51 rfl (lv_at hl 0 rfl) ?_
  refine m_Mv (c_X6_saves (SV := SV) hE hn hS) X hH (lw_V q1569 q1571 qs30 q72 q1572) hdv_X6_saves ⟨Nat.le_of_ble_eq_true rfl, Nat.le_of_ble_eq_true rfl⟩ ⟨Nat.le_refl _, Nat.le_refl _⟩ rfl hl.1 rfl (Nat.le_of_ble_eq_true rfl) dX6_cut_52 (fun w H locs hq hH => ?_)
  obtain ⟨g2, hg2, rfl⟩ := hq
  refine lv_aload_n hx hb dX6_cut_55 rfl (lv_at hl 0 rfl) ?_
  refine lv_iload_n hx hb dX6_cut_56 rfl (lv_at hl 1 rfl) ?_
  refine lv_iload_n hx hb dX6_cut_57 rfl (lv_at hl 2 rfl) ?_
  refine lv_iload_n hx hb dX6_cut_58 rfl (lv_at hl 3 rfl) ?_
  refine m_Mi (c_X6_comes hE hR hw hs hf hn5) X hH (lw_V q1585 q1587 qs33 q72 q1588) hdv_X6_comes ⟨Nat.le_of_ble_eq_true rfl, Nat.le_of_ble_eq_true rfl⟩ ⟨Nat.le_refl _, Nat.le_refl _⟩ rfl hl.1 rfl (Nat.le_of_ble_eq_true rfl) dX6_cut_59 (fun r w H locs hq hH => ?_)
  obtain ⟨rfl, rfl⟩ := hq
  exact ret _ _ _ _ _ _ _ _ hH (⟨g2, hg2, rfl, rfl⟩) (Nat.le_refl _) (Nat.le_refl _) dX6_cut_62
theorem hdv_X6_remove : yX6_remove.cls = RX6 ∧ yX6_remove.cls ≠ "java/lang/invoke/MethodHandle" ∧ yX6_remove.cls ≠ "java/lang/invoke/VarHandle" ∧ (parseMethodDescriptor yX6_remove.desc).map (fun d => d.parameters.length) = some 1 := by decide +kernel
theorem c_X6_remove_1 (hE : EnvOK G E) {x : Int32} (hR : ROk f1) (hB : idB x (nS f1) = false) : MU vI l G E yX6_remove cX6_remove 3 (some .int) 3 0 0 [.ref (a 0), .int x] (mw G a x4 x5 x7 x8 x11 x15 f1 f2 f3 f4 f5 f6 f7 f8 f9 f10 f11 h ++ wr) (fun r w => r = nI 0 ∧ w = mw G a x4 (nI 1) x7 x8 x11 x15 f1 f2 f3 f4 f5 f6 f7 f8 f9 f10 f11 h ++ wr) := by
  refine MUi hE (by decide) (Nat.le_of_ble_eq_true rfl) (fun pR eV sT mI below meth cd QQ ls X hH hl ret => ?_)
  obtain ⟨⟨hx, hb, hml, hown, hts⟩, ⟨hr, hlk⟩, -, -, -⟩ := id X
  have hl : lv_has ls 3 [(0, .ref (a 0)), (1, .int x)] := hl
  refine wgen (H := sT.heap) (locs := []) hH (fun H locs hH => ?_)
  refine lv_aload_n hx hb dX6_remove_0 rfl (lv_at hl 0 rfl) ?_
  refine lv_aload_n hx hb dX6_remove_1 rfl (lv_at hl 0 rfl) ?_
  refine lv_iload_n hx hb dX6_remove_2 rfl (lv_at hl 1 rfl) ?_
  refine m_R (c_X6_isStamp hE hR) X hH.2 hH.mp (lw_V q1593 q1595 qs34 q72 q1596) hdv_X6_isStamp ⟨Nat.le_of_ble_eq_true rfl, Nat.le_of_ble_eq_true rfl⟩ ⟨Nat.le_refl _, Nat.le_refl _⟩ rfl hl.1 rfl (Nat.le_of_ble_eq_true rfl) dX6_remove_3 ?_
  refine n_top (y := nI 0) (by rw [hB]; rfl) ?_
  refine lv_if_eq (tgt := 13) hx hb dX6_remove_6 (by decide) (fun _ => ?_) (fun h => absurd rfl h)
  refine lv_iconst (v := nI 1) hx hb dX6_remove_13 (by decide) ?_
  refine m_Mi (c_X6_refused (cN := 1) hE (by omega)) X hH (lw_V q1520 q1522 qs23 q72 q1523) hdv_X6_refused ⟨Nat.le_of_ble_eq_true rfl, Nat.le_of_ble_eq_true rfl⟩ ⟨Nat.le_refl _, Nat.le_refl _⟩ rfl hl.1 rfl (Nat.le_of_ble_eq_true rfl) dX6_remove_14 (fun r w H locs hq hH => ?_)
  obtain ⟨rfl, rfl⟩ := hq
  refine n_top (y := bI true) (rfl) ?_
  refine n_top (y := nI 1) (rfl) ?_
  refine lv_if_eq (tgt := 22) hx hb dX6_remove_17 (by decide) (fun h => absurd h (by decide)) (fun _ => ?_)
  refine lv_iconst (v := nI 0) hx hb dX6_remove_20 (by decide) ?_
  exact ret _ _ _ _ _ _ _ _ hH (⟨rfl, rfl⟩) (Nat.le_refl _) (Nat.le_refl _) dX6_remove_21
theorem c_X6_remove_0 (hE : EnvOK G E) {nN : Nat} {SV : Nat → Nat → Int32} (hn : nN ≤ 4) (hS : ∀ i, i < nN → ∀ k, k < 195 → f2 (195 * i + k) = SV i k) {sN : Nat} (hR : ROk f1) (hs : sN < nS f1) : MU vI l G E yX6_remove cX6_remove 3 (some .int) 3 0 0 [.ref (a 0), .int (nI sN)] (mw G a (nI nN) x5 x7 x8 x11 x15 f1 f2 f3 f4 f5 f6 f7 f8 f9 f10 f11 h ++ wr) (fun r w => ∃ g, (∀ i, i < svN nN → ∀ k, k < 195 → g (195 * i + k) = svF nN SV f1 i k) ∧ r = nI (nS f1 - 1) ∧ w = mw G a (nI (svN nN)) (nI 0) x7 x8 x11 x15 (rmvR f1 sN) g f3 f4 f5 f6 f7 f8 f9 f10 f11 h ++ wr) := by
  refine MUi hE (by decide) (Nat.le_of_ble_eq_true rfl) (fun pR eV sT mI below meth cd QQ ls X hH hl ret => ?_)
  obtain ⟨⟨hx, hb, hml, hown, hts⟩, ⟨hr, hlk⟩, -, -, -⟩ := id X
  have hl : lv_has ls 3 [(0, .ref (a 0)), (1, .int (nI sN))] := hl
  refine wgen (H := sT.heap) (locs := []) hH (fun H locs hH => ?_)
  have hm := hR.s1
  have hw9 := hR.w1
  refine lv_aload_n hx hb dX6_remove_0 rfl (lv_at hl 0 rfl) ?_
  refine lv_aload_n hx hb dX6_remove_1 rfl (lv_at hl 0 rfl) ?_
  refine lv_iload_n hx hb dX6_remove_2 rfl (lv_at hl 1 rfl) ?_
  refine m_R (c_X6_isStamp hE hR) X hH.2 hH.mp (lw_V q1593 q1595 qs34 q72 q1596) hdv_X6_isStamp ⟨Nat.le_of_ble_eq_true rfl, Nat.le_of_ble_eq_true rfl⟩ ⟨Nat.le_refl _, Nat.le_refl _⟩ rfl hl.1 rfl (Nat.le_of_ble_eq_true rfl) dX6_remove_3 ?_
  refine n_top (y := nI 1) (by rw [idB_t hs (by omega)]; rfl) ?_
  refine lv_if_eq (tgt := 13) hx hb dX6_remove_6 (by decide) (fun h => absurd h (by decide)) (fun _ => ?_)
  refine lv_iconst (v := nI 0) hx hb dX6_remove_9 (by decide) ?_
  refine lv_goto (tgt := 14) hx hb dX6_remove_10 (by decide) ?_
  refine m_Mi (c_X6_refused (cN := 0) hE (by omega)) X hH (lw_V q1520 q1522 qs23 q72 q1523) hdv_X6_refused ⟨Nat.le_of_ble_eq_true rfl, Nat.le_of_ble_eq_true rfl⟩ ⟨Nat.le_refl _, Nat.le_refl _⟩ rfl hl.1 rfl (Nat.le_of_ble_eq_true rfl) dX6_remove_14 (fun r w H locs hq hH => ?_)
  obtain ⟨rfl, rfl⟩ := hq
  refine n_top (y := bI false) (rfl) ?_
  refine n_top (y := nI 0) (rfl) ?_
  refine lv_if_eq (tgt := 22) hx hb dX6_remove_17 (by decide) (fun _ => ?_) (fun h => absurd rfl h)
  refine lv_aload_n hx hb dX6_remove_22 rfl (lv_at hl 0 rfl) ?_
  refine m_Mv (c_X6_saves (SV := SV) hE hn hS) X hH (lw_V q1569 q1571 qs30 q72 q1572) hdv_X6_saves ⟨Nat.le_of_ble_eq_true rfl, Nat.le_of_ble_eq_true rfl⟩ ⟨Nat.le_refl _, Nat.le_refl _⟩ rfl hl.1 rfl (Nat.le_of_ble_eq_true rfl) dX6_remove_23 (fun w H locs hq hH => ?_)
  obtain ⟨g2, hg2, rfl⟩ := hq
  refine lv_aload_n hx hb dX6_remove_26 rfl (lv_at hl 0 rfl) ?_
  refine m_g0 X hH.mp dX6_remove_27 ?_
  refine lv_iconst (v := nI 0) hx hb dX6_remove_30 (by decide) ?_
  refine lv_dup2_11 hx hb dX6_remove_31 rfl rfl ?_
  refine m_ld1 X hH.mp (by omega) dX6_remove_32 ?_
  refine n_top (y := nI (nS f1)) (hR.s0) ?_
  refine lv_iconst (v := nI 1) hx hb dX6_remove_33 (by decide) ?_
  refine n_isub hx hb (by omega) dX6_remove_34 ?_
  refine m_st1 X hH (by omega) dX6_remove_35 (fun f1_1 H locs ef1_1 hH => ?_)
  refine lv_iload_n hx hb dX6_remove_36 rfl (lv_at hl 1 rfl) ?_
  refine m_S (c_X6_stampAt hE) X hH.2 (lw_S q1551 q1552 q72 q1553) hds_X6_stampAt ⟨Nat.le_of_ble_eq_true rfl, Nat.le_of_ble_eq_true rfl⟩ ⟨Nat.le_refl _, Nat.le_refl _⟩ rfl hl.1 rfl (Nat.le_of_ble_eq_true rfl) dX6_remove_37 ?_
  refine lv_istore_n (lv' := [(2, .int (nI (7 + 9 * sN))), (0, .ref (a 0)), (1, .int (nI sN))]) hx hb dX6_remove_40 rfl hl (by decide) rfl (fun ls hl => ?_)
  have lp : ∀ (fu : Nat) (kN : Nat) (f1v : Nat → Int32), (7 + 9 * sN ≤ kN) → (kN ≤ 7 + 9 * (nS f1 - 1)) → (f1v 0 = nI (nS f1 - 1)) → (∀ k, ¬ k = 0 → k < 7 + 9 * sN → f1v k = f1 k) → (∀ k, 7 + 9 * sN ≤ k → k < kN → f1v k = f1 (k + 9)) → (∀ k, ¬ k = 0 → kN ≤ k → k < 195 → f1v k = f1 k) → 195 - kN < fu → ∀ (H : Heap) (locs : List Loc), HH G sT (mw G a (nI (svN nN)) (nI 0) x7 x8 x11 x15 f1v g2 f3 f4 f5 f6 f7 f8 f9 f10 f11 h ++ wr) H locs → ∀ ls : Array Slot, lv_has ls 3 [(0, .ref (a 0)), (1, .int (nI sN)), (2, .int (nI kN))] → W pR l eV (Rm 3 0 0) sT mI ([.ref (a 0), .int (nI sN)] : List Value).toArray below meth cd H locs 0 0 QQ (F0 mI 41 ls []) := by
    intro fu
    induction fu with
    | zero => intro kN f1v hk hk2 hlo hg0 hg1 hgc hm; exact absurd hm (Nat.not_lt_zero _)
    | succ fu ih_lp =>
      intro kN f1v hk hk2 hlo hg0 hg1 hgc hm H locs hH ls hl
      refine lv_iload_n hx hb dX6_remove_41 rfl (lv_at hl 2 rfl) ?_
      refine lv_aload_n hx hb dX6_remove_42 rfl (lv_at hl 0 rfl) ?_
      refine m_g0 X hH.mp dX6_remove_43 ?_
      refine lv_iconst (v := nI 0) hx hb dX6_remove_46 (by decide) ?_
      refine m_ld1 X hH.mp (by omega) dX6_remove_47 ?_
      refine n_top (y := nI (nS f1 - 1)) (by rw [hlo]) ?_
      refine m_S (c_X6_stampAt hE) X hH.2 (lw_S q1551 q1552 q72 q1553) hds_X6_stampAt ⟨Nat.le_of_ble_eq_true rfl, Nat.le_of_ble_eq_true rfl⟩ ⟨Nat.le_refl _, Nat.le_refl _⟩ rfl hl.1 rfl (Nat.le_of_ble_eq_true rfl) dX6_remove_48 ?_
      refine n_icmp_ge (tgt := 75) hx hb (by omega) (by omega) dX6_remove_51 (by decide) (fun c1 => ?_) (fun c1 => ?_)
      · refine lv_aload_n hx hb dX6_remove_75 rfl (lv_at hl 0 rfl) ?_
        refine m_g0 X hH.mp dX6_remove_76 ?_
        refine lv_iconst (v := nI 0) hx hb dX6_remove_79 (by decide) ?_
        refine m_ld1 X hH.mp (by omega) dX6_remove_80 ?_
        refine n_top (y := nI (nS f1 - 1)) (by rw [hlo]) ?_
        have hH := m_cg1 (g := rmvR f1 sN) (fun k hk => by unfold rmvR; by_cases q : k = 0; exact (by rw [if_pos q, q, hlo]); exact (by rw [if_neg q]; by_cases q2 : 7 + 9 * sN ≤ k ∧ k < 7 + 9 * (nS f1 - 1); exact (by rw [if_pos q2, hg1 k (by omega) (by omega)]); exact (by rw [if_neg q2]; rcases Nat.lt_or_ge k (7 + 9 * sN) with q3 | q3; exact (hg0 k q q3).symm; exact (hgc k q (by omega) hk).symm))) hH
        exact ret _ _ _ _ _ _ _ _ hH (⟨g2, hg2, rfl, rfl⟩) (Nat.le_refl _) (Nat.le_refl _) dX6_remove_81
      · refine lv_aload_n hx hb dX6_remove_54 rfl (lv_at hl 0 rfl) ?_
        refine m_g0 X hH.mp dX6_remove_55 ?_
        refine lv_iload_n hx hb dX6_remove_58 rfl (lv_at hl 2 rfl) ?_
        refine lv_aload_n hx hb dX6_remove_59 rfl (lv_at hl 0 rfl) ?_
        refine m_g0 X hH.mp dX6_remove_60 ?_
        refine lv_iload_n hx hb dX6_remove_63 rfl (lv_at hl 2 rfl) ?_
        refine lv_bipush (v := nI 9) hx hb dX6_remove_64 (by decide) ?_
        refine n_iadd hx hb dX6_remove_66 ?_
        refine m_ld1 X hH.mp (by omega) dX6_remove_67 ?_
        refine m_st1 X hH (by omega) dX6_remove_68 (fun f1_2 H locs ef1_2 hH => ?_)
        refine lv_iinc (v := nI (kN + 1)) (lv' := [(2, .int (nI (kN + 1))), (0, .ref (a 0)), (1, .int (nI sN))]) hx hb dX6_remove_69 hl (k := 2) rfl (nI_add _ 1) (by decide) rfl (fun ls hl => ?_)
        refine lv_goto (tgt := 41) hx hb dX6_remove_72 (by decide) ?_
        exact ih_lp (kN + 1) f1_2 (by omega) (by omega) (by rw [ef1_2, pk_un (by omega)]; exact hlo) (fun k h1 h2 => by rw [ef1_2, pk_un (by omega)]; exact hg0 k h1 h2) (fun k h1 h2 => by rw [ef1_2]; rcases Nat.lt_or_ge k kN with q | q; exact (by rw [pk_un (by omega)]; exact hg1 k h1 q); exact (by rw [show k = kN by omega, pk_us]; exact hgc _ (by omega) (by omega) (by omega))) (fun k h1 h2 h3 => by rw [ef1_2, pk_un (by omega)]; exact hgc k h1 (by omega) h3) (by omega) _ _ hH ls (lv_sub hl [1, 2, 0] rfl)
  exact lp _ (7 + 9 * sN) f1_1 (Nat.le_refl _) (by omega) (by rw [ef1_1, pk_us]) (fun k h1 _ => by rw [ef1_1, pk_un h1]) (fun k h1 h2 => absurd h1 (by omega)) (fun k h1 _ _ => by rw [ef1_1, pk_un h1]) (Nat.lt_succ_self _) _ _ hH ls (lv_sub hl [1, 2, 0] rfl)
theorem hdv_X6_drop : yX6_drop.cls = RX6 ∧ yX6_drop.cls ≠ "java/lang/invoke/MethodHandle" ∧ yX6_drop.cls ≠ "java/lang/invoke/VarHandle" ∧ (parseMethodDescriptor yX6_drop.desc).map (fun d => d.parameters.length) = some 1 := by decide +kernel
theorem c_X6_drop_1 (hE : EnvOK G E) {x : Int32} (hR : ROk f1) (hB : idB x (nW f1) = false) : MU vI l G E yX6_drop cX6_drop 3 (some .int) 3 0 0 [.ref (a 0), .int x] (mw G a x4 x5 x7 x8 x11 x15 f1 f2 f3 f4 f5 f6 f7 f8 f9 f10 f11 h ++ wr) (fun r w => r = nI 0 ∧ w = mw G a x4 (nI 1) x7 x8 x11 x15 f1 f2 f3 f4 f5 f6 f7 f8 f9 f10 f11 h ++ wr) := by
  refine MUi hE (by decide) (Nat.le_of_ble_eq_true rfl) (fun pR eV sT mI below meth cd QQ ls X hH hl ret => ?_)
  obtain ⟨⟨hx, hb, hml, hown, hts⟩, ⟨hr, hlk⟩, -, -, -⟩ := id X
  have hl : lv_has ls 3 [(0, .ref (a 0)), (1, .int x)] := hl
  refine wgen (H := sT.heap) (locs := []) hH (fun H locs hH => ?_)
  refine lv_aload_n hx hb dX6_drop_0 rfl (lv_at hl 0 rfl) ?_
  refine lv_aload_n hx hb dX6_drop_1 rfl (lv_at hl 0 rfl) ?_
  refine lv_iload_n hx hb dX6_drop_2 rfl (lv_at hl 1 rfl) ?_
  refine m_R (c_X6_isWord hE hR) X hH.2 hH.mp (lw_V q1577 q1579 qs31 q72 q1580) hdv_X6_isWord ⟨Nat.le_of_ble_eq_true rfl, Nat.le_of_ble_eq_true rfl⟩ ⟨Nat.le_refl _, Nat.le_refl _⟩ rfl hl.1 rfl (Nat.le_of_ble_eq_true rfl) dX6_drop_3 ?_
  refine n_top (y := nI 0) (by rw [hB]; rfl) ?_
  refine lv_if_eq (tgt := 13) hx hb dX6_drop_6 (by decide) (fun _ => ?_) (fun h => absurd rfl h)
  refine lv_iconst (v := nI 1) hx hb dX6_drop_13 (by decide) ?_
  refine m_Mi (c_X6_refused (cN := 1) hE (by omega)) X hH (lw_V q1520 q1522 qs23 q72 q1523) hdv_X6_refused ⟨Nat.le_of_ble_eq_true rfl, Nat.le_of_ble_eq_true rfl⟩ ⟨Nat.le_refl _, Nat.le_refl _⟩ rfl hl.1 rfl (Nat.le_of_ble_eq_true rfl) dX6_drop_14 (fun r w H locs hq hH => ?_)
  obtain ⟨rfl, rfl⟩ := hq
  refine n_top (y := bI true) (rfl) ?_
  refine n_top (y := nI 1) (rfl) ?_
  refine lv_if_eq (tgt := 22) hx hb dX6_drop_17 (by decide) (fun h => absurd h (by decide)) (fun _ => ?_)
  refine lv_iconst (v := nI 0) hx hb dX6_drop_20 (by decide) ?_
  exact ret _ _ _ _ _ _ _ _ hH (⟨rfl, rfl⟩) (Nat.le_refl _) (Nat.le_refl _) dX6_drop_21
theorem c_X6_drop_0 (hE : EnvOK G E) {nN : Nat} {SV : Nat → Nat → Int32} (hn : nN ≤ 4) (hS : ∀ i, i < nN → ∀ k, k < 195 → f2 (195 * i + k) = SV i k) {sN : Nat} (hR : ROk f1) (hs : sN < nW f1) : MU vI l G E yX6_drop cX6_drop 3 (some .int) 3 0 0 [.ref (a 0), .int (nI sN)] (mw G a (nI nN) x5 x7 x8 x11 x15 f1 f2 f3 f4 f5 f6 f7 f8 f9 f10 f11 h ++ wr) (fun r w => ∃ g, (∀ i, i < svN nN → ∀ k, k < 195 → g (195 * i + k) = svF nN SV f1 i k) ∧ r = nI (nW f1 - 1) ∧ w = mw G a (nI (svN nN)) (nI 0) x7 x8 x11 x15 (drpR f1 sN) g f3 f4 f5 f6 f7 f8 f9 f10 f11 h ++ wr) := by
  refine MUi hE (by decide) (Nat.le_of_ble_eq_true rfl) (fun pR eV sT mI below meth cd QQ ls X hH hl ret => ?_)
  obtain ⟨⟨hx, hb, hml, hown, hts⟩, ⟨hr, hlk⟩, -, -, -⟩ := id X
  have hl : lv_has ls 3 [(0, .ref (a 0)), (1, .int (nI sN))] := hl
  refine wgen (H := sT.heap) (locs := []) hH (fun H locs hH => ?_)
  have hm := hR.s1
  have hw9 := hR.w1
  refine lv_aload_n hx hb dX6_drop_0 rfl (lv_at hl 0 rfl) ?_
  refine lv_aload_n hx hb dX6_drop_1 rfl (lv_at hl 0 rfl) ?_
  refine lv_iload_n hx hb dX6_drop_2 rfl (lv_at hl 1 rfl) ?_
  refine m_R (c_X6_isWord hE hR) X hH.2 hH.mp (lw_V q1577 q1579 qs31 q72 q1580) hdv_X6_isWord ⟨Nat.le_of_ble_eq_true rfl, Nat.le_of_ble_eq_true rfl⟩ ⟨Nat.le_refl _, Nat.le_refl _⟩ rfl hl.1 rfl (Nat.le_of_ble_eq_true rfl) dX6_drop_3 ?_
  refine n_top (y := nI 1) (by rw [idB_t hs (by omega)]; rfl) ?_
  refine lv_if_eq (tgt := 13) hx hb dX6_drop_6 (by decide) (fun h => absurd h (by decide)) (fun _ => ?_)
  refine lv_iconst (v := nI 0) hx hb dX6_drop_9 (by decide) ?_
  refine lv_goto (tgt := 14) hx hb dX6_drop_10 (by decide) ?_
  refine m_Mi (c_X6_refused (cN := 0) hE (by omega)) X hH (lw_V q1520 q1522 qs23 q72 q1523) hdv_X6_refused ⟨Nat.le_of_ble_eq_true rfl, Nat.le_of_ble_eq_true rfl⟩ ⟨Nat.le_refl _, Nat.le_refl _⟩ rfl hl.1 rfl (Nat.le_of_ble_eq_true rfl) dX6_drop_14 (fun r w H locs hq hH => ?_)
  obtain ⟨rfl, rfl⟩ := hq
  refine n_top (y := bI false) (rfl) ?_
  refine n_top (y := nI 0) (rfl) ?_
  refine lv_if_eq (tgt := 22) hx hb dX6_drop_17 (by decide) (fun _ => ?_) (fun h => absurd rfl h)
  refine lv_aload_n hx hb dX6_drop_22 rfl (lv_at hl 0 rfl) ?_
  refine m_Mv (c_X6_saves (SV := SV) hE hn hS) X hH (lw_V q1569 q1571 qs30 q72 q1572) hdv_X6_saves ⟨Nat.le_of_ble_eq_true rfl, Nat.le_of_ble_eq_true rfl⟩ ⟨Nat.le_refl _, Nat.le_refl _⟩ rfl hl.1 rfl (Nat.le_of_ble_eq_true rfl) dX6_drop_23 (fun w H locs hq hH => ?_)
  obtain ⟨g2, hg2, rfl⟩ := hq
  refine lv_aload_n hx hb dX6_drop_26 rfl (lv_at hl 0 rfl) ?_
  refine m_g0 X hH.mp dX6_drop_27 ?_
  refine lv_iconst (v := nI 1) hx hb dX6_drop_30 (by decide) ?_
  refine lv_dup2_11 hx hb dX6_drop_31 rfl rfl ?_
  refine m_ld1 X hH.mp (by omega) dX6_drop_32 ?_
  refine n_top (y := nI (nW f1)) (hR.w0) ?_
  refine lv_iconst (v := nI 1) hx hb dX6_drop_33 (by decide) ?_
  refine n_isub hx hb (by omega) dX6_drop_34 ?_
  refine m_st1 X hH (by omega) dX6_drop_35 (fun f1_1 H locs ef1_1 hH => ?_)
  refine lv_iload_n hx hb dX6_drop_36 rfl (lv_at hl 1 rfl) ?_
  refine m_S (c_X6_wordAt hE) X hH.2 (lw_S q1562 q1563 q72 q1564) hds_X6_wordAt ⟨Nat.le_of_ble_eq_true rfl, Nat.le_of_ble_eq_true rfl⟩ ⟨Nat.le_refl _, Nat.le_refl _⟩ rfl hl.1 rfl (Nat.le_of_ble_eq_true rfl) dX6_drop_37 ?_
  refine lv_istore_n (lv' := [(2, .int (nI (97 + 14 * sN))), (0, .ref (a 0)), (1, .int (nI sN))]) hx hb dX6_drop_40 rfl hl (by decide) rfl (fun ls hl => ?_)
  have lp : ∀ (fu : Nat) (kN : Nat) (f1v : Nat → Int32), (97 + 14 * sN ≤ kN) → (kN ≤ 97 + 14 * (nW f1 - 1)) → (f1v 1 = nI (nW f1 - 1)) → (∀ k, ¬ k = 1 → k < 97 + 14 * sN → f1v k = f1 k) → (∀ k, 97 + 14 * sN ≤ k → k < kN → f1v k = f1 (k + 14)) → (∀ k, ¬ k = 1 → kN ≤ k → k < 195 → f1v k = f1 k) → 195 - kN < fu → ∀ (H : Heap) (locs : List Loc), HH G sT (mw G a (nI (svN nN)) (nI 0) x7 x8 x11 x15 f1v g2 f3 f4 f5 f6 f7 f8 f9 f10 f11 h ++ wr) H locs → ∀ ls : Array Slot, lv_has ls 3 [(0, .ref (a 0)), (1, .int (nI sN)), (2, .int (nI kN))] → W pR l eV (Rm 3 0 0) sT mI ([.ref (a 0), .int (nI sN)] : List Value).toArray below meth cd H locs 0 0 QQ (F0 mI 41 ls []) := by
    intro fu
    induction fu with
    | zero => intro kN f1v hk hk2 hlo hg0 hg1 hgc hm; exact absurd hm (Nat.not_lt_zero _)
    | succ fu ih_lp =>
      intro kN f1v hk hk2 hlo hg0 hg1 hgc hm H locs hH ls hl
      refine lv_iload_n hx hb dX6_drop_41 rfl (lv_at hl 2 rfl) ?_
      refine lv_aload_n hx hb dX6_drop_42 rfl (lv_at hl 0 rfl) ?_
      refine m_g0 X hH.mp dX6_drop_43 ?_
      refine lv_iconst (v := nI 1) hx hb dX6_drop_46 (by decide) ?_
      refine m_ld1 X hH.mp (by omega) dX6_drop_47 ?_
      refine n_top (y := nI (nW f1 - 1)) (by rw [hlo]) ?_
      refine m_S (c_X6_wordAt hE) X hH.2 (lw_S q1562 q1563 q72 q1564) hds_X6_wordAt ⟨Nat.le_of_ble_eq_true rfl, Nat.le_of_ble_eq_true rfl⟩ ⟨Nat.le_refl _, Nat.le_refl _⟩ rfl hl.1 rfl (Nat.le_of_ble_eq_true rfl) dX6_drop_48 ?_
      refine n_icmp_ge (tgt := 75) hx hb (by omega) (by omega) dX6_drop_51 (by decide) (fun c1 => ?_) (fun c1 => ?_)
      · refine lv_aload_n hx hb dX6_drop_75 rfl (lv_at hl 0 rfl) ?_
        refine m_g0 X hH.mp dX6_drop_76 ?_
        refine lv_iconst (v := nI 1) hx hb dX6_drop_79 (by decide) ?_
        refine m_ld1 X hH.mp (by omega) dX6_drop_80 ?_
        refine n_top (y := nI (nW f1 - 1)) (by rw [hlo]) ?_
        have hH := m_cg1 (g := drpR f1 sN) (fun k hk => by unfold drpR; by_cases q : k = 1; exact (by rw [if_pos q, q, hlo]); exact (by rw [if_neg q]; by_cases q2 : 97 + 14 * sN ≤ k ∧ k < 97 + 14 * (nW f1 - 1); exact (by rw [if_pos q2, hg1 k (by omega) (by omega)]); exact (by rw [if_neg q2]; rcases Nat.lt_or_ge k (97 + 14 * sN) with q3 | q3; exact (hg0 k q q3).symm; exact (hgc k q (by omega) hk).symm))) hH
        exact ret _ _ _ _ _ _ _ _ hH (⟨g2, hg2, rfl, rfl⟩) (Nat.le_refl _) (Nat.le_refl _) dX6_drop_81
      · refine lv_aload_n hx hb dX6_drop_54 rfl (lv_at hl 0 rfl) ?_
        refine m_g0 X hH.mp dX6_drop_55 ?_
        refine lv_iload_n hx hb dX6_drop_58 rfl (lv_at hl 2 rfl) ?_
        refine lv_aload_n hx hb dX6_drop_59 rfl (lv_at hl 0 rfl) ?_
        refine m_g0 X hH.mp dX6_drop_60 ?_
        refine lv_iload_n hx hb dX6_drop_63 rfl (lv_at hl 2 rfl) ?_
        refine lv_bipush (v := nI 14) hx hb dX6_drop_64 (by decide) ?_
        refine n_iadd hx hb dX6_drop_66 ?_
        refine m_ld1 X hH.mp (by omega) dX6_drop_67 ?_
        refine m_st1 X hH (by omega) dX6_drop_68 (fun f1_2 H locs ef1_2 hH => ?_)
        refine lv_iinc (v := nI (kN + 1)) (lv' := [(2, .int (nI (kN + 1))), (0, .ref (a 0)), (1, .int (nI sN))]) hx hb dX6_drop_69 hl (k := 2) rfl (nI_add _ 1) (by decide) rfl (fun ls hl => ?_)
        refine lv_goto (tgt := 41) hx hb dX6_drop_72 (by decide) ?_
        exact ih_lp (kN + 1) f1_2 (by omega) (by omega) (by rw [ef1_2, pk_un (by omega)]; exact hlo) (fun k h1 h2 => by rw [ef1_2, pk_un (by omega)]; exact hg0 k h1 h2) (fun k h1 h2 => by rw [ef1_2]; rcases Nat.lt_or_ge k kN with q | q; exact (by rw [pk_un (by omega)]; exact hg1 k h1 q); exact (by rw [show k = kN by omega, pk_us]; exact hgc _ (by omega) (by omega) (by omega))) (fun k h1 h2 h3 => by rw [ef1_2, pk_un (by omega)]; exact hgc k h1 (by omega) h3) (by omega) _ _ hH ls (lv_sub hl [1, 2, 0] rfl)
  exact lp _ (97 + 14 * sN) f1_1 (Nat.le_refl _) (by omega) (by rw [ef1_1, pk_us]) (fun k h1 _ => by rw [ef1_1, pk_un h1]) (fun k h1 h2 => absurd h1 (by omega)) (fun k h1 _ _ => by rw [ef1_1, pk_un h1]) (Nat.lt_succ_self _) _ _ hH ls (lv_sub hl [1, 2, 0] rfl)
theorem hdv_X6_setColor : yX6_setColor.cls = RX6 ∧ yX6_setColor.cls ≠ "java/lang/invoke/MethodHandle" ∧ yX6_setColor.cls ≠ "java/lang/invoke/VarHandle" ∧ (parseMethodDescriptor yX6_setColor.desc).map (fun d => d.parameters.length) = some 2 := by decide +kernel
theorem c_X6_setColor_1 (hE : EnvOK G E) {x y : Int32} (hR : ROk f1) (hB : idB x (nW f1) = false) : MU vI l G E yX6_setColor cX6_setColor 4 (some .int) 3 0 0 [.ref (a 0), .int x, .int y] (mw G a x4 x5 x7 x8 x11 x15 f1 f2 f3 f4 f5 f6 f7 f8 f9 f10 f11 h ++ wr) (fun r w => r = nI 0 ∧ w = mw G a x4 (nI 1) x7 x8 x11 x15 f1 f2 f3 f4 f5 f6 f7 f8 f9 f10 f11 h ++ wr) := by
  refine MUi hE (by decide) (Nat.le_of_ble_eq_true rfl) (fun pR eV sT mI below meth cd QQ ls X hH hl ret => ?_)
  obtain ⟨⟨hx, hb, hml, hown, hts⟩, ⟨hr, hlk⟩, -, -, -⟩ := id X
  have hl : lv_has ls 4 [(0, .ref (a 0)), (1, .int x), (2, .int y)] := hl
  refine wgen (H := sT.heap) (locs := []) hH (fun H locs hH => ?_)
  have hw9 := hR.w1
  refine lv_aload_n hx hb dX6_setColor_0 rfl (lv_at hl 0 rfl) ?_
  refine lv_aload_n hx hb dX6_setColor_1 rfl (lv_at hl 0 rfl) ?_
  refine lv_iload_n hx hb dX6_setColor_2 rfl (lv_at hl 1 rfl) ?_
  refine m_R (c_X6_isWord hE hR) X hH.2 hH.mp (lw_V q1577 q1579 qs31 q72 q1580) hdv_X6_isWord ⟨Nat.le_of_ble_eq_true rfl, Nat.le_of_ble_eq_true rfl⟩ ⟨Nat.le_refl _, Nat.le_refl _⟩ rfl hl.1 rfl (Nat.le_of_ble_eq_true rfl) dX6_setColor_3 ?_
  refine n_top (y := nI 0) (by rw [hB]; rfl) ?_
  refine lv_if_ne (tgt := 13) hx hb dX6_setColor_6 (by decide) (fun h => absurd rfl h) (fun _ => ?_)
  refine lv_iconst (v := nI 1) hx hb dX6_setColor_9 (by decide) ?_
  refine lv_goto (tgt := 27) hx hb dX6_setColor_10 (by decide) ?_
  refine m_Mi (c_X6_refused (cN := 1) hE (by omega)) X hH (lw_V q1520 q1522 qs23 q72 q1523) hdv_X6_refused ⟨Nat.le_of_ble_eq_true rfl, Nat.le_of_ble_eq_true rfl⟩ ⟨Nat.le_refl _, Nat.le_refl _⟩ rfl hl.1 rfl (Nat.le_of_ble_eq_true rfl) dX6_setColor_27 (fun r w H locs hq hH => ?_)
  obtain ⟨rfl, rfl⟩ := hq
  refine n_top (y := bI true) (rfl) ?_
  refine n_top (y := nI 1) (rfl) ?_
  refine lv_if_eq (tgt := 35) hx hb dX6_setColor_30 (by decide) (fun h => absurd h (by decide)) (fun _ => ?_)
  refine lv_iconst (v := nI 0) hx hb dX6_setColor_33 (by decide) ?_
  exact ret _ _ _ _ _ _ _ _ hH (⟨rfl, rfl⟩) (Nat.le_refl _) (Nat.le_refl _) dX6_setColor_34
theorem c_X6_setColor_2 (hE : EnvOK G E) {wN : Nat} {x : Int32} (hR : ROk f1) (hw : wN < nW f1) (hB : rgB (nI 0) (nI 3) x = false) : MU vI l G E yX6_setColor cX6_setColor 4 (some .int) 3 0 0 [.ref (a 0), .int (nI wN), .int x] (mw G a x4 x5 x7 x8 x11 x15 f1 f2 f3 f4 f5 f6 f7 f8 f9 f10 f11 h ++ wr) (fun r w => r = nI 0 ∧ w = mw G a x4 (nI 2) x7 x8 x11 x15 f1 f2 f3 f4 f5 f6 f7 f8 f9 f10 f11 h ++ wr) := by
  refine MUi hE (by decide) (Nat.le_of_ble_eq_true rfl) (fun pR eV sT mI below meth cd QQ ls X hH hl ret => ?_)
  obtain ⟨⟨hx, hb, hml, hown, hts⟩, ⟨hr, hlk⟩, -, -, -⟩ := id X
  have hl : lv_has ls 4 [(0, .ref (a 0)), (1, .int (nI wN)), (2, .int x)] := hl
  refine wgen (H := sT.heap) (locs := []) hH (fun H locs hH => ?_)
  have hw9 := hR.w1
  refine lv_aload_n hx hb dX6_setColor_0 rfl (lv_at hl 0 rfl) ?_
  refine lv_aload_n hx hb dX6_setColor_1 rfl (lv_at hl 0 rfl) ?_
  refine lv_iload_n hx hb dX6_setColor_2 rfl (lv_at hl 1 rfl) ?_
  refine m_R (c_X6_isWord hE hR) X hH.2 hH.mp (lw_V q1577 q1579 qs31 q72 q1580) hdv_X6_isWord ⟨Nat.le_of_ble_eq_true rfl, Nat.le_of_ble_eq_true rfl⟩ ⟨Nat.le_refl _, Nat.le_refl _⟩ rfl hl.1 rfl (Nat.le_of_ble_eq_true rfl) dX6_setColor_3 ?_
  refine n_top (y := nI 1) (by rw [idB_t hw (by omega)]; rfl) ?_
  refine lv_if_ne (tgt := 13) hx hb dX6_setColor_6 (by decide) (fun _ => ?_) (fun h => absurd h (by decide))
  refine lv_iload_n hx hb dX6_setColor_13 rfl (lv_at hl 2 rfl) ?_
  refine lv_iconst (v := nI 0) hx hb dX6_setColor_14 (by decide) ?_
  refine lv_iconst (v := nI 3) hx hb dX6_setColor_15 (by decide) ?_
  refine m_S (c_X6_in hE) X hH.2 (lw_S q1528 q1529 q72 q1530) hds_X6_in ⟨Nat.le_of_ble_eq_true rfl, Nat.le_of_ble_eq_true rfl⟩ ⟨Nat.le_refl _, Nat.le_refl _⟩ rfl hl.1 rfl (Nat.le_of_ble_eq_true rfl) dX6_setColor_16 ?_
  refine n_top (y := nI 0) (by rw [hB]; rfl) ?_
  refine lv_if_eq (tgt := 26) hx hb dX6_setColor_19 (by decide) (fun _ => ?_) (fun h => absurd rfl h)
  refine lv_iconst (v := nI 2) hx hb dX6_setColor_26 (by decide) ?_
  refine m_Mi (c_X6_refused (cN := 2) hE (by omega)) X hH (lw_V q1520 q1522 qs23 q72 q1523) hdv_X6_refused ⟨Nat.le_of_ble_eq_true rfl, Nat.le_of_ble_eq_true rfl⟩ ⟨Nat.le_refl _, Nat.le_refl _⟩ rfl hl.1 rfl (Nat.le_of_ble_eq_true rfl) dX6_setColor_27 (fun r w H locs hq hH => ?_)
  obtain ⟨rfl, rfl⟩ := hq
  refine n_top (y := bI true) (rfl) ?_
  refine n_top (y := nI 1) (rfl) ?_
  refine lv_if_eq (tgt := 35) hx hb dX6_setColor_30 (by decide) (fun h => absurd h (by decide)) (fun _ => ?_)
  refine lv_iconst (v := nI 0) hx hb dX6_setColor_33 (by decide) ?_
  exact ret _ _ _ _ _ _ _ _ hH (⟨rfl, rfl⟩) (Nat.le_refl _) (Nat.le_refl _) dX6_setColor_34
theorem c_X6_setColor_0 (hE : EnvOK G E) {nN : Nat} {SV : Nat → Nat → Int32} (hn : nN ≤ 4) (hS : ∀ i, i < nN → ∀ k, k < 195 → f2 (195 * i + k) = SV i k) {wN : Nat} {x : Int32} (hR : ROk f1) (hw : wN < nW f1) (hB : rgB (nI 0) (nI 3) x = true) : MU vI l G E yX6_setColor cX6_setColor 4 (some .int) 3 0 0 [.ref (a 0), .int (nI wN), .int x] (mw G a (nI nN) x5 x7 x8 x11 x15 f1 f2 f3 f4 f5 f6 f7 f8 f9 f10 f11 h ++ wr) (fun r w => ∃ g, (∀ i, i < svN nN → ∀ k, k < 195 → g (195 * i + k) = svF nN SV f1 i k) ∧ r = f1 (97 + 14 * wN + 1) ∧ w = mw G a (nI (svN nN)) (nI 0) x7 x8 x11 x15 (upd f1 (97 + 14 * wN + 1) x) g f3 f4 f5 f6 f7 f8 f9 f10 f11 h ++ wr) := by
  refine MUi hE (by decide) (Nat.le_of_ble_eq_true rfl) (fun pR eV sT mI below meth cd QQ ls X hH hl ret => ?_)
  obtain ⟨⟨hx, hb, hml, hown, hts⟩, ⟨hr, hlk⟩, -, -, -⟩ := id X
  have hl : lv_has ls 4 [(0, .ref (a 0)), (1, .int (nI wN)), (2, .int x)] := hl
  refine wgen (H := sT.heap) (locs := []) hH (fun H locs hH => ?_)
  have hw9 := hR.w1
  refine lv_aload_n hx hb dX6_setColor_0 rfl (lv_at hl 0 rfl) ?_
  refine lv_aload_n hx hb dX6_setColor_1 rfl (lv_at hl 0 rfl) ?_
  refine lv_iload_n hx hb dX6_setColor_2 rfl (lv_at hl 1 rfl) ?_
  refine m_R (c_X6_isWord hE hR) X hH.2 hH.mp (lw_V q1577 q1579 qs31 q72 q1580) hdv_X6_isWord ⟨Nat.le_of_ble_eq_true rfl, Nat.le_of_ble_eq_true rfl⟩ ⟨Nat.le_refl _, Nat.le_refl _⟩ rfl hl.1 rfl (Nat.le_of_ble_eq_true rfl) dX6_setColor_3 ?_
  refine n_top (y := nI 1) (by rw [idB_t hw (by omega)]; rfl) ?_
  refine lv_if_ne (tgt := 13) hx hb dX6_setColor_6 (by decide) (fun _ => ?_) (fun h => absurd h (by decide))
  refine lv_iload_n hx hb dX6_setColor_13 rfl (lv_at hl 2 rfl) ?_
  refine lv_iconst (v := nI 0) hx hb dX6_setColor_14 (by decide) ?_
  refine lv_iconst (v := nI 3) hx hb dX6_setColor_15 (by decide) ?_
  refine m_S (c_X6_in hE) X hH.2 (lw_S q1528 q1529 q72 q1530) hds_X6_in ⟨Nat.le_of_ble_eq_true rfl, Nat.le_of_ble_eq_true rfl⟩ ⟨Nat.le_refl _, Nat.le_refl _⟩ rfl hl.1 rfl (Nat.le_of_ble_eq_true rfl) dX6_setColor_16 ?_
  refine n_top (y := nI 1) (by rw [hB]; rfl) ?_
  refine lv_if_eq (tgt := 26) hx hb dX6_setColor_19 (by decide) (fun h => absurd h (by decide)) (fun _ => ?_)
  refine lv_iconst (v := nI 0) hx hb dX6_setColor_22 (by decide) ?_
  refine lv_goto (tgt := 27) hx hb dX6_setColor_23 (by decide) ?_
  refine m_Mi (c_X6_refused (cN := 0) hE (by omega)) X hH (lw_V q1520 q1522 qs23 q72 q1523) hdv_X6_refused ⟨Nat.le_of_ble_eq_true rfl, Nat.le_of_ble_eq_true rfl⟩ ⟨Nat.le_refl _, Nat.le_refl _⟩ rfl hl.1 rfl (Nat.le_of_ble_eq_true rfl) dX6_setColor_27 (fun r w H locs hq hH => ?_)
  obtain ⟨rfl, rfl⟩ := hq
  refine n_top (y := bI false) (rfl) ?_
  refine n_top (y := nI 0) (rfl) ?_
  refine lv_if_eq (tgt := 35) hx hb dX6_setColor_30 (by decide) (fun _ => ?_) (fun h => absurd rfl h)
  refine lv_aload_n hx hb dX6_setColor_35 rfl (lv_at hl 0 rfl) ?_
  refine m_Mv (c_X6_saves (SV := SV) hE hn hS) X hH (lw_V q1569 q1571 qs30 q72 q1572) hdv_X6_saves ⟨Nat.le_of_ble_eq_true rfl, Nat.le_of_ble_eq_true rfl⟩ ⟨Nat.le_refl _, Nat.le_refl _⟩ rfl hl.1 rfl (Nat.le_of_ble_eq_true rfl) dX6_setColor_36 (fun w H locs hq hH => ?_)
  obtain ⟨g2, hg2, rfl⟩ := hq
  refine lv_aload_n hx hb dX6_setColor_39 rfl (lv_at hl 0 rfl) ?_
  refine m_g0 X hH.mp dX6_setColor_40 ?_
  refine lv_iload_n hx hb dX6_setColor_43 rfl (lv_at hl 1 rfl) ?_
  refine m_S (c_X6_wordAt hE) X hH.2 (lw_S q1562 q1563 q72 q1564) hds_X6_wordAt ⟨Nat.le_of_ble_eq_true rfl, Nat.le_of_ble_eq_true rfl⟩ ⟨Nat.le_refl _, Nat.le_refl _⟩ rfl hl.1 rfl (Nat.le_of_ble_eq_true rfl) dX6_setColor_44 ?_
  refine lv_iconst (v := nI 1) hx hb dX6_setColor_47 (by decide) ?_
  refine n_iadd hx hb dX6_setColor_48 ?_
  refine m_ld1 X hH.mp (by omega) dX6_setColor_49 ?_
  refine lv_istore_n (lv' := [(3, .int (f1 ((97 + 14 * wN) + 1))), (0, .ref (a 0)), (1, .int (nI wN)), (2, .int x)]) hx hb dX6_setColor_50 rfl hl (by decide) rfl (fun ls hl => ?_)
  refine lv_aload_n hx hb dX6_setColor_51 rfl (lv_at hl 1 rfl) ?_
  refine m_g0 X hH.mp dX6_setColor_52 ?_
  refine lv_iload_n hx hb dX6_setColor_55 rfl (lv_at hl 2 rfl) ?_
  refine m_S (c_X6_wordAt hE) X hH.2 (lw_S q1562 q1563 q72 q1564) hds_X6_wordAt ⟨Nat.le_of_ble_eq_true rfl, Nat.le_of_ble_eq_true rfl⟩ ⟨Nat.le_refl _, Nat.le_refl _⟩ rfl hl.1 rfl (Nat.le_of_ble_eq_true rfl) dX6_setColor_56 ?_
  refine lv_iconst (v := nI 1) hx hb dX6_setColor_59 (by decide) ?_
  refine n_iadd hx hb dX6_setColor_60 ?_
  refine lv_iload_n hx hb dX6_setColor_61 rfl (lv_at hl 3 rfl) ?_
  refine m_st1 X hH (by omega) dX6_setColor_62 (fun f1_1 H locs ef1_1 hH => ?_)
  refine lv_iload_n hx hb dX6_setColor_63 rfl (lv_at hl 0 rfl) ?_
  rw [show f1_1 = upd f1 (97 + 14 * wN + 1) x from ef1_1] at hH
  exact ret _ _ _ _ _ _ _ _ hH (⟨g2, hg2, rfl, rfl⟩) (Nat.le_refl _) (Nat.le_refl _) dX6_setColor_64
theorem hdv_X6_setLimits : yX6_setLimits.cls = RX6 ∧ yX6_setLimits.cls ≠ "java/lang/invoke/MethodHandle" ∧ yX6_setLimits.cls ≠ "java/lang/invoke/VarHandle" ∧ (parseMethodDescriptor yX6_setLimits.desc).map (fun d => d.parameters.length) = some 2 := by decide +kernel
theorem c_X6_setLimits_1 (hE : EnvOK G E) {x y : Int32} (hB : (rgB (nI 1) (nI 200) x && rgB (nI 1) (nI 20) y) = false) : MU vI l G E yX6_setLimits cX6_setLimits 4 (some .int) 2 0 0 [.ref (a 0), .int x, .int y] (mw G a x4 x5 x7 x8 x11 x15 f1 f2 f3 f4 f5 f6 f7 f8 f9 f10 f11 h ++ wr) (fun r w => r = nI 0 ∧ w = mw G a x4 (nI 1) x7 x8 x11 x15 f1 f2 f3 f4 f5 f6 f7 f8 f9 f10 f11 h ++ wr) := by
  refine MUi hE (by decide) (Nat.le_of_ble_eq_true rfl) (fun pR eV sT mI below meth cd QQ ls X hH hl ret => ?_)
  obtain ⟨⟨hx, hb, hml, hown, hts⟩, ⟨hr, hlk⟩, -, -, -⟩ := id X
  have hl : lv_has ls 4 [(0, .ref (a 0)), (1, .int x), (2, .int y)] := hl
  refine wgen (H := sT.heap) (locs := []) hH (fun H locs hH => ?_)
  refine lv_aload_n hx hb dX6_setLimits_0 rfl (lv_at hl 0 rfl) ?_
  refine lv_iload_n hx hb dX6_setLimits_1 rfl (lv_at hl 1 rfl) ?_
  refine lv_iconst (v := nI 1) hx hb dX6_setLimits_2 (by decide) ?_
  refine lv_sipush (v := nI 200) hx hb dX6_setLimits_3 (by decide) ?_
  refine m_S (c_X6_in hE) X hH.2 (lw_S q1528 q1529 q72 q1530) hds_X6_in ⟨Nat.le_of_ble_eq_true rfl, Nat.le_of_ble_eq_true rfl⟩ ⟨Nat.le_refl _, Nat.le_refl _⟩ rfl hl.1 rfl (Nat.le_of_ble_eq_true rfl) dX6_setLimits_6 ?_
  by_cases c1 : rgB (nI 1) (nI 200) x = true
  · refine n_top (y := nI 1) (by rw [c1]; rfl) ?_
    refine lv_if_eq (tgt := 26) hx hb dX6_setLimits_9 (by decide) (fun h => absurd h (by decide)) (fun _ => ?_)
    refine lv_iload_n hx hb dX6_setLimits_12 rfl (lv_at hl 2 rfl) ?_
    refine lv_iconst (v := nI 1) hx hb dX6_setLimits_13 (by decide) ?_
    refine lv_bipush (v := nI 20) hx hb dX6_setLimits_14 (by decide) ?_
    refine m_S (c_X6_in hE) X hH.2 (lw_S q1528 q1529 q72 q1530) hds_X6_in ⟨Nat.le_of_ble_eq_true rfl, Nat.le_of_ble_eq_true rfl⟩ ⟨Nat.le_refl _, Nat.le_refl _⟩ rfl hl.1 rfl (Nat.le_of_ble_eq_true rfl) dX6_setLimits_16 ?_
    refine n_top (y := nI 0) (by rw [show rgB (nI 1) (nI 20) y = false by rw [c1, Bool.true_and] at hB; exact hB]; rfl) ?_
    refine lv_if_eq (tgt := 26) hx hb dX6_setLimits_19 (by decide) (fun _ => ?_) (fun h => absurd rfl h)
    refine lv_iconst (v := nI 1) hx hb dX6_setLimits_26 (by decide) ?_
    refine m_Mi (c_X6_refused (cN := 1) hE (by omega)) X hH (lw_V q1520 q1522 qs23 q72 q1523) hdv_X6_refused ⟨Nat.le_of_ble_eq_true rfl, Nat.le_of_ble_eq_true rfl⟩ ⟨Nat.le_refl _, Nat.le_refl _⟩ rfl hl.1 rfl (Nat.le_of_ble_eq_true rfl) dX6_setLimits_27 (fun r w H locs hq hH => ?_)
    obtain ⟨rfl, rfl⟩ := hq
    refine n_top (y := bI true) (rfl) ?_
    refine n_top (y := nI 1) (rfl) ?_
    refine lv_if_eq (tgt := 35) hx hb dX6_setLimits_30 (by decide) (fun h => absurd h (by decide)) (fun _ => ?_)
    refine lv_iconst (v := nI 0) hx hb dX6_setLimits_33 (by decide) ?_
    exact ret _ _ _ _ _ _ _ _ hH (⟨rfl, rfl⟩) (Nat.le_refl _) (Nat.le_refl _) dX6_setLimits_34
  · refine n_top (y := nI 0) (by rw [show rgB (nI 1) (nI 200) x = false from Bool.eq_false_iff.mpr c1]; rfl) ?_
    refine lv_if_eq (tgt := 26) hx hb dX6_setLimits_9 (by decide) (fun _ => ?_) (fun h => absurd rfl h)
    refine lv_iconst (v := nI 1) hx hb dX6_setLimits_26 (by decide) ?_
    refine m_Mi (c_X6_refused (cN := 1) hE (by omega)) X hH (lw_V q1520 q1522 qs23 q72 q1523) hdv_X6_refused ⟨Nat.le_of_ble_eq_true rfl, Nat.le_of_ble_eq_true rfl⟩ ⟨Nat.le_refl _, Nat.le_refl _⟩ rfl hl.1 rfl (Nat.le_of_ble_eq_true rfl) dX6_setLimits_27 (fun r w H locs hq hH => ?_)
    obtain ⟨rfl, rfl⟩ := hq
    refine n_top (y := bI true) (rfl) ?_
    refine n_top (y := nI 1) (rfl) ?_
    refine lv_if_eq (tgt := 35) hx hb dX6_setLimits_30 (by decide) (fun h => absurd h (by decide)) (fun _ => ?_)
    refine lv_iconst (v := nI 0) hx hb dX6_setLimits_33 (by decide) ?_
    exact ret _ _ _ _ _ _ _ _ hH (⟨rfl, rfl⟩) (Nat.le_refl _) (Nat.le_refl _) dX6_setLimits_34
theorem c_X6_setLimits_0 (hE : EnvOK G E) {nN : Nat} {SV : Nat → Nat → Int32} (hn : nN ≤ 4) (hS : ∀ i, i < nN → ∀ k, k < 195 → f2 (195 * i + k) = SV i k) {x y : Int32} (hB : (rgB (nI 1) (nI 200) x && rgB (nI 1) (nI 20) y) = true) : MU vI l G E yX6_setLimits cX6_setLimits 4 (some .int) 2 0 0 [.ref (a 0), .int x, .int y] (mw G a (nI nN) x5 x7 x8 x11 x15 f1 f2 f3 f4 f5 f6 f7 f8 f9 f10 f11 h ++ wr) (fun r w => ∃ g, (∀ i, i < svN nN → ∀ k, k < 195 → g (195 * i + k) = svF nN SV f1 i k) ∧ r = f1 2 ∧ w = mw G a (nI (svN nN)) (nI 0) x7 x8 x11 x15 (upd (upd f1 2 x) 3 y) g f3 f4 f5 f6 f7 f8 f9 f10 f11 h ++ wr) := by
  refine MUi hE (by decide) (Nat.le_of_ble_eq_true rfl) (fun pR eV sT mI below meth cd QQ ls X hH hl ret => ?_)
  obtain ⟨⟨hx, hb, hml, hown, hts⟩, ⟨hr, hlk⟩, -, -, -⟩ := id X
  have hl : lv_has ls 4 [(0, .ref (a 0)), (1, .int x), (2, .int y)] := hl
  refine wgen (H := sT.heap) (locs := []) hH (fun H locs hH => ?_)
  refine lv_aload_n hx hb dX6_setLimits_0 rfl (lv_at hl 0 rfl) ?_
  refine lv_iload_n hx hb dX6_setLimits_1 rfl (lv_at hl 1 rfl) ?_
  refine lv_iconst (v := nI 1) hx hb dX6_setLimits_2 (by decide) ?_
  refine lv_sipush (v := nI 200) hx hb dX6_setLimits_3 (by decide) ?_
  refine m_S (c_X6_in hE) X hH.2 (lw_S q1528 q1529 q72 q1530) hds_X6_in ⟨Nat.le_of_ble_eq_true rfl, Nat.le_of_ble_eq_true rfl⟩ ⟨Nat.le_refl _, Nat.le_refl _⟩ rfl hl.1 rfl (Nat.le_of_ble_eq_true rfl) dX6_setLimits_6 ?_
  rw [Bool.and_eq_true] at hB
  refine n_top (y := nI 1) (by rw [hB.1]; rfl) ?_
  refine lv_if_eq (tgt := 26) hx hb dX6_setLimits_9 (by decide) (fun h => absurd h (by decide)) (fun _ => ?_)
  refine lv_iload_n hx hb dX6_setLimits_12 rfl (lv_at hl 2 rfl) ?_
  refine lv_iconst (v := nI 1) hx hb dX6_setLimits_13 (by decide) ?_
  refine lv_bipush (v := nI 20) hx hb dX6_setLimits_14 (by decide) ?_
  refine m_S (c_X6_in hE) X hH.2 (lw_S q1528 q1529 q72 q1530) hds_X6_in ⟨Nat.le_of_ble_eq_true rfl, Nat.le_of_ble_eq_true rfl⟩ ⟨Nat.le_refl _, Nat.le_refl _⟩ rfl hl.1 rfl (Nat.le_of_ble_eq_true rfl) dX6_setLimits_16 ?_
  refine n_top (y := nI 1) (by rw [hB.2]; rfl) ?_
  refine lv_if_eq (tgt := 26) hx hb dX6_setLimits_19 (by decide) (fun h => absurd h (by decide)) (fun _ => ?_)
  refine lv_iconst (v := nI 0) hx hb dX6_setLimits_22 (by decide) ?_
  refine lv_goto (tgt := 27) hx hb dX6_setLimits_23 (by decide) ?_
  refine m_Mi (c_X6_refused (cN := 0) hE (by omega)) X hH (lw_V q1520 q1522 qs23 q72 q1523) hdv_X6_refused ⟨Nat.le_of_ble_eq_true rfl, Nat.le_of_ble_eq_true rfl⟩ ⟨Nat.le_refl _, Nat.le_refl _⟩ rfl hl.1 rfl (Nat.le_of_ble_eq_true rfl) dX6_setLimits_27 (fun r w H locs hq hH => ?_)
  obtain ⟨rfl, rfl⟩ := hq
  refine n_top (y := bI false) (rfl) ?_
  refine n_top (y := nI 0) (rfl) ?_
  refine lv_if_eq (tgt := 35) hx hb dX6_setLimits_30 (by decide) (fun _ => ?_) (fun h => absurd rfl h)
  refine lv_aload_n hx hb dX6_setLimits_35 rfl (lv_at hl 0 rfl) ?_
  refine m_Mv (c_X6_saves (SV := SV) hE hn hS) X hH (lw_V q1569 q1571 qs30 q72 q1572) hdv_X6_saves ⟨Nat.le_of_ble_eq_true rfl, Nat.le_of_ble_eq_true rfl⟩ ⟨Nat.le_refl _, Nat.le_refl _⟩ rfl hl.1 rfl (Nat.le_of_ble_eq_true rfl) dX6_setLimits_36 (fun w H locs hq hH => ?_)
  obtain ⟨g2, hg2, rfl⟩ := hq
  refine lv_aload_n hx hb dX6_setLimits_39 rfl (lv_at hl 0 rfl) ?_
  refine m_g0 X hH.mp dX6_setLimits_40 ?_
  refine lv_iconst (v := nI 2) hx hb dX6_setLimits_43 (by decide) ?_
  refine m_ld1 X hH.mp (by omega) dX6_setLimits_44 ?_
  refine lv_istore_n (lv' := [(3, .int (f1 2)), (0, .ref (a 0)), (1, .int x), (2, .int y)]) hx hb dX6_setLimits_45 rfl hl (by decide) rfl (fun ls hl => ?_)
  refine lv_aload_n hx hb dX6_setLimits_46 rfl (lv_at hl 1 rfl) ?_
  refine m_g0 X hH.mp dX6_setLimits_47 ?_
  refine lv_iconst (v := nI 2) hx hb dX6_setLimits_50 (by decide) ?_
  refine lv_iload_n hx hb dX6_setLimits_51 rfl (lv_at hl 2 rfl) ?_
  refine m_st1 X hH (by omega) dX6_setLimits_52 (fun f1_1 H locs ef1_1 hH => ?_)
  refine lv_aload_n hx hb dX6_setLimits_53 rfl (lv_at hl 1 rfl) ?_
  refine m_g0 X hH.mp dX6_setLimits_54 ?_
  refine lv_iconst (v := nI 3) hx hb dX6_setLimits_57 (by decide) ?_
  refine lv_iload_n hx hb dX6_setLimits_58 rfl (lv_at hl 3 rfl) ?_
  refine m_st1 X hH (by omega) dX6_setLimits_59 (fun f1_2 H locs ef1_2 hH => ?_)
  refine lv_iload_n hx hb dX6_setLimits_60 rfl (lv_at hl 0 rfl) ?_
  rw [show f1_2 = upd (upd f1 2 x) 3 y from by rw [ef1_2, ef1_1]] at hH
  exact ret _ _ _ _ _ _ _ _ hH (⟨g2, hg2, rfl, rfl⟩) (Nat.le_refl _) (Nat.le_refl _) dX6_setLimits_61
theorem hdv_X6_clean : yX6_clean.cls = RX6 ∧ yX6_clean.cls ≠ "java/lang/invoke/MethodHandle" ∧ yX6_clean.cls ≠ "java/lang/invoke/VarHandle" ∧ (parseMethodDescriptor yX6_clean.desc).map (fun d => d.parameters.length) = some 1 := by decide +kernel
theorem c_X6_clean_1 (hE : EnvOK G E) {x : Int32} (hR : ROk f1) (hB : idB x (nS f1) = false) : MU vI l G E yX6_clean cX6_clean 4 (some .int) 3 0 0 [.ref (a 0), .int x] (mw G a x4 x5 x7 x8 x11 x15 f1 f2 f3 f4 f5 f6 f7 f8 f9 f10 f11 h ++ wr) (fun r w => r = nI 0 ∧ w = mw G a x4 (nI 1) x7 x8 x11 x15 f1 f2 f3 f4 f5 f6 f7 f8 f9 f10 f11 h ++ wr) := by
  refine MUi hE (by decide) (Nat.le_of_ble_eq_true rfl) (fun pR eV sT mI below meth cd QQ ls X hH hl ret => ?_)
  obtain ⟨⟨hx, hb, hml, hown, hts⟩, ⟨hr, hlk⟩, -, -, -⟩ := id X
  have hl : lv_has ls 4 [(0, .ref (a 0)), (1, .int x)] := hl
  refine wgen (H := sT.heap) (locs := []) hH (fun H locs hH => ?_)
  have hm := hR.s1
  refine lv_aload_n hx hb dX6_clean_0 rfl (lv_at hl 0 rfl) ?_
  refine lv_aload_n hx hb dX6_clean_1 rfl (lv_at hl 0 rfl) ?_
  refine lv_iload_n hx hb dX6_clean_2 rfl (lv_at hl 1 rfl) ?_
  refine m_R (c_X6_isStamp hE hR) X hH.2 hH.mp (lw_V q1593 q1595 qs34 q72 q1596) hdv_X6_isStamp ⟨Nat.le_of_ble_eq_true rfl, Nat.le_of_ble_eq_true rfl⟩ ⟨Nat.le_refl _, Nat.le_refl _⟩ rfl hl.1 rfl (Nat.le_of_ble_eq_true rfl) dX6_clean_3 ?_
  refine n_top (y := nI 0) (by rw [hB]; rfl) ?_
  refine lv_if_eq (tgt := 13) hx hb dX6_clean_6 (by decide) (fun _ => ?_) (fun h => absurd rfl h)
  refine lv_iconst (v := nI 1) hx hb dX6_clean_13 (by decide) ?_
  refine m_Mi (c_X6_refused (cN := 1) hE (by omega)) X hH (lw_V q1520 q1522 qs23 q72 q1523) hdv_X6_refused ⟨Nat.le_of_ble_eq_true rfl, Nat.le_of_ble_eq_true rfl⟩ ⟨Nat.le_refl _, Nat.le_refl _⟩ rfl hl.1 rfl (Nat.le_of_ble_eq_true rfl) dX6_clean_14 (fun r w H locs hq hH => ?_)
  obtain ⟨rfl, rfl⟩ := hq
  refine n_top (y := bI true) (rfl) ?_
  refine n_top (y := nI 1) (rfl) ?_
  refine lv_if_eq (tgt := 22) hx hb dX6_clean_17 (by decide) (fun h => absurd h (by decide)) (fun _ => ?_)
  refine lv_iconst (v := nI 0) hx hb dX6_clean_20 (by decide) ?_
  exact ret _ _ _ _ _ _ _ _ hH (⟨rfl, rfl⟩) (Nat.le_refl _) (Nat.le_refl _) dX6_clean_21
theorem c_X6_clean_0 (hE : EnvOK G E) {nN : Nat} {SV : Nat → Nat → Int32} (hn : nN ≤ 4) (hS : ∀ i, i < nN → ∀ k, k < 195 → f2 (195 * i + k) = SV i k) {sN : Nat} (hR : ROk f1) (hs : sN < nS f1) : MU vI l G E yX6_clean cX6_clean 4 (some .int) 3 0 0 [.ref (a 0), .int (nI sN)] (mw G a (nI nN) x5 x7 x8 x11 x15 f1 f2 f3 f4 f5 f6 f7 f8 f9 f10 f11 h ++ wr) (fun r w => ∃ g, (∀ i, i < svN nN → ∀ k, k < 195 → g (195 * i + k) = svF nN SV f1 i k) ∧ r = hadI f1 sN ∧ w = mw G a (nI (svN nN)) (nI 0) x7 x8 x11 x15 (clnR f1 sN (hadI f1 sN)) g f3 f4 f5 f6 f7 f8 f9 f10 f11 h ++ wr) := by
  refine MUi hE (by decide) (Nat.le_of_ble_eq_true rfl) (fun pR eV sT mI below meth cd QQ ls X hH hl ret => ?_)
  obtain ⟨⟨hx, hb, hml, hown, hts⟩, ⟨hr, hlk⟩, -, -, -⟩ := id X
  have hl : lv_has ls 4 [(0, .ref (a 0)), (1, .int (nI sN))] := hl
  refine wgen (H := sT.heap) (locs := []) hH (fun H locs hH => ?_)
  have hm := hR.s1
  refine lv_aload_n hx hb dX6_clean_0 rfl (lv_at hl 0 rfl) ?_
  refine lv_aload_n hx hb dX6_clean_1 rfl (lv_at hl 0 rfl) ?_
  refine lv_iload_n hx hb dX6_clean_2 rfl (lv_at hl 1 rfl) ?_
  refine m_R (c_X6_isStamp hE hR) X hH.2 hH.mp (lw_V q1593 q1595 qs34 q72 q1596) hdv_X6_isStamp ⟨Nat.le_of_ble_eq_true rfl, Nat.le_of_ble_eq_true rfl⟩ ⟨Nat.le_refl _, Nat.le_refl _⟩ rfl hl.1 rfl (Nat.le_of_ble_eq_true rfl) dX6_clean_3 ?_
  refine n_top (y := nI 1) (by rw [idB_t hs (by omega)]; rfl) ?_
  refine lv_if_eq (tgt := 13) hx hb dX6_clean_6 (by decide) (fun h => absurd h (by decide)) (fun _ => ?_)
  refine lv_iconst (v := nI 0) hx hb dX6_clean_9 (by decide) ?_
  refine lv_goto (tgt := 14) hx hb dX6_clean_10 (by decide) ?_
  refine m_Mi (c_X6_refused (cN := 0) hE (by omega)) X hH (lw_V q1520 q1522 qs23 q72 q1523) hdv_X6_refused ⟨Nat.le_of_ble_eq_true rfl, Nat.le_of_ble_eq_true rfl⟩ ⟨Nat.le_refl _, Nat.le_refl _⟩ rfl hl.1 rfl (Nat.le_of_ble_eq_true rfl) dX6_clean_14 (fun r w H locs hq hH => ?_)
  obtain ⟨rfl, rfl⟩ := hq
  refine n_top (y := bI false) (rfl) ?_
  refine n_top (y := nI 0) (rfl) ?_
  refine lv_if_eq (tgt := 22) hx hb dX6_clean_17 (by decide) (fun _ => ?_) (fun h => absurd rfl h)
  refine lv_aload_n hx hb dX6_clean_22 rfl (lv_at hl 0 rfl) ?_
  refine m_Mv (c_X6_saves (SV := SV) hE hn hS) X hH (lw_V q1569 q1571 qs30 q72 q1572) hdv_X6_saves ⟨Nat.le_of_ble_eq_true rfl, Nat.le_of_ble_eq_true rfl⟩ ⟨Nat.le_refl _, Nat.le_refl _⟩ rfl hl.1 rfl (Nat.le_of_ble_eq_true rfl) dX6_clean_23 (fun w H locs hq hH => ?_)
  obtain ⟨g2, hg2, rfl⟩ := hq
  refine lv_iload_n hx hb dX6_clean_26 rfl (lv_at hl 1 rfl) ?_
  refine m_S (c_X6_stampAt hE) X hH.2 (lw_S q1551 q1552 q72 q1553) hds_X6_stampAt ⟨Nat.le_of_ble_eq_true rfl, Nat.le_of_ble_eq_true rfl⟩ ⟨Nat.le_refl _, Nat.le_refl _⟩ rfl hl.1 rfl (Nat.le_of_ble_eq_true rfl) dX6_clean_27 ?_
  refine lv_istore_n (lv' := [(2, .int (nI (7 + 9 * sN))), (0, .ref (a 0)), (1, .int (nI sN))]) hx hb dX6_clean_30 rfl hl (by decide) rfl (fun ls hl => ?_)
  refine lv_aload_n hx hb dX6_clean_31 rfl (lv_at hl 1 rfl) ?_
  refine m_g0 X hH.mp dX6_clean_32 ?_
  refine lv_iload_n hx hb dX6_clean_35 rfl (lv_at hl 0 rfl) ?_
  refine lv_bipush (v := nI 6) hx hb dX6_clean_36 (by decide) ?_
  refine n_iadd hx hb dX6_clean_38 ?_
  refine m_ld1 X hH.mp (by omega) dX6_clean_39 ?_
  refine lv_iconst (v := (-1)) hx hb dX6_clean_40 (by decide) ?_
  refine lv_icmp_ne (tgt := 48) hx hb dX6_clean_41 (by decide) (fun c1 => ?_) (fun c1 => ?_)
  · refine lv_iconst (v := nI 1) hx hb dX6_clean_48 (by decide) ?_
    refine n_top (y := hadI f1 sN) (by unfold hadI; rw [if_neg c1]) ?_
    refine lv_istore_n (lv' := [(3, .int (hadI f1 sN)), (2, .int (nI (7 + 9 * sN))), (0, .ref (a 0)), (1, .int (nI sN))]) hx hb dX6_clean_49 rfl hl (by decide) rfl (fun ls hl => ?_)
    refine lv_aload_n hx hb dX6_clean_50 rfl (lv_at hl 2 rfl) ?_
    refine m_g0 X hH.mp dX6_clean_51 ?_
    refine lv_bipush (v := nI 6) hx hb dX6_clean_54 (by decide) ?_
    refine lv_dup2_11 hx hb dX6_clean_56 rfl rfl ?_
    refine m_ld1 X hH.mp (by omega) dX6_clean_57 ?_
    refine lv_iload_n hx hb dX6_clean_58 rfl (lv_at hl 0 rfl) ?_
    refine lv_iadd hx hb dX6_clean_59 ?_
    refine m_st1 X hH (by omega) dX6_clean_60 (fun f1_1 H locs ef1_1 hH => ?_)
    refine lv_aload_n hx hb dX6_clean_61 rfl (lv_at hl 2 rfl) ?_
    refine m_g0 X hH.mp dX6_clean_62 ?_
    refine lv_iload_n hx hb dX6_clean_65 rfl (lv_at hl 1 rfl) ?_
    refine lv_bipush (v := nI 6) hx hb dX6_clean_66 (by decide) ?_
    refine n_iadd hx hb dX6_clean_68 ?_
    refine lv_iconst (v := (-1)) hx hb dX6_clean_69 (by decide) ?_
    refine m_st1 X hH (by omega) dX6_clean_70 (fun f1_2 H locs ef1_2 hH => ?_)
    refine lv_aload_n hx hb dX6_clean_71 rfl (lv_at hl 2 rfl) ?_
    refine m_g0 X hH.mp dX6_clean_72 ?_
    refine lv_iload_n hx hb dX6_clean_75 rfl (lv_at hl 1 rfl) ?_
    refine lv_bipush (v := nI 7) hx hb dX6_clean_76 (by decide) ?_
    refine n_iadd hx hb dX6_clean_78 ?_
    refine lv_iconst (v := nI 0) hx hb dX6_clean_79 (by decide) ?_
    refine m_st1 X hH (by omega) dX6_clean_80 (fun f1_3 H locs ef1_3 hH => ?_)
    refine lv_iload_n hx hb dX6_clean_81 rfl (lv_at hl 0 rfl) ?_
    rw [show f1_3 = clnR f1 sN (hadI f1 sN) from by rw [ef1_3, ef1_2, ef1_1]; rfl] at hH
    exact ret _ _ _ _ _ _ _ _ hH (⟨g2, hg2, rfl, rfl⟩) (Nat.le_refl _) (Nat.le_refl _) dX6_clean_82
  · refine lv_iconst (v := nI 0) hx hb dX6_clean_44 (by decide) ?_
    refine lv_goto (tgt := 49) hx hb dX6_clean_45 (by decide) ?_
    refine n_top (y := hadI f1 sN) (by unfold hadI; rw [if_pos c1]) ?_
    refine lv_istore_n (lv' := [(3, .int (hadI f1 sN)), (2, .int (nI (7 + 9 * sN))), (0, .ref (a 0)), (1, .int (nI sN))]) hx hb dX6_clean_49 rfl hl (by decide) rfl (fun ls hl => ?_)
    refine lv_aload_n hx hb dX6_clean_50 rfl (lv_at hl 2 rfl) ?_
    refine m_g0 X hH.mp dX6_clean_51 ?_
    refine lv_bipush (v := nI 6) hx hb dX6_clean_54 (by decide) ?_
    refine lv_dup2_11 hx hb dX6_clean_56 rfl rfl ?_
    refine m_ld1 X hH.mp (by omega) dX6_clean_57 ?_
    refine lv_iload_n hx hb dX6_clean_58 rfl (lv_at hl 0 rfl) ?_
    refine lv_iadd hx hb dX6_clean_59 ?_
    refine m_st1 X hH (by omega) dX6_clean_60 (fun f1_4 H locs ef1_4 hH => ?_)
    refine lv_aload_n hx hb dX6_clean_61 rfl (lv_at hl 2 rfl) ?_
    refine m_g0 X hH.mp dX6_clean_62 ?_
    refine lv_iload_n hx hb dX6_clean_65 rfl (lv_at hl 1 rfl) ?_
    refine lv_bipush (v := nI 6) hx hb dX6_clean_66 (by decide) ?_
    refine n_iadd hx hb dX6_clean_68 ?_
    refine lv_iconst (v := (-1)) hx hb dX6_clean_69 (by decide) ?_
    refine m_st1 X hH (by omega) dX6_clean_70 (fun f1_5 H locs ef1_5 hH => ?_)
    refine lv_aload_n hx hb dX6_clean_71 rfl (lv_at hl 2 rfl) ?_
    refine m_g0 X hH.mp dX6_clean_72 ?_
    refine lv_iload_n hx hb dX6_clean_75 rfl (lv_at hl 1 rfl) ?_
    refine lv_bipush (v := nI 7) hx hb dX6_clean_76 (by decide) ?_
    refine n_iadd hx hb dX6_clean_78 ?_
    refine lv_iconst (v := nI 0) hx hb dX6_clean_79 (by decide) ?_
    refine m_st1 X hH (by omega) dX6_clean_80 (fun f1_6 H locs ef1_6 hH => ?_)
    refine lv_iload_n hx hb dX6_clean_81 rfl (lv_at hl 0 rfl) ?_
    rw [show f1_6 = clnR f1 sN (hadI f1 sN) from by rw [ef1_6, ef1_5, ef1_4]; rfl] at hH
    exact ret _ _ _ _ _ _ _ _ hH (⟨g2, hg2, rfl, rfl⟩) (Nat.le_refl _) (Nat.le_refl _) dX6_clean_82
end
