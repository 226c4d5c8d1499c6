/-! MODEL, methods 8: items of a text -/
def isSt (T : Nat → Nat) (l : Nat) (R : Nat → Int32) (p : Nat) : Bool := atB T l p 42 42 && decide (nS R < 10)
def isWd (T : Nat → Nat) (l : Nat) (R : Nat → Int32) (p : Nat) : Bool := atB T l p 48 51 && decide (nW R < 7)
def stR (T : Nat → Nat) (l : Nat) (R : Nat → Int32) (p : Nat) : Nat → Int32 := ltR (upd (clrR R (7 + 9 * nS R)) 0 (nI (nS R + 1))) T (p + 1) (7 + 9 * nS R) (7 + 9 * nS R + 1) (clN T l (p + 1) 5)
def wdR (T : Nat → Nat) (l : Nat) (R : Nat → Int32) (p : Nat) : Nat → Int32 := ltR (upd (upd (upd R (97 + 14 * nW R) (nI 0)) (97 + 14 * nW R + 1) (nI (T p - 48))) 1 (nI (nW R + 1))) T (p + 1) (97 + 14 * nW R) (97 + 14 * nW R + 2) (clN T l (p + 1) 12)
/-- an item of the text at p: whether it's one, the row with it, where the reading stops -/
def itB (T : Nat → Nat) (l : Nat) (R : Nat → Int32) (p : Nat) : Bool := if isSt T l R p then lokB T l (p + 1) 5 else if isWd T l R p then lokB T l (p + 1) 12 else false
def itR (T : Nat → Nat) (l : Nat) (R : Nat → Int32) (p : Nat) : Nat → Int32 := if isSt T l R p then stR T l R p else if isWd T l R p then wdR T l R p else R
def itP (T : Nat → Nat) (l : Nat) (R : Nat → Int32) (p : Nat) : Nat := if isSt T l R p then lokP T l (p + 1) 5 else if isWd T l R p then lokP T l (p + 1) 12 else p
def ROk0 (R : Nat → Int32) : Prop := isN R 0 11 ∧ isN R 1 8
theorem clrR_lo {R : Nat → Int32} {t k : Nat} (h : k < t) : clrR R t k = R k := by
  unfold clrR
  rw [if_neg (by omega), if_neg (by omega)]
theorem ltR_lo {R : Nat → Int32} {T : Nat → Nat} {p t q c k : Nat} (h : k < t) (h2 : k < q) : ltR R T p t q c k = R k := by
  unfold ltR
  rw [if_neg (by omega), if_neg (by omega)]
theorem isN_of {R : Nat → Int32} {i b n : Nat} (e : R i = nI n) (h : n < b) (hb : b ≤ 2 ^ 31) : isN R i b := by
  have : rn R i = n := by unfold rn; rw [e]; exact nI_clamp (by omega)
  exact ⟨by rw [this]; exact e, by rw [this]; exact h⟩
theorem rn_of {R : Nat → Int32} {i n : Nat} (e : R i = nI n) (h : n < 2 ^ 31) : rn R i = n := by unfold rn; rw [e]; exact nI_clamp h
theorem stR_01 {T : Nat → Nat} {l : Nat} {R : Nat → Int32} {p : Nat} : stR T l R p 0 = nI (nS R + 1) ∧ stR T l R p 1 = R 1 := by
  unfold stR
  rw [ltR_lo (by omega) (by omega), ltR_lo (by omega) (by omega), pk_us, pk_un (by decide), clrR_lo (by omega)]
  exact ⟨rfl, rfl⟩
theorem wdR_01 {T : Nat → Nat} {l : Nat} {R : Nat → Int32} {p : Nat} : wdR T l R p 0 = R 0 ∧ wdR T l R p 1 = nI (nW R + 1) := by
  unfold wdR
  rw [ltR_lo (by omega) (by omega), ltR_lo (by omega) (by omega), pk_us, pk_un (by decide), pk_un (by omega), pk_un (by omega)]
  exact ⟨rfl, rfl⟩
theorem itR_0 {T : Nat → Nat} {l : Nat} {R : Nat → Int32} {p : Nat} (h : ROk0 R) : ROk0 (itR T l R p) := by
  unfold itR
  split
  · next e =>
    unfold isSt at e
    rw [Bool.and_eq_true, decide_eq_true_eq] at e
    refine ⟨isN_of stR_01.1 (by omega) (by decide), ?_⟩
    have := h.2
    unfold isN at this ⊢
    unfold rn at this ⊢
    rw [stR_01.2]
    exact this
  · split
    · next e =>
      unfold isWd at e
      rw [Bool.and_eq_true, decide_eq_true_eq] at e
      refine ⟨?_, isN_of wdR_01.2 (by omega) (by decide)⟩
      have := h.1
      unfold isN at this ⊢
      unfold rn at this ⊢
      rw [wdR_01.1]
      exact this
    · exact h
theorem lokP_le {T : Nat → Nat} {l p m : Nat} (hp : p ≤ l) : p ≤ lokP T l p m ∧ lokP T l p m ≤ l := by
  unfold lokP
  have h := clN_l (T := T) m p hp
  split
  · next e =>
    unfold lokB at e
    rw [Bool.and_eq_true] at e
    have := atB_lt e.2
    omega
  · omega
theorem itP_le {T : Nat → Nat} {l : Nat} {R : Nat → Int32} {p : Nat} (hp : p < l) : p ≤ itP T l R p ∧ itP T l R p ≤ l ∧ (itB T l R p = true → p < itP T l R p) := by
  unfold itP itB
  split
  · have := lokP_le (T := T) (l := l) (p := p + 1) (m := 5) hp
    exact ⟨by omega, this.2, fun _ => by omega⟩
  · split
    · have := lokP_le (T := T) (l := l) (p := p + 1) (m := 12) hp
      exact ⟨by omega, this.2, fun _ => by omega⟩
    · exact ⟨Nat.le_refl _, Nat.le_of_lt hp, fun h => by cases h⟩
/-- the items of a text from p on, f at most -/
def psF (T : Nat → Nat) (l : Nat) : Nat → (Nat → Int32) → Nat → Bool × (Nat → Int32) × Nat
  | 0, R, p => (true, R, p)
  | f + 1, R, p => if p < l then (if itB T l R p then psF T l f (itR T l R p) (itP T l R p) else (false, itR T l R p, itP T l R p)) else (true, R, p)
def zer (R : Nat → Int32) : Nat → Int32 := upd (upd (upd (upd (upd R 0 (nI 0)) 1 (nI 0)) 4 (nI 0)) 5 (nI 0)) 6 (nI 0)
def psO (T : Nat → Nat) (l : Nat) (R : Nat → Int32) : Bool × (Nat → Int32) × Nat := psF T l l (zer R) 0
theorem psF_end {T : Nat → Nat} {l f : Nat} {R : Nat → Int32} {p : Nat} (h : l ≤ p) : psF T l f R p = (true, R, p) := by
  cases f with
  | zero => rfl
  | succ f => rw [psF, if_neg (by omega)]
theorem zer_0 {R : Nat → Int32} : ROk0 (zer R) := ⟨isN_of (n := 0) rfl (by decide) (by decide), isN_of (n := 0) rfl (by decide) (by decide)⟩
section
variable {l : Launch} {G : GG} {E : State → Prop} {a : Nat → Nat} {x4 x5 x7 x8 x11 x15 : Int32} {f1 f2 f3 f4 f5 f6 f7 f8 f9 f10 f11 : Nat → Int32} {h : Int64} {wr : va_W}
variable {T : Nat → Nat}
theorem hdv_X6_takesItem : yX6_takesItem.cls = RX6 ∧ yX6_takesItem.cls ≠ "java/lang/invoke/MethodHandle" ∧ yX6_takesItem.cls ≠ "java/lang/invoke/VarHandle" ∧ (parseMethodDescriptor yX6_takesItem.desc).map (fun d => d.parameters.length) = some 0 := by decide +kernel
theorem c_X6_takesItem (hE : EnvOK G E) {lN pN : Nat} (hT : tOk T lN f5) (hp : pN < lN) (hR : ROk0 f1) : MU vI l G E yX6_takesItem cX6_takesItem 2 (some .boolean) 4 0 0 [.ref (a 0)] (mw G a x4 x5 (nI lN) (nI pN) x11 x15 f1 f2 f3 f4 f5 f6 f7 f8 f9 f10 f11 h ++ wr) (fun r w => r = bI (itB T lN f1 pN) ∧ w = mw G a x4 x5 (nI lN) (nI (itP T lN f1 pN)) x11 x15 (itR T lN f1 pN) f2 f3 f4 f5 f6 f7 f8 f9 f10 f11 h ++ wr) := by
  refine MUz hE (by decide) (Nat.le_of_ble_eq_true rfl) (fun pR eV sT mI below meth cd QQ ls X hH hl ret => ?_)
  obtain ⟨⟨hx, hb, hml, hown, hts⟩, ⟨hr, hlk⟩, -, -, -⟩ := id X
  have hl : lv_has ls 2 [(0, .ref (a 0))] := hl
  refine wgen (H := sT.heap) (locs := []) hH (fun H locs hH => ?_)
  have hl150 := hT.1
  have hn0 := hR.1.1
  have hn1 := hR.1.2
  have hw0 := hR.2.1
  have hw1 := hR.2.2
  have hnS : rn f1 0 = nS f1 := rfl
  have hnW : rn f1 1 = nW f1 := rfl
  refine lv_aload_n hx hb dX6_takesItem_0 rfl (lv_at hl 0 rfl) ?_
  refine lv_bipush (v := nI 42) hx hb dX6_takesItem_1 (by decide) ?_
  refine lv_bipush (v := nI 42) hx hb dX6_takesItem_3 (by decide) ?_
  refine m_R (c_X6_isAt (lN0 := 42) (hN0 := 42) (pN := pN) hE hT (by omega) (by omega) (by omega)) X hH.2 hH.mp (lw_V q1547 q1549 qs26 q72 q1550) hdv_X6_isAt ⟨Nat.le_of_ble_eq_true rfl, Nat.le_of_ble_eq_true rfl⟩ ⟨Nat.le_refl _, Nat.le_refl _⟩ rfl hl.1 rfl (Nat.le_of_ble_eq_true rfl) dX6_takesItem_5 ?_
  refine b_if_eq (tgt := 67) hx hb dX6_takesItem_8 (by decide) (fun c1 => ?_) (fun c1 => ?_)
  · have hst : isSt T lN f1 pN = false := by unfold isSt; simp [c1]
    refine lv_aload_n hx hb dX6_takesItem_67 rfl (lv_at hl 0 rfl) ?_
    refine lv_bipush (v := nI 48) hx hb dX6_takesItem_68 (by decide) ?_
    refine lv_bipush (v := nI 51) hx hb dX6_takesItem_70 (by decide) ?_
    refine m_R (c_X6_isAt (lN0 := 48) (hN0 := 51) (pN := pN) hE hT (by omega) (by omega) (by omega)) X hH.2 hH.mp (lw_V q1547 q1549 qs26 q72 q1550) hdv_X6_isAt ⟨Nat.le_of_ble_eq_true rfl, Nat.le_of_ble_eq_true rfl⟩ ⟨Nat.le_refl _, Nat.le_refl _⟩ rfl hl.1 rfl (Nat.le_of_ble_eq_true rfl) dX6_takesItem_72 ?_
    refine b_if_eq (tgt := 157) hx hb dX6_takesItem_75 (by decide) (fun c3 => ?_) (fun c3 => ?_)
    · have hwd : isWd T lN f1 pN = false := by unfold isWd; simp [c3]
      refine lv_iconst (v := nI 0) hx hb dX6_takesItem_157 (by decide) ?_
      exact ret _ _ _ _ _ _ _ _ hH (⟨by unfold itB; rw [hst, hwd]; rfl, by unfold itR itP; rw [hst, hwd]; rfl⟩) (by decide) (Nat.le_refl _) (Nat.le_refl _) dX6_takesItem_158
    · refine lv_aload_n hx hb dX6_takesItem_78 rfl (lv_at hl 0 rfl) ?_
      refine m_g0 X hH.mp dX6_takesItem_79 ?_
      refine lv_iconst (v := nI 1) hx hb dX6_takesItem_82 (by decide) ?_
      refine m_ld1 X hH.mp (by omega) dX6_takesItem_83 ?_
      refine lv_bipush (v := nI 7) hx hb dX6_takesItem_84 (by decide) ?_
      refine n_top2 (y := nI (nW f1)) (hR.2.1) ?_
      refine n_icmp_ge (tgt := 157) hx hb (by omega) (by omega) dX6_takesItem_86 (by decide) (fun c4 => ?_) (fun c4 => ?_)
      · have hwd : isWd T lN f1 pN = false := by unfold isWd; simp [Nat.not_lt.mpr c4]
        refine lv_iconst (v := nI 0) hx hb dX6_takesItem_157 (by decide) ?_
        exact ret _ _ _ _ _ _ _ _ hH (⟨by unfold itB; rw [hst, hwd]; rfl, by unfold itR itP; rw [hst, hwd]; rfl⟩) (by decide) (Nat.le_refl _) (Nat.le_refl _) dX6_takesItem_158
      · have hwd : isWd T lN f1 pN = true := by unfold isWd; rw [c3, decide_eq_true c4]; rfl
        have hpl := atB_lt c3
        have hin := atB_in c3
        refine lv_aload_n hx hb dX6_takesItem_89 rfl (lv_at hl 0 rfl) ?_
        refine m_g0 X hH.mp dX6_takesItem_90 ?_
        refine lv_iconst (v := nI 1) hx hb dX6_takesItem_93 (by decide) ?_
        refine m_ld1 X hH.mp (by omega) dX6_takesItem_94 ?_
        refine n_top (y := nI (nW f1)) (hR.2.1) ?_
        refine m_S (c_X6_wordAt hE) X hH.2 (lw_S q1562 q1563 q72 q1564) hds_X6_wordAt ⟨Nat.le_of_ble_eq_true rfl, Nat.le_of_ble_eq_true rfl⟩ ⟨Nat.le_refl _, Nat.le_refl _⟩ rfl hl.1 rfl (Nat.le_of_ble_eq_true rfl) dX6_takesItem_95 ?_
        refine lv_istore_n (lv' := [(1, .int (nI (97 + 14 * (nW f1)))), (0, .ref (a 0))]) hx hb dX6_takesItem_98 rfl hl (by decide) rfl (fun ls hl => ?_)
        refine lv_aload_n hx hb dX6_takesItem_99 rfl (lv_at hl 1 rfl) ?_
        refine m_g0 X hH.mp dX6_takesItem_100 ?_
        refine lv_iload_n hx hb dX6_takesItem_103 rfl (lv_at hl 0 rfl) ?_
        refine lv_iconst (v := nI 0) hx hb dX6_takesItem_104 (by decide) ?_
        refine m_st1 X hH (by omega) dX6_takesItem_105 (fun f1_1 H locs ef1_1 hH => ?_)
        refine lv_aload_n hx hb dX6_takesItem_106 rfl (lv_at hl 1 rfl) ?_
        refine m_g0 X hH.mp dX6_takesItem_107 ?_
        refine lv_iload_n hx hb dX6_takesItem_110 rfl (lv_at hl 0 rfl) ?_
        refine lv_iconst (v := nI 1) hx hb dX6_takesItem_111 (by decide) ?_
        refine n_iadd hx hb dX6_takesItem_112 ?_
        refine lv_aload_n hx hb dX6_takesItem_113 rfl (lv_at hl 1 rfl) ?_
        refine m_g6 X hH.mp dX6_takesItem_114 ?_
        refine lv_aload_n hx hb dX6_takesItem_117 rfl (lv_at hl 1 rfl) ?_
        refine m_g8 X hH.mp dX6_takesItem_118 ?_
        refine m_ld5 X hH.mp (by omega) dX6_takesItem_121 ?_
        refine n_top (y := nI (T pN)) ((hT.2 _ hpl).1) ?_
        refine lv_bipush (v := nI 48) hx hb dX6_takesItem_122 (by decide) ?_
        refine n_isub hx hb (by omega) dX6_takesItem_124 ?_
        refine m_st1 X hH (by omega) dX6_takesItem_125 (fun f1_2 H locs ef1_2 hH => ?_)
        refine lv_aload_n hx hb dX6_takesItem_126 rfl (lv_at hl 1 rfl) ?_
        refine m_g0 X hH.mp dX6_takesItem_127 ?_
        refine lv_iconst (v := nI 1) hx hb dX6_takesItem_130 (by decide) ?_
        refine lv_dup2_11 hx hb dX6_takesItem_131 rfl rfl ?_
        refine m_ld1 X hH.mp (by omega) dX6_takesItem_132 ?_
        refine lv_iconst (v := nI 1) hx hb dX6_takesItem_133 (by decide) ?_
        refine n_top2 (y := nI (nW f1)) (by rw [ef1_2, pk_un (by omega), ef1_1, pk_un (by omega)]; exact hR.2.1) ?_
        refine n_iadd hx hb dX6_takesItem_134 ?_
        refine m_st1 X hH (by omega) dX6_takesItem_135 (fun f1_3 H locs ef1_3 hH => ?_)
        rw [show f1_3 = upd (upd (upd f1 (97 + 14 * nW f1) (nI 0)) (97 + 14 * nW f1 + 1) (nI (T pN - 48))) 1 (nI (nW f1 + 1)) from by rw [ef1_3, ef1_2, ef1_1]] at hH
        refine lv_aload_n hx hb dX6_takesItem_136 rfl (lv_at hl 1 rfl) ?_
        refine lv_dup hx hb dX6_takesItem_137 rfl ?_
        refine m_g8 X hH.mp dX6_takesItem_138 ?_
        refine lv_iconst (v := nI 1) hx hb dX6_takesItem_141 (by decide) ?_
        refine n_iadd hx hb dX6_takesItem_142 ?_
        refine m_p8 X hH dX6_takesItem_143 (fun H locs hH => ?_)
        refine lv_aload_n hx hb dX6_takesItem_146 rfl (lv_at hl 1 rfl) ?_
        refine lv_iload_n hx hb dX6_takesItem_147 rfl (lv_at hl 0 rfl) ?_
        refine lv_iload_n hx hb dX6_takesItem_148 rfl (lv_at hl 0 rfl) ?_
        refine lv_iconst (v := nI 2) hx hb dX6_takesItem_149 (by decide) ?_
        refine n_iadd hx hb dX6_takesItem_150 ?_
        refine lv_bipush (v := nI 12) hx hb dX6_takesItem_151 (by decide) ?_
        refine m_Mi (c_X6_takesLetters (lN := lN) (pN := pN + 1) hE hT (by omega) (by omega) (by omega) (by omega) (by rw [pk_un (by omega), pk_un (by omega), pk_us])) X hH (lw_V q1558 q1560 qs28 q72 q1561) hdv_X6_takesLetters ⟨Nat.le_of_ble_eq_true rfl, Nat.le_of_ble_eq_true rfl⟩ ⟨Nat.le_refl _, Nat.le_refl _⟩ rfl hl.1 rfl (Nat.le_of_ble_eq_true rfl) dX6_takesItem_153 (fun r w H locs hq hH => ?_)
        obtain ⟨rfl, rfl⟩ := hq
        exact ret _ _ _ _ _ _ _ _ hH (⟨by unfold itB; rw [hst, hwd]; rfl, by unfold itR itP; rw [hst, hwd]; rfl⟩) (bI_nar _) (Nat.le_refl _) (Nat.le_refl _) dX6_takesItem_156
  · refine lv_aload_n hx hb dX6_takesItem_11 rfl (lv_at hl 0 rfl) ?_
    refine m_g0 X hH.mp dX6_takesItem_12 ?_
    refine lv_iconst (v := nI 0) hx hb dX6_takesItem_15 (by decide) ?_
    refine m_ld1 X hH.mp (by omega) dX6_takesItem_16 ?_
    refine lv_bipush (v := nI 10) hx hb dX6_takesItem_17 (by decide) ?_
    refine n_top2 (y := nI (nS f1)) (hR.1.1) ?_
    refine n_icmp_ge (tgt := 67) hx hb (by omega) (by omega) dX6_takesItem_19 (by decide) (fun c2 => ?_) (fun c2 => ?_)
    · have hst : isSt T lN f1 pN = false := by unfold isSt; simp [Nat.not_lt.mpr c2]
      refine lv_aload_n hx hb dX6_takesItem_67 rfl (lv_at hl 0 rfl) ?_
      refine lv_bipush (v := nI 48) hx hb dX6_takesItem_68 (by decide) ?_
      refine lv_bipush (v := nI 51) hx hb dX6_takesItem_70 (by decide) ?_
      refine m_R (c_X6_isAt (lN0 := 48) (hN0 := 51) (pN := pN) hE hT (by omega) (by omega) (by omega)) X hH.2 hH.mp (lw_V q1547 q1549 qs26 q72 q1550) hdv_X6_isAt ⟨Nat.le_of_ble_eq_true rfl, Nat.le_of_ble_eq_true rfl⟩ ⟨Nat.le_refl _, Nat.le_refl _⟩ rfl hl.1 rfl (Nat.le_of_ble_eq_true rfl) dX6_takesItem_72 ?_
      refine b_if_eq (tgt := 157) hx hb dX6_takesItem_75 (by decide) (fun c3 => ?_) (fun c3 => ?_)
      · have hwd : isWd T lN f1 pN = false := by unfold isWd; simp [c3]
        refine lv_iconst (v := nI 0) hx hb dX6_takesItem_157 (by decide) ?_
        exact ret _ _ _ _ _ _ _ _ hH (⟨by unfold itB; rw [hst, hwd]; rfl, by unfold itR itP; rw [hst, hwd]; rfl⟩) (by decide) (Nat.le_refl _) (Nat.le_refl _) dX6_takesItem_158
      · refine lv_aload_n hx hb dX6_takesItem_78 rfl (lv_at hl 0 rfl) ?_
        refine m_g0 X hH.mp dX6_takesItem_79 ?_
        refine lv_iconst (v := nI 1) hx hb dX6_takesItem_82 (by decide) ?_
        refine m_ld1 X hH.mp (by omega) dX6_takesItem_83 ?_
        refine lv_bipush (v := nI 7) hx hb dX6_takesItem_84 (by decide) ?_
        refine n_top2 (y := nI (nW f1)) (hR.2.1) ?_
        refine n_icmp_ge (tgt := 157) hx hb (by omega) (by omega) dX6_takesItem_86 (by decide) (fun c4 => ?_) (fun c4 => ?_)
        · have hwd : isWd T lN f1 pN = false := by unfold isWd; simp [Nat.not_lt.mpr c4]
          refine lv_iconst (v := nI 0) hx hb dX6_takesItem_157 (by decide) ?_
          exact ret _ _ _ _ _ _ _ _ hH (⟨by unfold itB; rw [hst, hwd]; rfl, by unfold itR itP; rw [hst, hwd]; rfl⟩) (by decide) (Nat.le_refl _) (Nat.le_refl _) dX6_takesItem_158
        · have hwd : isWd T lN f1 pN = true := by unfold isWd; rw [c3, decide_eq_true c4]; rfl
          have hpl := atB_lt c3
          have hin := atB_in c3
          refine lv_aload_n hx hb dX6_takesItem_89 rfl (lv_at hl 0 rfl) ?_
          refine m_g0 X hH.mp dX6_takesItem_90 ?_
          refine lv_iconst (v := nI 1) hx hb dX6_takesItem_93 (by decide) ?_
          refine m_ld1 X hH.mp (by omega) dX6_takesItem_94 ?_
          refine n_top (y := nI (nW f1)) (hR.2.1) ?_
          refine m_S (c_X6_wordAt hE) X hH.2 (lw_S q1562 q1563 q72 q1564) hds_X6_wordAt ⟨Nat.le_of_ble_eq_true rfl, Nat.le_of_ble_eq_true rfl⟩ ⟨Nat.le_refl _, Nat.le_refl _⟩ rfl hl.1 rfl (Nat.le_of_ble_eq_true rfl) dX6_takesItem_95 ?_
          refine lv_istore_n (lv' := [(1, .int (nI (97 + 14 * (nW f1)))), (0, .ref (a 0))]) hx hb dX6_takesItem_98 rfl hl (by decide) rfl (fun ls hl => ?_)
          refine lv_aload_n hx hb dX6_takesItem_99 rfl (lv_at hl 1 rfl) ?_
          refine m_g0 X hH.mp dX6_takesItem_100 ?_
          refine lv_iload_n hx hb dX6_takesItem_103 rfl (lv_at hl 0 rfl) ?_
          refine lv_iconst (v := nI 0) hx hb dX6_takesItem_104 (by decide) ?_
          refine m_st1 X hH (by omega) dX6_takesItem_105 (fun f1_4 H locs ef1_4 hH => ?_)
          refine lv_aload_n hx hb dX6_takesItem_106 rfl (lv_at hl 1 rfl) ?_
          refine m_g0 X hH.mp dX6_takesItem_107 ?_
          refine lv_iload_n hx hb dX6_takesItem_110 rfl (lv_at hl 0 rfl) ?_
          refine lv_iconst (v := nI 1) hx hb dX6_takesItem_111 (by decide) ?_
          refine n_iadd hx hb dX6_takesItem_112 ?_
          refine lv_aload_n hx hb dX6_takesItem_113 rfl (lv_at hl 1 rfl) ?_
          refine m_g6 X hH.mp dX6_takesItem_114 ?_
          refine lv_aload_n hx hb dX6_takesItem_117 rfl (lv_at hl 1 rfl) ?_
          refine m_g8 X hH.mp dX6_takesItem_118 ?_
          refine m_ld5 X hH.mp (by omega) dX6_takesItem_121 ?_
          refine n_top (y := nI (T pN)) ((hT.2 _ hpl).1) ?_
          refine lv_bipush (v := nI 48) hx hb dX6_takesItem_122 (by decide) ?_
          refine n_isub hx hb (by omega) dX6_takesItem_124 ?_
          refine m_st1 X hH (by omega) dX6_takesItem_125 (fun f1_5 H locs ef1_5 hH => ?_)
          refine lv_aload_n hx hb dX6_takesItem_126 rfl (lv_at hl 1 rfl) ?_
          refine m_g0 X hH.mp dX6_takesItem_127 ?_
          refine lv_iconst (v := nI 1) hx hb dX6_takesItem_130 (by decide) ?_
          refine lv_dup2_11 hx hb dX6_takesItem_131 rfl rfl ?_
          refine m_ld1 X hH.mp (by omega) dX6_takesItem_132 ?_
          refine lv_iconst (v := nI 1) hx hb dX6_takesItem_133 (by decide) ?_
          refine n_top2 (y := nI (nW f1)) (by rw [ef1_5, pk_un (by omega), ef1_4, pk_un (by omega)]; exact hR.2.1) ?_
          refine n_iadd hx hb dX6_takesItem_134 ?_
          refine m_st1 X hH (by omega) dX6_takesItem_135 (fun f1_6 H locs ef1_6 hH => ?_)
          rw [show f1_6 = upd (upd (upd f1 (97 + 14 * nW f1) (nI 0)) (97 + 14 * nW f1 + 1) (nI (T pN - 48))) 1 (nI (nW f1 + 1)) from by rw [ef1_6, ef1_5, ef1_4]] at hH
          refine lv_aload_n hx hb dX6_takesItem_136 rfl (lv_at hl 1 rfl) ?_
          refine lv_dup hx hb dX6_takesItem_137 rfl ?_
          refine m_g8 X hH.mp dX6_takesItem_138 ?_
          refine lv_iconst (v := nI 1) hx hb dX6_takesItem_141 (by decide) ?_
          refine n_iadd hx hb dX6_takesItem_142 ?_
          refine m_p8 X hH dX6_takesItem_143 (fun H locs hH => ?_)
          refine lv_aload_n hx hb dX6_takesItem_146 rfl (lv_at hl 1 rfl) ?_
          refine lv_iload_n hx hb dX6_takesItem_147 rfl (lv_at hl 0 rfl) ?_
          refine lv_iload_n hx hb dX6_takesItem_148 rfl (lv_at hl 0 rfl) ?_
          refine lv_iconst (v := nI 2) hx hb dX6_takesItem_149 (by decide) ?_
          refine n_iadd hx hb dX6_takesItem_150 ?_
          refine lv_bipush (v := nI 12) hx hb dX6_takesItem_151 (by decide) ?_
          refine m_Mi (c_X6_takesLetters (lN := lN) (pN := pN + 1) hE hT (by omega) (by omega) (by omega) (by omega) (by rw [pk_un (by omega), pk_un (by omega), pk_us])) X hH (lw_V q1558 q1560 qs28 q72 q1561) hdv_X6_takesLetters ⟨Nat.le_of_ble_eq_true rfl, Nat.le_of_ble_eq_true rfl⟩ ⟨Nat.le_refl _, Nat.le_refl _⟩ rfl hl.1 rfl (Nat.le_of_ble_eq_true rfl) dX6_takesItem_153 (fun r w H locs hq hH => ?_)
          obtain ⟨rfl, rfl⟩ := hq
          exact ret _ _ _ _ _ _ _ _ hH (⟨by unfold itB; rw [hst, hwd]; rfl, by unfold itR itP; rw [hst, hwd]; rfl⟩) (bI_nar _) (Nat.le_refl _) (Nat.le_refl _) dX6_takesItem_156
    · have hst : isSt T lN f1 pN = true := by unfold isSt; rw [c1, decide_eq_true c2]; rfl
      have hpl := atB_lt c1
      refine lv_aload_n hx hb dX6_takesItem_22 rfl (lv_at hl 0 rfl) ?_
      refine lv_dup hx hb dX6_takesItem_23 rfl ?_
      refine m_g8 X hH.mp dX6_takesItem_24 ?_
      refine lv_iconst (v := nI 1) hx hb dX6_takesItem_27 (by decide) ?_
      refine n_iadd hx hb dX6_takesItem_28 ?_
      refine m_p8 X hH dX6_takesItem_29 (fun H locs hH => ?_)
      refine lv_aload_n hx hb dX6_takesItem_32 rfl (lv_at hl 0 rfl) ?_
      refine m_g0 X hH.mp dX6_takesItem_33 ?_
      refine lv_iconst (v := nI 0) hx hb dX6_takesItem_36 (by decide) ?_
      refine m_ld1 X hH.mp (by omega) dX6_takesItem_37 ?_
      refine n_top (y := nI (nS f1)) (hR.1.1) ?_
      refine m_S (c_X6_stampAt hE) X hH.2 (lw_S q1551 q1552 q72 q1553) hds_X6_stampAt ⟨Nat.le_of_ble_eq_true rfl, Nat.le_of_ble_eq_true rfl⟩ ⟨Nat.le_refl _, Nat.le_refl _⟩ rfl hl.1 rfl (Nat.le_of_ble_eq_true rfl) dX6_takesItem_38 ?_
      refine lv_istore_n (lv' := [(1, .int (nI (7 + 9 * (nS f1)))), (0, .ref (a 0))]) hx hb dX6_takesItem_41 rfl hl (by decide) rfl (fun ls hl => ?_)
      refine lv_aload_n hx hb dX6_takesItem_42 rfl (lv_at hl 1 rfl) ?_
      refine lv_iload_n hx hb dX6_takesItem_43 rfl (lv_at hl 0 rfl) ?_
      refine m_Mv (c_X6_clears (tN := 7 + 9 * nS f1) hE (by omega)) X hH (lw_V q1554 q1556 qs27 q72 q1557) hdv_X6_clears ⟨Nat.le_of_ble_eq_true rfl, Nat.le_of_ble_eq_true rfl⟩ ⟨Nat.le_refl _, Nat.le_refl _⟩ rfl hl.1 rfl (Nat.le_of_ble_eq_true rfl) dX6_takesItem_44 (fun w H locs hq hH => ?_)
      obtain rfl := hq
      refine lv_aload_n hx hb dX6_takesItem_47 rfl (lv_at hl 1 rfl) ?_
      refine m_g0 X hH.mp dX6_takesItem_48 ?_
      refine lv_iconst (v := nI 0) hx hb dX6_takesItem_51 (by decide) ?_
      refine lv_dup2_11 hx hb dX6_takesItem_52 rfl rfl ?_
      refine m_ld1 X hH.mp (by omega) dX6_takesItem_53 ?_
      refine lv_iconst (v := nI 1) hx hb dX6_takesItem_54 (by decide) ?_
      refine n_top2 (y := nI (nS f1)) (by rw [clrR_lo (by omega)]; exact hR.1.1) ?_
      refine n_iadd hx hb dX6_takesItem_55 ?_
      refine m_st1 X hH (by omega) dX6_takesItem_56 (fun f1_7 H locs ef1_7 hH => ?_)
      rw [show f1_7 = upd (clrR f1 (7 + 9 * nS f1)) 0 (nI (nS f1 + 1)) from ef1_7] at hH
      refine lv_aload_n hx hb dX6_takesItem_57 rfl (lv_at hl 1 rfl) ?_
      refine lv_iload_n hx hb dX6_takesItem_58 rfl (lv_at hl 0 rfl) ?_
      refine lv_iload_n hx hb dX6_takesItem_59 rfl (lv_at hl 0 rfl) ?_
      refine lv_iconst (v := nI 1) hx hb dX6_takesItem_60 (by decide) ?_
      refine n_iadd hx hb dX6_takesItem_61 ?_
      refine lv_iconst (v := nI 5) hx hb dX6_takesItem_62 (by decide) ?_
      refine m_Mi (c_X6_takesLetters (lN := lN) (pN := pN + 1) hE hT (by omega) (by omega) (by omega) (by omega) (by rw [pk_un (by omega)]; unfold clrR; rw [if_neg (by omega), if_pos (by omega)]; rfl)) X hH (lw_V q1558 q1560 qs28 q72 q1561) hdv_X6_takesLetters ⟨Nat.le_of_ble_eq_true rfl, Nat.le_of_ble_eq_true rfl⟩ ⟨Nat.le_refl _, Nat.le_refl _⟩ rfl hl.1 rfl (Nat.le_of_ble_eq_true rfl) dX6_takesItem_63 (fun r w H locs hq hH => ?_)
      obtain ⟨rfl, rfl⟩ := hq
      exact ret _ _ _ _ _ _ _ _ hH (⟨by unfold itB; rw [hst]; rfl, by unfold itR itP; rw [hst]; rfl⟩) (bI_nar _) (Nat.le_refl _) (Nat.le_refl _) dX6_takesItem_66
theorem hdv_X6_parse : yX6_parse.cls = RX6 ∧ yX6_parse.cls ≠ "java/lang/invoke/MethodHandle" ∧ yX6_parse.cls ≠ "java/lang/invoke/VarHandle" ∧ (parseMethodDescriptor yX6_parse.desc).map (fun d => d.parameters.length) = some 0 := by decide +kernel
theorem c_X6_parse_1 (hE : EnvOK G E) {lN nN : Nat} {SV : Nat → Nat → Int32} (hT : tOk T lN f5) (hn : nN ≤ 4) (hS : ∀ i, i < nN → ∀ k, k < 195 → f2 (195 * i + k) = SV i k) (hok0 : (psO T lN f1).1 = true) : MU vI l G E yX6_parse cX6_parse 3 (some .int) 5 0 0 [.ref (a 0)] (mw G a (nI nN) x5 (nI lN) x8 x11 x15 f1 f2 f3 f4 f5 f6 f7 f8 f9 f10 f11 h ++ wr) (fun r w => ∃ g, (∀ i, i < svN nN → ∀ k, k < 195 → g (195 * i + k) = svF nN SV f1 i k) ∧ r = nI (nS (psO T lN f1).2.1 + nW (psO T lN f1).2.1) ∧ w = mw G a (nI (svN nN)) (nI 0) (nI lN) (nI (psO T lN f1).2.2) x11 x15 ((psO T lN f1).2.1) g f1 ((psO T lN f1).2.1) f5 f6 f7 f8 f9 f10 f11 h ++ wr) := by
  refine MUi hE (by decide) (Nat.le_of_ble_eq_true rfl) (fun pR eV sT mI below meth cd QQ ls X hH hl ret => ?_)
  obtain ⟨⟨hx, hb, hml, hown, hts⟩, ⟨hr, hlk⟩, -, -, -⟩ := id X
  have hl : lv_has ls 3 [(0, .ref (a 0))] := hl
  refine wgen (H := sT.heap) (locs := []) hH (fun H locs hH => ?_)
  have hl150 := hT.1
  refine lv_aload_n hx hb dX6_parse_0 rfl (lv_at hl 0 rfl) ?_
  refine lv_iconst (v := nI 0) hx hb dX6_parse_1 (by decide) ?_
  refine m_p5 X hH dX6_parse_2 (fun H locs hH => ?_)
  refine lv_aload_n hx hb dX6_parse_5 rfl (lv_at hl 0 rfl) ?_
  refine m_Mv (c_X6_keeps hE) X hH (lw_V q1539 q1541 qs24 q72 q1542) hdv_X6_keeps ⟨Nat.le_of_ble_eq_true rfl, Nat.le_of_ble_eq_true rfl⟩ ⟨Nat.le_refl _, Nat.le_refl _⟩ rfl hl.1 rfl (Nat.le_of_ble_eq_true rfl) dX6_parse_6 (fun w H locs hq hH => ?_)
  obtain rfl := hq
  refine lv_aload_n hx hb dX6_parse_9 rfl (lv_at hl 0 rfl) ?_
  refine m_g0 X hH.mp dX6_parse_10 ?_
  refine lv_iconst (v := nI 0) hx hb dX6_parse_13 (by decide) ?_
  refine lv_iconst (v := nI 0) hx hb dX6_parse_14 (by decide) ?_
  refine m_st1 X hH (by omega) dX6_parse_15 (fun f1_1 H locs ef1_1 hH => ?_)
  refine lv_aload_n hx hb dX6_parse_16 rfl (lv_at hl 0 rfl) ?_
  refine m_g0 X hH.mp dX6_parse_17 ?_
  refine lv_iconst (v := nI 1) hx hb dX6_parse_20 (by decide) ?_
  refine lv_iconst (v := nI 0) hx hb dX6_parse_21 (by decide) ?_
  refine m_st1 X hH (by omega) dX6_parse_22 (fun f1_2 H locs ef1_2 hH => ?_)
  refine lv_aload_n hx hb dX6_parse_23 rfl (lv_at hl 0 rfl) ?_
  refine m_g0 X hH.mp dX6_parse_24 ?_
  refine lv_iconst (v := nI 4) hx hb dX6_parse_27 (by decide) ?_
  refine lv_iconst (v := nI 0) hx hb dX6_parse_28 (by decide) ?_
  refine m_st1 X hH (by omega) dX6_parse_29 (fun f1_3 H locs ef1_3 hH => ?_)
  refine lv_aload_n hx hb dX6_parse_30 rfl (lv_at hl 0 rfl) ?_
  refine m_g0 X hH.mp dX6_parse_31 ?_
  refine lv_iconst (v := nI 5) hx hb dX6_parse_34 (by decide) ?_
  refine lv_iconst (v := nI 0) hx hb dX6_parse_35 (by decide) ?_
  refine m_st1 X hH (by omega) dX6_parse_36 (fun f1_4 H locs ef1_4 hH => ?_)
  refine lv_aload_n hx hb dX6_parse_37 rfl (lv_at hl 0 rfl) ?_
  refine m_g0 X hH.mp dX6_parse_38 ?_
  refine lv_bipush (v := nI 6) hx hb dX6_parse_41 (by decide) ?_
  refine lv_iconst (v := nI 0) hx hb dX6_parse_43 (by decide) ?_
  refine m_st1 X hH (by omega) dX6_parse_44 (fun f1_5 H locs ef1_5 hH => ?_)
  rw [show f1_5 = zer f1 from by rw [ef1_5, ef1_4, ef1_3, ef1_2, ef1_1]; rfl] at hH
  refine lv_aload_n hx hb dX6_parse_45 rfl (lv_at hl 0 rfl) ?_
  refine lv_iconst (v := nI 0) hx hb dX6_parse_46 (by decide) ?_
  refine m_p8 X hH dX6_parse_47 (fun H locs hH => ?_)
  refine lv_iconst (v := nI 1) hx hb dX6_parse_50 (by decide) ?_
  refine lv_istore_n (lv' := [(1, .int (nI 1)), (0, .ref (a 0))]) hx hb dX6_parse_51 rfl hl (by decide) rfl (fun ls hl => ?_)
  have hl : lv_has ls 3 [(1, .int (bI true)), (0, .ref (a 0))] := by rw [← (show (nI 1 : Int32) = bI true from rfl)]; exact hl
  have lp : ∀ (fu : Nat) (jN : Nat) (isB : Bool) (pN : Nat) (f1v : Nat → Int32), (pN ≤ lN) → (lN ≤ pN + jN ∨ isB = false) → (psO T lN f1 = if isB = true then psF T lN jN f1v pN else (false, f1v, pN)) → (ROk0 f1v) → jN < fu → ∀ (H : Heap) (locs : List Loc), HH G sT (mw G a (nI nN) (nI 0) (nI lN) (nI pN) x11 x15 f1v f2 f1 f4 f5 f6 f7 f8 f9 f10 f11 h ++ wr) H locs → ∀ ls : Array Slot, lv_has ls 3 [(0, .ref (a 0)), (1, .int (bI isB))] → W pR l eV (Rm 5 0 0) sT mI ([.ref (a 0)] : List Value).toArray below meth cd H locs 0 0 QQ (F0 mI 52 ls []) := by
    intro fu
    induction fu with
    | zero => intro jN isB pN f1v hp hpj hst hR hm; exact absurd hm (Nat.not_lt_zero _)
    | succ fu ih_lp =>
      intro jN isB pN f1v hp hpj hst hR hm H locs hH ls hl
      refine lv_iload_n hx hb dX6_parse_52 rfl (lv_at hl 1 rfl) ?_
      refine b_if_eq (tgt := 75) hx hb dX6_parse_53 (by decide) (fun c1 => ?_) (fun c1 => ?_)
      · have hfin : psO T lN f1 = (false, f1v, pN) := by rw [hst, c1]; rfl
        exact absurd (show (psO T lN f1).1 = false by rw [hfin]) (by rw [hok0]; decide)
      · refine lv_aload_n hx hb dX6_parse_56 rfl (lv_at hl 0 rfl) ?_
        refine m_g8 X hH.mp dX6_parse_57 ?_
        refine lv_aload_n hx hb dX6_parse_60 rfl (lv_at hl 0 rfl) ?_
        refine m_g7 X hH.mp dX6_parse_61 ?_
        refine n_icmp_ge (tgt := 75) hx hb (by omega) (by omega) dX6_parse_64 (by decide) (fun c2 => ?_) (fun c2 => ?_)
        · have hfin : psO T lN f1 = (true, f1v, pN) := by rw [hst, c1, if_pos rfl, psF_end c2]
          have hok : isB = true := c1
          refine lv_iload_n hx hb dX6_parse_75 rfl (lv_at hl 1 rfl) ?_
          refine n_top (y := nI 1) (by rw [hok]; rfl) ?_
          refine lv_if_ne (tgt := 91) hx hb dX6_parse_76 (by decide) (fun _ => ?_) (fun h => absurd h (by decide))
          have hz : ROk0 (psO T lN f1).2.1 := by rw [hfin]; exact hR
          have hpp : (psO T lN f1).2.2 = pN := by rw [hfin]
          rw [show f1v = (psO T lN f1).2.1 by rw [hfin], ← hpp] at hH
          refine lv_iconst (v := nI 0) hx hb dX6_parse_91 (by decide) ?_
          refine lv_istore_n (lv' := [(2, .int (nI 0)), (0, .ref (a 0)), (1, .int (bI isB))]) hx hb dX6_parse_92 rfl hl (by decide) rfl (fun ls hl => ?_)
          have lc93 : ∀ (fu : Nat) (kN : Nat) (f4v : Nat → Int32), (kN ≤ 195) → (∀ k, k < kN → f4v k = ((psO T lN f1).2.1) k) → 195 - kN < fu → ∀ (H : Heap) (locs : List Loc), HH G sT (mw G a (nI nN) (nI 0) (nI lN) (nI (psO T lN f1).2.2) x11 x15 ((psO T lN f1).2.1) f2 f1 f4v f5 f6 f7 f8 f9 f10 f11 h ++ wr) H locs → ∀ ls : Array Slot, lv_has ls 3 [(0, .ref (a 0)), (1, .int (bI isB)), (2, .int (nI kN))] → W pR l eV (Rm 5 0 0) sT mI ([.ref (a 0)] : List Value).toArray below meth cd H locs 0 0 QQ (F0 mI 93 ls []) := by
            intro fu
            induction fu with
            | zero => intro kN f4v hk hg hm; exact absurd hm (Nat.not_lt_zero _)
            | succ fu ih_lc93 =>
              intro kN f4v hk hg hm H locs hH ls hl
              refine lv_iload_n hx hb dX6_parse_93 rfl (lv_at hl 2 rfl) ?_
              refine lv_sipush (v := nI 195) hx hb dX6_parse_94 (by decide) ?_
              refine n_icmp_ge (tgt := 118) hx hb (by omega) (by omega) dX6_parse_97 (by decide) (fun c8 => ?_) (fun c8 => ?_)
              · have hH := m_cg4 (g := (psO T lN f1).2.1) (fun k hk => (hg k (by omega)).symm) hH
                refine lv_aload_n hx hb dX6_parse_118 rfl (lv_at hl 0 rfl) ?_
                refine m_Mv (c_X6_takesBack hE) X hH (lw_V q1565 q1567 qs29 q72 q1568) hdv_X6_takesBack ⟨Nat.le_of_ble_eq_true rfl, Nat.le_of_ble_eq_true rfl⟩ ⟨Nat.le_refl _, Nat.le_refl _⟩ rfl hl.1 rfl (Nat.le_of_ble_eq_true rfl) dX6_parse_119 (fun w H locs hq hH => ?_)
                obtain rfl := hq
                refine lv_aload_n hx hb dX6_parse_122 rfl (lv_at hl 0 rfl) ?_
                refine m_Mv (c_X6_saves (SV := SV) hE hn hS) X hH (lw_V q1569 q1571 qs30 q72 q1572) hdv_X6_saves ⟨Nat.le_of_ble_eq_true rfl, Nat.le_of_ble_eq_true rfl⟩ ⟨Nat.le_refl _, Nat.le_refl _⟩ rfl hl.1 rfl (Nat.le_of_ble_eq_true rfl) dX6_parse_123 (fun w H locs hq hH => ?_)
                obtain ⟨g2, hg2, rfl⟩ := hq
                refine lv_iconst (v := nI 0) hx hb dX6_parse_126 (by decide) ?_
                refine lv_istore_n (lv' := [(2, .int (nI 0)), (0, .ref (a 0)), (1, .int (bI isB))]) hx hb dX6_parse_127 rfl hl (by decide) rfl (fun ls hl => ?_)
                have lc128 : ∀ (fu : Nat) (kN : Nat) (f1v : Nat → Int32), (kN ≤ 195) → (∀ k, k < kN → f1v k = ((psO T lN f1).2.1) k) → 195 - kN < fu → ∀ (H : Heap) (locs : List Loc), HH G sT (mw G a (nI (svN nN)) (nI 0) (nI lN) (nI (psO T lN f1).2.2) x11 x15 f1v g2 f1 ((psO T lN f1).2.1) f5 f6 f7 f8 f9 f10 f11 h ++ wr) H locs → ∀ ls : Array Slot, lv_has ls 3 [(0, .ref (a 0)), (1, .int (bI isB)), (2, .int (nI kN))] → W pR l eV (Rm 5 0 0) sT mI ([.ref (a 0)] : List Value).toArray below meth cd H locs 0 0 QQ (F0 mI 128 ls []) := by
                  intro fu
                  induction fu with
                  | zero => intro kN f1v hk hg hm; exact absurd hm (Nat.not_lt_zero _)
                  | succ fu ih_lc128 =>
                    intro kN f1v hk hg hm H locs hH ls hl
                    refine lv_iload_n hx hb dX6_parse_128 rfl (lv_at hl 2 rfl) ?_
                    refine lv_sipush (v := nI 195) hx hb dX6_parse_129 (by decide) ?_
                    refine n_icmp_ge (tgt := 153) hx hb (by omega) (by omega) dX6_parse_132 (by decide) (fun c8 => ?_) (fun c8 => ?_)
                    · have hH := m_cg1 (g := (psO T lN f1).2.1) (fun k hk => (hg k (by omega)).symm) hH
                      refine lv_aload_n hx hb dX6_parse_153 rfl (lv_at hl 0 rfl) ?_
                      refine m_g0 X hH.mp dX6_parse_154 ?_
                      refine lv_iconst (v := nI 0) hx hb dX6_parse_157 (by decide) ?_
                      refine m_ld1 X hH.mp (by omega) dX6_parse_158 ?_
                      refine n_top (y := nI (nS (psO T lN f1).2.1)) (hz.1.1) ?_
                      refine lv_aload_n hx hb dX6_parse_159 rfl (lv_at hl 0 rfl) ?_
                      refine m_g0 X hH.mp dX6_parse_160 ?_
                      refine lv_iconst (v := nI 1) hx hb dX6_parse_163 (by decide) ?_
                      refine m_ld1 X hH.mp (by omega) dX6_parse_164 ?_
                      refine n_top (y := nI (nW (psO T lN f1).2.1)) (hz.2.1) ?_
                      refine n_iadd hx hb dX6_parse_165 ?_
                      exact ret _ _ _ _ _ _ _ _ hH (⟨g2, hg2, rfl, rfl⟩) (Nat.le_refl _) (Nat.le_refl _) dX6_parse_166
                    · refine lv_aload_n hx hb dX6_parse_135 rfl (lv_at hl 0 rfl) ?_
                      refine m_g0 X hH.mp dX6_parse_136 ?_
                      refine lv_iload_n hx hb dX6_parse_139 rfl (lv_at hl 2 rfl) ?_
                      refine lv_aload_n hx hb dX6_parse_140 rfl (lv_at hl 0 rfl) ?_
                      refine m_g3 X hH.mp dX6_parse_141 ?_
                      refine lv_iload_n hx hb dX6_parse_144 rfl (lv_at hl 2 rfl) ?_
                      refine m_ld4 X hH.mp (by omega) dX6_parse_145 ?_
                      refine m_st1 X hH (by omega) dX6_parse_146 (fun f1_6 H locs ef1_6 hH => ?_)
                      refine lv_iinc (v := nI (kN + 1)) (lv' := [(2, .int (nI (kN + 1))), (0, .ref (a 0)), (1, .int (bI isB))]) hx hb dX6_parse_147 hl (k := 2) rfl (nI_add _ 1) (by decide) rfl (fun ls hl => ?_)
                      refine lv_goto (tgt := 128) hx hb dX6_parse_150 (by decide) ?_
                      exact ih_lc128 (kN + 1) f1_6 (by omega) (fun k hk => by rw [ef1_6]; rcases Nat.lt_or_ge k kN with q | q; exact (by rw [pk_un (by omega)]; exact hg k q); exact (by rw [show k = kN by omega, pk_us])) (by omega) _ _ hH ls (lv_sub hl [1, 2, 0] rfl)
                exact lc128 _ 0 f1 (Nat.zero_le _) (fun k hk => absurd hk (Nat.not_lt_zero k)) (Nat.lt_succ_self _) _ _ hH ls (lv_sub hl [1, 2, 0] rfl)
              · refine lv_aload_n hx hb dX6_parse_100 rfl (lv_at hl 0 rfl) ?_
                refine m_g3 X hH.mp dX6_parse_101 ?_
                refine lv_iload_n hx hb dX6_parse_104 rfl (lv_at hl 2 rfl) ?_
                refine lv_aload_n hx hb dX6_parse_105 rfl (lv_at hl 0 rfl) ?_
                refine m_g0 X hH.mp dX6_parse_106 ?_
                refine lv_iload_n hx hb dX6_parse_109 rfl (lv_at hl 2 rfl) ?_
                refine m_ld1 X hH.mp (by omega) dX6_parse_110 ?_
                refine m_st4 X hH (by omega) dX6_parse_111 (fun f4_7 H locs ef4_7 hH => ?_)
                refine lv_iinc (v := nI (kN + 1)) (lv' := [(2, .int (nI (kN + 1))), (0, .ref (a 0)), (1, .int (bI isB))]) hx hb dX6_parse_112 hl (k := 2) rfl (nI_add _ 1) (by decide) rfl (fun ls hl => ?_)
                refine lv_goto (tgt := 93) hx hb dX6_parse_115 (by decide) ?_
                exact ih_lc93 (kN + 1) f4_7 (by omega) (fun k hk => by rw [ef4_7]; rcases Nat.lt_or_ge k kN with q | q; exact (by rw [pk_un (by omega)]; exact hg k q); exact (by rw [show k = kN by omega, pk_us])) (by omega) _ _ hH ls (lv_sub hl [1, 2, 0] rfl)
          exact lc93 _ 0 f4 (Nat.zero_le _) (fun k hk => absurd hk (Nat.not_lt_zero k)) (Nat.lt_succ_self _) _ _ hH ls (lv_sub hl [1, 2, 0] rfl)
        · have hip := itP_le (T := T) (R := f1v) c2
          refine lv_aload_n hx hb dX6_parse_67 rfl (lv_at hl 0 rfl) ?_
          refine m_Mi (c_X6_takesItem (lN := lN) (pN := pN) hE hT c2 hR) X hH (lw_V q1543 q1545 qs25 q72 q1546) hdv_X6_takesItem ⟨Nat.le_of_ble_eq_true rfl, Nat.le_of_ble_eq_true rfl⟩ ⟨Nat.le_refl _, Nat.le_refl _⟩ rfl hl.1 rfl (Nat.le_of_ble_eq_true rfl) dX6_parse_68 (fun r w H locs hq hH => ?_)
          obtain ⟨rfl, rfl⟩ := hq
          refine lv_istore_n (lv' := [(1, .int (bI (itB T lN f1v pN))), (0, .ref (a 0))]) hx hb dX6_parse_71 rfl hl (by decide) rfl (fun ls hl => ?_)
          refine lv_goto (tgt := 52) hx hb dX6_parse_72 (by decide) ?_
          have hj1 : 0 < jN := by rcases hpj with q | q; omega; rw [c1] at q; cases q
          obtain ⟨jM, rfl⟩ : ∃ z, jN = z + 1 := ⟨jN - 1, by omega⟩
          exact ih_lp jM (itB T lN f1v pN) (itP T lN f1v pN) (itR T lN f1v pN) (by omega) (by cases e9 : itB T lN f1v pN with | false => exact Or.inr rfl | true => exact Or.inl (by have := hip.2.2 e9; rcases hpj with q | q; omega; rw [c1] at q; cases q)) (by rw [hst, c1, if_pos rfl, psF, if_pos c2]) (itR_0 hR) (by omega) _ _ hH ls (lv_sub hl [1, 0] rfl)
  exact lp _ lN true 0 (zer f1) (Nat.zero_le _) (Or.inl (by omega)) (by rw [if_pos rfl]; rfl) (zer_0) (Nat.lt_succ_self _) _ _ hH ls (lv_sub hl [1, 0] rfl)
theorem c_X6_parse_0 (hE : EnvOK G E) {lN : Nat} (hT : tOk T lN f5) (hok0 : (psO T lN f1).1 = false) : MU vI l G E yX6_parse cX6_parse 3 (some .int) 5 0 0 [.ref (a 0)] (mw G a x4 x5 (nI lN) x8 x11 x15 f1 f2 f3 f4 f5 f6 f7 f8 f9 f10 f11 h ++ wr) (fun r w => r = (-10) - nI (psO T lN f1).2.2 ∧ w = mw G a x4 (nI 0) (nI lN) (nI (psO T lN f1).2.2) x11 x15 f1 f2 f1 f4 f5 f6 f7 f8 f9 f10 f11 h ++ wr) := by
  refine MUi hE (by decide) (Nat.le_of_ble_eq_true rfl) (fun pR eV sT mI below meth cd QQ ls X hH hl ret => ?_)
  obtain ⟨⟨hx, hb, hml, hown, hts⟩, ⟨hr, hlk⟩, -, -, -⟩ := id X
  have hl : lv_has ls 3 [(0, .ref (a 0))] := hl
  refine wgen (H := sT.heap) (locs := []) hH (fun H locs hH => ?_)
  have hl150 := hT.1
  refine lv_aload_n hx hb dX6_parse_0 rfl (lv_at hl 0 rfl) ?_
  refine lv_iconst (v := nI 0) hx hb dX6_parse_1 (by decide) ?_
  refine m_p5 X hH dX6_parse_2 (fun H locs hH => ?_)
  refine lv_aload_n hx hb dX6_parse_5 rfl (lv_at hl 0 rfl) ?_
  refine m_Mv (c_X6_keeps hE) X hH (lw_V q1539 q1541 qs24 q72 q1542) hdv_X6_keeps ⟨Nat.le_of_ble_eq_true rfl, Nat.le_of_ble_eq_true rfl⟩ ⟨Nat.le_refl _, Nat.le_refl _⟩ rfl hl.1 rfl (Nat.le_of_ble_eq_true rfl) dX6_parse_6 (fun w H locs hq hH => ?_)
  obtain rfl := hq
  refine lv_aload_n hx hb dX6_parse_9 rfl (lv_at hl 0 rfl) ?_
  refine m_g0 X hH.mp dX6_parse_10 ?_
  refine lv_iconst (v := nI 0) hx hb dX6_parse_13 (by decide) ?_
  refine lv_iconst (v := nI 0) hx hb dX6_parse_14 (by decide) ?_
  refine m_st1 X hH (by omega) dX6_parse_15 (fun f1_1 H locs ef1_1 hH => ?_)
  refine lv_aload_n hx hb dX6_parse_16 rfl (lv_at hl 0 rfl) ?_
  refine m_g0 X hH.mp dX6_parse_17 ?_
  refine lv_iconst (v := nI 1) hx hb dX6_parse_20 (by decide) ?_
  refine lv_iconst (v := nI 0) hx hb dX6_parse_21 (by decide) ?_
  refine m_st1 X hH (by omega) dX6_parse_22 (fun f1_2 H locs ef1_2 hH => ?_)
  refine lv_aload_n hx hb dX6_parse_23 rfl (lv_at hl 0 rfl) ?_
  refine m_g0 X hH.mp dX6_parse_24 ?_
  refine lv_iconst (v := nI 4) hx hb dX6_parse_27 (by decide) ?_
  refine lv_iconst (v := nI 0) hx hb dX6_parse_28 (by decide) ?_
  refine m_st1 X hH (by omega) dX6_parse_29 (fun f1_3 H locs ef1_3 hH => ?_)
  refine lv_aload_n hx hb dX6_parse_30 rfl (lv_at hl 0 rfl) ?_
  refine m_g0 X hH.mp dX6_parse_31 ?_
  refine lv_iconst (v := nI 5) hx hb dX6_parse_34 (by decide) ?_
  refine lv_iconst (v := nI 0) hx hb dX6_parse_35 (by decide) ?_
  refine m_st1 X hH (by omega) dX6_parse_36 (fun f1_4 H locs ef1_4 hH => ?_)
  refine lv_aload_n hx hb dX6_parse_37 rfl (lv_at hl 0 rfl) ?_
  refine m_g0 X hH.mp dX6_parse_38 ?_
  refine lv_bipush (v := nI 6) hx hb dX6_parse_41 (by decide) ?_
  refine lv_iconst (v := nI 0) hx hb dX6_parse_43 (by decide) ?_
  refine m_st1 X hH (by omega) dX6_parse_44 (fun f1_5 H locs ef1_5 hH => ?_)
  rw [show f1_5 = zer f1 from by rw [ef1_5, ef1_4, ef1_3, ef1_2, ef1_1]; rfl] at hH
  refine lv_aload_n hx hb dX6_parse_45 rfl (lv_at hl 0 rfl) ?_
  refine lv_iconst (v := nI 0) hx hb dX6_parse_46 (by decide) ?_
  refine m_p8 X hH dX6_parse_47 (fun H locs hH => ?_)
  refine lv_iconst (v := nI 1) hx hb dX6_parse_50 (by decide) ?_
  refine lv_istore_n (lv' := [(1, .int (nI 1)), (0, .ref (a 0))]) hx hb dX6_parse_51 rfl hl (by decide) rfl (fun ls hl => ?_)
  have hl : lv_has ls 3 [(1, .int (bI true)), (0, .ref (a 0))] := by rw [← (show (nI 1 : Int32) = bI true from rfl)]; exact hl
  have lp : ∀ (fu : Nat) (jN : Nat) (isB : Bool) (pN : Nat) (f1v : Nat → Int32), (pN ≤ lN) → (lN ≤ pN + jN ∨ isB = false) → (psO T lN f1 = if isB = true then psF T lN jN f1v pN else (false, f1v, pN)) → (ROk0 f1v) → jN < fu → ∀ (H : Heap) (locs : List Loc), HH G sT (mw G a x4 (nI 0) (nI lN) (nI pN) x11 x15 f1v f2 f1 f4 f5 f6 f7 f8 f9 f10 f11 h ++ wr) H locs → ∀ ls : Array Slot, lv_has ls 3 [(0, .ref (a 0)), (1, .int (bI isB))] → W pR l eV (Rm 5 0 0) sT mI ([.ref (a 0)] : List Value).toArray below meth cd H locs 0 0 QQ (F0 mI 52 ls []) := by
    intro fu
    induction fu with
    | zero => intro jN isB pN f1v hp hpj hst hR hm; exact absurd hm (Nat.not_lt_zero _)
    | succ fu ih_lp =>
      intro jN isB pN f1v hp hpj hst hR hm H locs hH ls hl
      refine lv_iload_n hx hb dX6_parse_52 rfl (lv_at hl 1 rfl) ?_
      refine b_if_eq (tgt := 75) hx hb dX6_parse_53 (by decide) (fun c1 => ?_) (fun c1 => ?_)
      · have hfin : psO T lN f1 = (false, f1v, pN) := by rw [hst, c1]; rfl
        have hok : isB = false := c1
        refine lv_iload_n hx hb dX6_parse_75 rfl (lv_at hl 1 rfl) ?_
        refine n_top (y := nI 0) (by rw [hok]; rfl) ?_
        refine lv_if_ne (tgt := 91) hx hb dX6_parse_76 (by decide) (fun h => absurd rfl h) (fun _ => ?_)
        refine lv_aload_n hx hb dX6_parse_79 rfl (lv_at hl 0 rfl) ?_
        refine m_Mv (c_X6_takesBack hE) X hH (lw_V q1565 q1567 qs29 q72 q1568) hdv_X6_takesBack ⟨Nat.le_of_ble_eq_true rfl, Nat.le_of_ble_eq_true rfl⟩ ⟨Nat.le_refl _, Nat.le_refl _⟩ rfl hl.1 rfl (Nat.le_of_ble_eq_true rfl) dX6_parse_80 (fun w H locs hq hH => ?_)
        obtain rfl := hq
        refine lv_bipush (v := (-10)) hx hb dX6_parse_83 (by decide) ?_
        refine lv_aload_n hx hb dX6_parse_85 rfl (lv_at hl 0 rfl) ?_
        refine m_g8 X hH.mp dX6_parse_86 ?_
        refine lv_isub hx hb dX6_parse_89 ?_
        rw [show pN = (psO T lN f1).2.2 by rw [hfin]] at hH ⊢
        exact ret _ _ _ _ _ _ _ _ hH (⟨rfl, rfl⟩) (Nat.le_refl _) (Nat.le_refl _) dX6_parse_90
      · refine lv_aload_n hx hb dX6_parse_56 rfl (lv_at hl 0 rfl) ?_
        refine m_g8 X hH.mp dX6_parse_57 ?_
        refine lv_aload_n hx hb dX6_parse_60 rfl (lv_at hl 0 rfl) ?_
        refine m_g7 X hH.mp dX6_parse_61 ?_
        refine n_icmp_ge (tgt := 75) hx hb (by omega) (by omega) dX6_parse_64 (by decide) (fun c2 => ?_) (fun c2 => ?_)
        · have hfin : psO T lN f1 = (true, f1v, pN) := by rw [hst, c1, if_pos rfl, psF_end c2]
          exact absurd (show (psO T lN f1).1 = true by rw [hfin]) (by rw [hok0]; decide)
        · have hip := itP_le (T := T) (R := f1v) c2
          refine lv_aload_n hx hb dX6_parse_67 rfl (lv_at hl 0 rfl) ?_
          refine m_Mi (c_X6_takesItem (lN := lN) (pN := pN) hE hT c2 hR) X hH (lw_V q1543 q1545 qs25 q72 q1546) hdv_X6_takesItem ⟨Nat.le_of_ble_eq_true rfl, Nat.le_of_ble_eq_true rfl⟩ ⟨Nat.le_refl _, Nat.le_refl _⟩ rfl hl.1 rfl (Nat.le_of_ble_eq_true rfl) dX6_parse_68 (fun r w H locs hq hH => ?_)
          obtain ⟨rfl, rfl⟩ := hq
          refine lv_istore_n (lv' := [(1, .int (bI (itB T lN f1v pN))), (0, .ref (a 0))]) hx hb dX6_parse_71 rfl hl (by decide) rfl (fun ls hl => ?_)
          refine lv_goto (tgt := 52) hx hb dX6_parse_72 (by decide) ?_
          have hj1 : 0 < jN := by rcases hpj with q | q; omega; rw [c1] at q; cases q
          obtain ⟨jM, rfl⟩ : ∃ z, jN = z + 1 := ⟨jN - 1, by omega⟩
          exact ih_lp jM (itB T lN f1v pN) (itP T lN f1v pN) (itR T lN f1v pN) (by omega) (by cases e9 : itB T lN f1v pN with | false => exact Or.inr rfl | true => exact Or.inl (by have := hip.2.2 e9; rcases hpj with q | q; omega; rw [c1] at q; cases q)) (by rw [hst, c1, if_pos rfl, psF, if_pos c2]) (itR_0 hR) (by omega) _ _ hH ls (lv_sub hl [1, 0] rfl)
  exact lp _ lN true 0 (zer f1) (Nat.zero_le _) (Or.inl (by omega)) (by rw [if_pos rfl]; rfl) (zer_0) (Nat.lt_succ_self _) _ _ hH ls (lv_sub hl [1, 0] rfl)
end
