/-! MODEL, methods 10: what is told -/
def wrnN (R : Nat → Int32) : Nat → Nat
  | 0 => 0
  | s + 1 => wrnN R s + (if wornB R s then 1 else 0)
def wplN (R : Nat → Int32) (m : Int32) : Nat → Nat
  | 0 => 0
  | w + 1 => wplN R m w + (if pr R w m = 100 then 0 else 1)
def tvI (R : Nat → Int32) (q : Nat) : Int32 := if q < 7 then R q else if q = 7 then nI (wrnN R (nS R)) else nI (wplN R (frM R) (nW R))
def tsI (R : Nat → Int32) (s : Nat) : Nat → Int32
  | 0 => R (7 + 9 * s)
  | 1 => R (7 + 9 * s + 6)
  | 2 => R (7 + 9 * s + 7)
  | 3 => R (7 + 9 * s + 8)
  | 4 => bI (canT R s)
  | _ => bI (wornB R s)
/-- the row behind a word that is written -/
def wroR (R : Nat → Int32) (w : Nat) : Nat → Int32 := carR R (plP R w (frM R)) (R (97 + 14 * w + 1)) (pmN R w (frM R))
def needI (R : Nat → Int32) (w q : Nat) : Int32 := if wrB R w (frM R) then wroR R w q - R q else -1
def twI (R : Nat → Int32) (w : Nat) : Nat → Int32
  | 0 => R (97 + 14 * w)
  | 1 => R (97 + 14 * w + 1)
  | 2 => prI R w (frM R)
  | 3 => bI (wrB R w (frM R))
  | 4 => needI R w 5
  | _ => needI R w 6
/-- places that no press changes -/
def stI (k : Nat) : Prop := k < 4 ∨ (∃ s j, j < 6 ∧ k = 7 + 9 * s + j) ∨ 97 ≤ k
theorem rn_congr {R R' : Nat → Int32} {i : Nat} (h : R' i = R i) : rn R' i = rn R i := by unfold rn; rw [h]
theorem isN_congr {R R' : Nat → Int32} {i b : Nat} (h : R' i = R i) (hN : isN R i b) : isN R' i b := by
  unfold isN at *
  rw [rn_congr h, h]
  exact hN
theorem ROk_congr {R R' : Nat → Int32} (h : ∀ k, stI k → k < 195 → R' k = R k) (hR : ROk R) : ROk R' := by
  have e0 : nS R' = nS R := rn_congr (h 0 (Or.inl (by decide)) (by decide))
  have e1 : nW R' = nW R := rn_congr (h 1 (Or.inl (by decide)) (by decide))
  refine ⟨isN_congr (h 0 (Or.inl (by decide)) (by decide)) hR.1, isN_congr (h 1 (Or.inl (by decide)) (by decide)) hR.2.1, ?_, ?_, ⟨isN_congr (h 2 (Or.inl (by decide)) (by decide)) hR.2.2.2.2.1.1, ?_⟩, ⟨isN_congr (h 3 (Or.inl (by decide)) (by decide)) hR.2.2.2.2.2.1, ?_⟩⟩
  · intro s hs
    rw [e0] at hs
    have h10 := hR.s1
    obtain ⟨h1, h2, h3⟩ := hR.2.2.1 s hs
    have hl5 := (hR.sl1 hs).2
    have el : sL R' s = sL R s := rn_congr (h (7 + 9 * s) (Or.inr (Or.inl ⟨s, 0, by decide, rfl⟩)) (by omega))
    refine ⟨isN_congr (h (7 + 9 * s) (Or.inr (Or.inl ⟨s, 0, by decide, rfl⟩)) (by omega)) h1, by rw [el]; exact h2, fun k hk => ?_⟩
    rw [el] at hk
    exact isN_congr (h _ (Or.inr (Or.inl ⟨s, 1 + k, by omega, by omega⟩)) (by omega)) (h3 k hk)
  · intro w hw
    rw [e1] at hw
    have h7 := hR.w1
    obtain ⟨h1, h2, h3, h4⟩ := hR.2.2.2.1 w hw
    have hl12 := (hR.wl1 hw).2
    have el : wL R' w = wL R w := rn_congr (h (97 + 14 * w) (Or.inr (Or.inr (by omega))) (by omega))
    refine ⟨isN_congr (h _ (Or.inr (Or.inr (by omega))) (by omega)) h1, by rw [el]; exact h2, fun k hk => ?_, isN_congr (h _ (Or.inr (Or.inr (by omega))) (by omega)) h4⟩
    rw [el] at hk
    exact isN_congr (h _ (Or.inr (Or.inr (by omega))) (by omega)) (h3 k hk)
  · rw [rn_congr (h 2 (Or.inl (by decide)) (by decide))]; exact hR.2.2.2.2.1.2
  · rw [rn_congr (h 3 (Or.inl (by decide)) (by decide))]; exact hR.2.2.2.2.2.2
theorem st_ne {k s j : Nat} (h : stI k) (hj : 6 ≤ j ∧ j ≤ 8) (hs : s < 10) : k ≠ 7 + 9 * s + j := by
  rcases h with h | ⟨s', j', h1, h2⟩ | h
  · omega
  · omega
  · omega
theorem st_456 {k : Nat} (h : stI k) : k ≠ 4 ∧ k ≠ 5 ∧ k ≠ 6 := by
  rcases h with h | ⟨s', j', h1, h2⟩ | h <;> omega
theorem prsR_st {R : Nat → Int32} {s : Nat} {cl : Int32} (hs : s < 10) {k : Nat} (h : stI k) : prsR R s cl k = R k := by
  obtain ⟨h4, h5, h6⟩ := st_456 h
  have a6 := st_ne (j := 6) h ⟨by decide, by decide⟩ hs
  have a7 := st_ne (j := 7) h ⟨by decide, by decide⟩ hs
  have a8 := st_ne (j := 8) h ⟨by decide, by decide⟩ hs
  unfold prsR prsB
  dsimp only
  rw [pk_un h4, pk_un a8, pk_un a7]
  split
  · unfold prsA
    dsimp only
    rw [pk_un a7, pk_un a6, pk_un h6, pk_un h5]
  · rfl
theorem carR_st {R : Nat → Int32} {pl : Nat → Nat} {cl : Int32} : ∀ n, (∀ i, i < n → pl i < 20) → ∀ k, stI k → carR R pl cl n k = R k := by
  intro n
  induction n with
  | zero => intro _ k _; rfl
  | succ n ih =>
    intro hp k hk
    have := hp n (by omega)
    rw [carR, prsR_st (by omega) hk]
    exact ih (fun i hi => hp i (by omega)) k hk
theorem plP_lt {R : Nat → Int32} (hR : ROk R) {w : Nat} {m : Int32} {i : Nat} (h : i < pmN R w m) : plP R w m i < 2 * nS R := by
  unfold pmN at h
  split at h
  · exact absurd h (Nat.not_lt_zero _)
  · next e => exact (plP_ok hR e h).1
theorem wroR_st {R : Nat → Int32} (hR : ROk R) {w k : Nat} (h : stI k) : wroR R w k = R k := by
  refine carR_st _ (fun i hi => ?_) k h
  have := plP_lt hR hi
  have := hR.s1
  omega
theorem wroR_ok {R : Nat → Int32} (hR : ROk R) {w : Nat} : ROk (wroR R w) := ROk_congr (fun k hk _ => wroR_st hR hk) hR
/-- the rows while all words are written in turn; how many were -/
def waR (R : Nat → Int32) : Nat → Nat → Int32
  | 0 => R
  | w + 1 => if wrB (waR R w) w (frM (waR R w)) then wroR (waR R w) w else waR R w
def waN (R : Nat → Int32) : Nat → Nat
  | 0 => 0
  | w + 1 => waN R w + (if wrB (waR R w) w (frM (waR R w)) then 1 else 0)
theorem waR_ok {R : Nat → Int32} (hR : ROk R) : ∀ w, ROk (waR R w) := by
  intro w
  induction w with
  | zero => exact hR
  | succ w ih => rw [waR]; split; exact wroR_ok ih; exact ih
theorem waR_st {R : Nat → Int32} (hR : ROk R) {k : Nat} (h : stI k) : ∀ w, waR R w k = R k := by
  intro w
  induction w with
  | zero => rfl
  | succ w ih =>
    rw [waR]
    split
    · rw [wroR_st (waR_ok hR w) h]; exact ih
    · exact ih
theorem waR_nW {R : Nat → Int32} (hR : ROk R) (w : Nat) : nW (waR R w) = nW R := rn_congr (waR_st hR (Or.inl (by decide)) w)
section
variable {l : Launch} {G : GG} {E : State → Prop} {a : Nat → Nat} {x4 x5 x7 x8 x11 x15 : Int32} {f1 f2 f3 f4 f5 f6 f7 f8 f9 f10 f11 : Nat → Int32} {h : Int64} {wr : va_W}
theorem hdv_X6_wornOut : yX6_wornOut.cls = RX6 ∧ yX6_wornOut.cls ≠ "java/lang/invoke/MethodHandle" ∧ yX6_wornOut.cls ≠ "java/lang/invoke/VarHandle" ∧ (parseMethodDescriptor yX6_wornOut.desc).map (fun d => d.parameters.length) = some 0 := by decide +kernel
theorem c_X6_wornOut (hE : EnvOK G E) (hR : ROk f1) : RO l G E yX6_wornOut cX6_wornOut 3 .int 3 [.ref (a 0)] (va_P G.1 cls (mw G a x4 x5 x7 x8 x11 x15 f1 f2 f3 f4 f5 f6 f7 f8 f9 f10 f11 h)) (.int (nI (wrnN f1 (nS f1)))) := by
  refine ROi hE (by decide) (Nat.le_of_ble_eq_true rfl) (fun pR eV sT mI below meth cd QQ ls X hP hl ret => ?_)
  obtain ⟨⟨hx, hb, hml, hown, hts⟩, ⟨hr, hlk⟩, -, -, -⟩ := id X
  have hl : lv_has ls 3 [(0, .ref (a 0))] := hl
  have hm := hR.s1
  refine lv_iconst (v := nI 0) hx hb dX6_wornOut_0 (by decide) ?_
  refine lv_istore_n (lv' := [(1, .int (nI 0)), (0, .ref (a 0))]) hx hb dX6_wornOut_1 rfl hl (by decide) rfl (fun ls hl => ?_)
  refine lv_iconst (v := nI 0) hx hb dX6_wornOut_2 (by decide) ?_
  refine lv_istore_n (lv' := [(2, .int (nI 0)), (1, .int (nI 0)), (0, .ref (a 0))]) hx hb dX6_wornOut_3 rfl hl (by decide) rfl (fun ls hl => ?_)
  have hl : lv_has ls 3 [(2, .int (nI 0)), (1, .int (nI (wrnN f1 0))), (0, .ref (a 0))] := by rw [← (show (nI 0 : Int32) = nI (wrnN f1 0) from rfl)]; exact hl
  have lp : ∀ (fu : Nat) (sN : Nat), (sN ≤ nS f1) → nS f1 - sN < fu → ∀ ls : Array Slot, lv_has ls 3 [(0, .ref (a 0)), (1, .int (nI (wrnN f1 sN))), (2, .int (nI sN))] → W pR l eV (Rm 3 0 0) sT mI ([.ref (a 0)] : List Value).toArray below meth cd sT.heap [] 0 0 QQ (F0 mI 4 ls []) := by
    intro fu
    induction fu with
    | zero => intro sN hk hm; exact absurd hm (Nat.not_lt_zero _)
    | succ fu ih_lp =>
      intro sN hk hm  ls hl
      refine lv_iload_n hx hb dX6_wornOut_4 rfl (lv_at hl 2 rfl) ?_
      refine lv_aload_n hx hb dX6_wornOut_5 rfl (lv_at hl 0 rfl) ?_
      refine m_g0 X hP dX6_wornOut_6 ?_
      refine lv_iconst (v := nI 0) hx hb dX6_wornOut_9 (by decide) ?_
      refine m_ld1 X hP (by omega) dX6_wornOut_10 ?_
      refine n_top (y := nI (nS f1)) (hR.s0) ?_
      refine n_icmp_ge (tgt := 36) hx hb (by omega) (by omega) dX6_wornOut_11 (by decide) (fun c1 => ?_) (fun c1 => ?_)
      · refine lv_iload_n hx hb dX6_wornOut_36 rfl (lv_at hl 1 rfl) ?_
        exact ret _ _ _ (by rw [show nS f1 = sN by omega]) dX6_wornOut_37
      · refine lv_iload_n hx hb dX6_wornOut_14 rfl (lv_at hl 1 rfl) ?_
        refine lv_aload_n hx hb dX6_wornOut_15 rfl (lv_at hl 0 rfl) ?_
        refine lv_iload_n hx hb dX6_wornOut_16 rfl (lv_at hl 2 rfl) ?_
        refine m_R (c_X6_isWorn hE (show sN < 20 by omega)) X va_S.rf hP (lw_V q1625 q1627 qs37 q72 q1628) hdv_X6_isWorn ⟨Nat.le_of_ble_eq_true rfl, Nat.le_of_ble_eq_true rfl⟩ ⟨Nat.le_refl _, Nat.le_refl _⟩ rfl hl.1 rfl (Nat.le_of_ble_eq_true rfl) dX6_wornOut_17 ?_
        refine b_if_eq (tgt := 27) hx hb dX6_wornOut_20 (by decide) (fun c2 => ?_) (fun c2 => ?_)
        · refine lv_iconst (v := nI 0) hx hb dX6_wornOut_27 (by decide) ?_
          refine n_iadd hx hb dX6_wornOut_28 ?_
          refine n_top (y := nI (wrnN f1 (sN + 1))) (by rw [wrnN, c2]; rfl) ?_
          refine lv_istore_n (lv' := [(1, .int (nI (wrnN f1 (sN + 1)))), (0, .ref (a 0)), (2, .int (nI sN))]) hx hb dX6_wornOut_29 rfl hl (by decide) rfl (fun ls hl => ?_)
          refine lv_iinc (v := nI (sN + 1)) (lv' := [(2, .int (nI (sN + 1))), (1, .int (nI (wrnN f1 (sN + 1)))), (0, .ref (a 0))]) hx hb dX6_wornOut_30 hl (k := 2) rfl (nI_add _ 1) (by decide) rfl (fun ls hl => ?_)
          refine lv_goto (tgt := 4) hx hb dX6_wornOut_33 (by decide) ?_
          exact ih_lp (sN + 1)  (by omega) (by omega) ls (lv_sub hl [2, 1, 0] rfl)
        · refine lv_iconst (v := nI 1) hx hb dX6_wornOut_23 (by decide) ?_
          refine lv_goto (tgt := 28) hx hb dX6_wornOut_24 (by decide) ?_
          refine n_iadd hx hb dX6_wornOut_28 ?_
          refine n_top (y := nI (wrnN f1 (sN + 1))) (by rw [wrnN, c2]; rfl) ?_
          refine lv_istore_n (lv' := [(1, .int (nI (wrnN f1 (sN + 1)))), (0, .ref (a 0)), (2, .int (nI sN))]) hx hb dX6_wornOut_29 rfl hl (by decide) rfl (fun ls hl => ?_)
          refine lv_iinc (v := nI (sN + 1)) (lv' := [(2, .int (nI (sN + 1))), (1, .int (nI (wrnN f1 (sN + 1)))), (0, .ref (a 0))]) hx hb dX6_wornOut_30 hl (k := 2) rfl (nI_add _ 1) (by decide) rfl (fun ls hl => ?_)
          refine lv_goto (tgt := 4) hx hb dX6_wornOut_33 (by decide) ?_
          exact ih_lp (sN + 1)  (by omega) (by omega) ls (lv_sub hl [2, 1, 0] rfl)
  exact lp _ 0  (Nat.zero_le _) (Nat.lt_succ_self _) ls (lv_sub hl [2, 1, 0] rfl)
theorem hdv_X6_withPlan : yX6_withPlan.cls = RX6 ∧ yX6_withPlan.cls ≠ "java/lang/invoke/MethodHandle" ∧ yX6_withPlan.cls ≠ "java/lang/invoke/VarHandle" ∧ (parseMethodDescriptor yX6_withPlan.desc).map (fun d => d.parameters.length) = some 0 := by decide +kernel
theorem c_X6_withPlan (hE : EnvOK G E) (hR : ROk f1) : MU vI l G E yX6_withPlan cX6_withPlan 3 (some .int) 5 0 0 [.ref (a 0)] (mw G a x4 x5 x7 x8 x11 x15 f1 f2 f3 f4 f5 f6 f7 f8 f9 f10 f11 h ++ wr) (fun r w => ∃ g6, r = nI (wplN f1 (frM f1) (nW f1)) ∧ w = mw G a x4 x5 x7 x8 x11 x15 f1 f2 f3 f4 f5 g6 f7 f8 f9 f10 f11 h ++ wr) := by
  refine MUi hE (by decide) (Nat.le_of_ble_eq_true rfl) (fun pR eV sT mI below meth cd QQ ls X hH hl ret => ?_)
  obtain ⟨⟨hx, hb, hml, hown, hts⟩, ⟨hr, hlk⟩, -, -, -⟩ := id X
  have hl : lv_has ls 3 [(0, .ref (a 0))] := hl
  refine wgen (H := sT.heap) (locs := []) hH (fun H locs hH => ?_)
  have hm := hR.w1
  refine lv_iconst (v := nI 0) hx hb dX6_withPlan_0 (by decide) ?_
  refine lv_istore_n (lv' := [(1, .int (nI 0)), (0, .ref (a 0))]) hx hb dX6_withPlan_1 rfl hl (by decide) rfl (fun ls hl => ?_)
  refine lv_iconst (v := nI 0) hx hb dX6_withPlan_2 (by decide) ?_
  refine lv_istore_n (lv' := [(2, .int (nI 0)), (1, .int (nI 0)), (0, .ref (a 0))]) hx hb dX6_withPlan_3 rfl hl (by decide) rfl (fun ls hl => ?_)
  have hl : lv_has ls 3 [(2, .int (nI 0)), (1, .int (nI (wplN f1 (frM f1) 0))), (0, .ref (a 0))] := by rw [← (show (nI 0 : Int32) = nI (wplN f1 (frM f1) 0) from rfl)]; exact hl
  have lp : ∀ (fu : Nat) (wN : Nat) (f6v : Nat → Int32), (wN ≤ nW f1) → nW f1 - wN < fu → ∀ (H : Heap) (locs : List Loc), HH G sT (mw G a x4 x5 x7 x8 x11 x15 f1 f2 f3 f4 f5 f6v f7 f8 f9 f10 f11 h ++ wr) H locs → ∀ ls : Array Slot, lv_has ls 3 [(0, .ref (a 0)), (1, .int (nI (wplN f1 (frM f1) wN))), (2, .int (nI wN))] → W pR l eV (Rm 5 0 0) sT mI ([.ref (a 0)] : List Value).toArray below meth cd H locs 0 0 QQ (F0 mI 4 ls []) := by
    intro fu
    induction fu with
    | zero => intro wN f6v hk hm; exact absurd hm (Nat.not_lt_zero _)
    | succ fu ih_lp =>
      intro wN f6v hk hm H locs hH ls hl
      refine lv_iload_n hx hb dX6_withPlan_4 rfl (lv_at hl 2 rfl) ?_
      refine lv_aload_n hx hb dX6_withPlan_5 rfl (lv_at hl 0 rfl) ?_
      refine m_g0 X hH.mp dX6_withPlan_6 ?_
      refine lv_iconst (v := nI 1) hx hb dX6_withPlan_9 (by decide) ?_
      refine m_ld1 X hH.mp (by omega) dX6_withPlan_10 ?_
      refine n_top (y := nI (nW f1)) (hR.w0) ?_
      refine n_icmp_ge (tgt := 41) hx hb (by omega) (by omega) dX6_withPlan_11 (by decide) (fun c1 => ?_) (fun c1 => ?_)
      · refine lv_iload_n hx hb dX6_withPlan_41 rfl (lv_at hl 1 rfl) ?_
        exact ret _ _ _ _ _ _ _ _ hH (⟨f6v, by rw [show nW f1 = wN by omega], rfl⟩) (Nat.le_refl _) (Nat.le_refl _) dX6_withPlan_42
      · refine lv_iload_n hx hb dX6_withPlan_14 rfl (lv_at hl 1 rfl) ?_
        refine lv_aload_n hx hb dX6_withPlan_15 rfl (lv_at hl 0 rfl) ?_
        refine lv_iload_n hx hb dX6_withPlan_16 rfl (lv_at hl 2 rfl) ?_
        refine lv_aload_n hx hb dX6_withPlan_17 rfl (lv_at hl 0 rfl) ?_
        refine m_R (c_X6_fresh hE hR) X hH.2 hH.mp (lw_V q1633 q1635 qs39 q72 q1636) hdv_X6_fresh ⟨Nat.le_of_ble_eq_true rfl, Nat.le_of_ble_eq_true rfl⟩ ⟨Nat.le_refl _, Nat.le_refl _⟩ rfl hl.1 rfl (Nat.le_of_ble_eq_true rfl) dX6_withPlan_18 ?_
        refine m_Mi (c_X6_presses (mk := frM f1) hE hR c1) X hH (lw_V q1637 q1639 qs40 q72 q1640) hdv_X6_presses ⟨Nat.le_of_ble_eq_true rfl, Nat.le_of_ble_eq_true rfl⟩ ⟨Nat.le_refl _, Nat.le_refl _⟩ rfl hl.1 rfl (Nat.le_of_ble_eq_true rfl) dX6_withPlan_21 (fun r w H locs hq hH => ?_)
        obtain ⟨g6, -, rfl, rfl⟩ := hq
        refine lv_iconst (v := (-1)) hx hb dX6_withPlan_24 (by decide) ?_
        refine lv_icmp_ne (tgt := 32) hx hb dX6_withPlan_25 (by decide) (fun c2 => ?_) (fun c2 => ?_)
        · refine lv_iconst (v := nI 1) hx hb dX6_withPlan_32 (by decide) ?_
          refine n_iadd hx hb dX6_withPlan_33 ?_
          refine n_top (y := nI (wplN f1 (frM f1) (wN + 1))) (by rw [wplN, if_neg (fun z => c2 (prI_iff.mpr z))]) ?_
          refine lv_istore_n (lv' := [(1, .int (nI (wplN f1 (frM f1) (wN + 1)))), (0, .ref (a 0)), (2, .int (nI wN))]) hx hb dX6_withPlan_34 rfl hl (by decide) rfl (fun ls hl => ?_)
          refine lv_iinc (v := nI (wN + 1)) (lv' := [(2, .int (nI (wN + 1))), (1, .int (nI (wplN f1 (frM f1) (wN + 1)))), (0, .ref (a 0))]) hx hb dX6_withPlan_35 hl (k := 2) rfl (nI_add _ 1) (by decide) rfl (fun ls hl => ?_)
          refine lv_goto (tgt := 4) hx hb dX6_withPlan_38 (by decide) ?_
          exact ih_lp (wN + 1) g6 (by omega) (by omega) _ _ hH ls (lv_sub hl [2, 1, 0] rfl)
        · refine lv_iconst (v := nI 0) hx hb dX6_withPlan_28 (by decide) ?_
          refine lv_goto (tgt := 33) hx hb dX6_withPlan_29 (by decide) ?_
          refine n_iadd hx hb dX6_withPlan_33 ?_
          refine n_top (y := nI (wplN f1 (frM f1) (wN + 1))) (by rw [wplN, if_pos (prI_iff.mp c2)]) ?_
          refine lv_istore_n (lv' := [(1, .int (nI (wplN f1 (frM f1) (wN + 1)))), (0, .ref (a 0)), (2, .int (nI wN))]) hx hb dX6_withPlan_34 rfl hl (by decide) rfl (fun ls hl => ?_)
          refine lv_iinc (v := nI (wN + 1)) (lv' := [(2, .int (nI (wN + 1))), (1, .int (nI (wplN f1 (frM f1) (wN + 1)))), (0, .ref (a 0))]) hx hb dX6_withPlan_35 hl (k := 2) rfl (nI_add _ 1) (by decide) rfl (fun ls hl => ?_)
          refine lv_goto (tgt := 4) hx hb dX6_withPlan_38 (by decide) ?_
          exact ih_lp (wN + 1) g6 (by omega) (by omega) _ _ hH ls (lv_sub hl [2, 1, 0] rfl)
  exact lp _ 0 f6 (Nat.zero_le _) (Nat.lt_succ_self _) _ _ hH ls (lv_sub hl [2, 1, 0] rfl)
theorem hdv_X6_tellValue : yX6_tellValue.cls = RX6 ∧ yX6_tellValue.cls ≠ "java/lang/invoke/MethodHandle" ∧ yX6_tellValue.cls ≠ "java/lang/invoke/VarHandle" ∧ (parseMethodDescriptor yX6_tellValue.desc).map (fun d => d.parameters.length) = some 1 := by decide +kernel
theorem c_X6_tellValue (hE : EnvOK G E) {qN : Nat} (hR : ROk f1) (hq : qN ≤ 8) : MU vI l G E yX6_tellValue cX6_tellValue 2 (some .int) 6 0 0 [.ref (a 0), .int (nI qN)] (mw G a x4 x5 x7 x8 x11 x15 f1 f2 f3 f4 f5 f6 f7 f8 f9 f10 f11 h ++ wr) (fun r w => ∃ g6, r = tvI f1 qN ∧ w = mw G a x4 x5 x7 x8 x11 x15 f1 f2 f3 f4 f5 g6 f7 f8 f9 f10 f11 h ++ wr) := by
  refine MUi hE (by decide) (Nat.le_of_ble_eq_true rfl) (fun pR eV sT mI below meth cd QQ ls X hH hl ret => ?_)
  obtain ⟨⟨hx, hb, hml, hown, hts⟩, ⟨hr, hlk⟩, -, -, -⟩ := id X
  have hl : lv_has ls 2 [(0, .ref (a 0)), (1, .int (nI qN))] := hl
  refine wgen (H := sT.heap) (locs := []) hH (fun H locs hH => ?_)
  refine lv_iload_n hx hb dX6_tellValue_0 rfl (lv_at hl 1 rfl) ?_
  refine lv_bipush (v := nI 7) hx hb dX6_tellValue_1 (by decide) ?_
  refine n_icmp_ge (tgt := 15) hx hb (by omega) (by omega) dX6_tellValue_3 (by decide) (fun c1 => ?_) (fun c1 => ?_)
  · refine lv_iload_n hx hb dX6_tellValue_15 rfl (lv_at hl 1 rfl) ?_
    refine lv_bipush (v := nI 7) hx hb dX6_tellValue_16 (by decide) ?_
    refine n_icmp_ne (tgt := 28) hx hb (by omega) (by omega) dX6_tellValue_18 (by decide) (fun c2 => ?_) (fun c2 => ?_)
    · refine lv_aload_n hx hb dX6_tellValue_28 rfl (lv_at hl 0 rfl) ?_
      refine m_Mi (c_X6_withPlan hE hR) X hH (lw_V q1629 q1631 qs38 q72 q1632) hdv_X6_withPlan ⟨Nat.le_of_ble_eq_true rfl, Nat.le_of_ble_eq_true rfl⟩ ⟨Nat.le_refl _, Nat.le_refl _⟩ rfl hl.1 rfl (Nat.le_of_ble_eq_true rfl) dX6_tellValue_29 (fun r w H locs hq hH => ?_)
      obtain ⟨g6, rfl, rfl⟩ := hq
      exact ret _ _ _ _ _ _ _ _ hH (⟨g6, by unfold tvI; rw [if_neg (by omega), if_neg c2], rfl⟩) (Nat.le_refl _) (Nat.le_refl _) dX6_tellValue_32
    · refine lv_aload_n hx hb dX6_tellValue_21 rfl (lv_at hl 0 rfl) ?_
      refine m_R (c_X6_wornOut hE hR) X hH.2 hH.mp (lw_V q1621 q1623 qs36 q72 q1624) hdv_X6_wornOut ⟨Nat.le_of_ble_eq_true rfl, Nat.le_of_ble_eq_true rfl⟩ ⟨Nat.le_refl _, Nat.le_refl _⟩ rfl hl.1 rfl (Nat.le_of_ble_eq_true rfl) dX6_tellValue_22 ?_
      refine lv_goto (tgt := 32) hx hb dX6_tellValue_25 (by decide) ?_
      exact ret _ _ _ _ _ _ _ _ hH (⟨f6, by unfold tvI; rw [if_neg (by omega), if_pos c2], rfl⟩) (Nat.le_refl _) (Nat.le_refl _) dX6_tellValue_32
  · refine lv_aload_n hx hb dX6_tellValue_6 rfl (lv_at hl 0 rfl) ?_
    refine m_g0 X hH.mp dX6_tellValue_7 ?_
    refine lv_iload_n hx hb dX6_tellValue_10 rfl (lv_at hl 1 rfl) ?_
    refine m_ld1 X hH.mp (by omega) dX6_tellValue_11 ?_
    refine lv_goto (tgt := 32) hx hb dX6_tellValue_12 (by decide) ?_
    exact ret _ _ _ _ _ _ _ _ hH (⟨f6, by unfold tvI; rw [if_pos c1], rfl⟩) (Nat.le_refl _) (Nat.le_refl _) dX6_tellValue_32
theorem rgB_t {q b : Nat} (h : q ≤ b) (hb : b < 2 ^ 31) : rgB (nI 0) (nI b) (nI q) = true := by
  rw [rgB_n (by decide) hb (by omega), decide_eq_true (Nat.zero_le _), decide_eq_true h]; rfl
theorem hdv_X6_value : yX6_value.cls = RX6 ∧ yX6_value.cls ≠ "java/lang/invoke/MethodHandle" ∧ yX6_value.cls ≠ "java/lang/invoke/VarHandle" ∧ (parseMethodDescriptor yX6_value.desc).map (fun d => d.parameters.length) = some 1 := by decide +kernel
theorem c_X6_value_1 (hE : EnvOK G E) {x : Int32} (hB : rgB (nI 0) (nI 8) x = false) : MU vI l G E yX6_value cX6_value 2 (some .int) 7 0 0 [.ref (a 0), .int x] (mw G a x4 x5 x7 x8 x11 x15 f1 f2 f3 f4 f5 f6 f7 f8 f9 f10 f11 h ++ wr) (fun r w => r = nI 0 ∧ w = mw G a x4 (nI 1) x7 x8 x11 x15 f1 f2 f3 f4 f5 f6 f7 f8 f9 f10 f11 h ++ wr) := by
  refine MUi hE (by decide) (Nat.le_of_ble_eq_true rfl) (fun pR eV sT mI below meth cd QQ ls X hH hl ret => ?_)
  obtain ⟨⟨hx, hb, hml, hown, hts⟩, ⟨hr, hlk⟩, -, -, -⟩ := id X
  have hl : lv_has ls 2 [(0, .ref (a 0)), (1, .int x)] := hl
  refine wgen (H := sT.heap) (locs := []) hH (fun H locs hH => ?_)
  refine lv_aload_n hx hb dX6_value_0 rfl (lv_at hl 0 rfl) ?_
  refine lv_iload_n hx hb dX6_value_1 rfl (lv_at hl 1 rfl) ?_
  refine lv_iconst (v := nI 0) hx hb dX6_value_2 (by decide) ?_
  refine lv_bipush (v := nI 8) hx hb dX6_value_3 (by decide) ?_
  refine m_S (c_X6_in hE) X hH.2 (lw_S q1528 q1529 q72 q1530) hds_X6_in ⟨Nat.le_of_ble_eq_true rfl, Nat.le_of_ble_eq_true rfl⟩ ⟨Nat.le_refl _, Nat.le_refl _⟩ rfl hl.1 rfl (Nat.le_of_ble_eq_true rfl) dX6_value_5 ?_
  refine n_top (y := nI 0) (by rw [hB]; rfl) ?_
  refine lv_if_eq (tgt := 15) hx hb dX6_value_8 (by decide) (fun _ => ?_) (fun h => absurd rfl h)
  refine lv_iconst (v := nI 1) hx hb dX6_value_15 (by decide) ?_
  refine m_Mi (c_X6_refused (cN := 1) hE (by omega)) X hH (lw_V q1520 q1522 qs23 q72 q1523) hdv_X6_refused ⟨Nat.le_of_ble_eq_true rfl, Nat.le_of_ble_eq_true rfl⟩ ⟨Nat.le_refl _, Nat.le_refl _⟩ rfl hl.1 rfl (Nat.le_of_ble_eq_true rfl) dX6_value_16 (fun r w H locs hq hH => ?_)
  obtain ⟨rfl, rfl⟩ := hq
  refine n_top (y := bI true) (rfl) ?_
  refine n_top (y := nI 1) (rfl) ?_
  refine lv_if_eq (tgt := 26) hx hb dX6_value_19 (by decide) (fun h => absurd h (by decide)) (fun _ => ?_)
  refine lv_iconst (v := nI 0) hx hb dX6_value_22 (by decide) ?_
  refine lv_goto (tgt := 31) hx hb dX6_value_23 (by decide) ?_
  exact ret _ _ _ _ _ _ _ _ hH (⟨rfl, rfl⟩) (Nat.le_refl _) (Nat.le_refl _) dX6_value_31
theorem c_X6_value_0 (hE : EnvOK G E) {qN : Nat} (hR : ROk f1) (hq : qN ≤ 8) : MU vI l G E yX6_value cX6_value 2 (some .int) 7 0 0 [.ref (a 0), .int (nI qN)] (mw G a x4 x5 x7 x8 x11 x15 f1 f2 f3 f4 f5 f6 f7 f8 f9 f10 f11 h ++ wr) (fun r w => ∃ g6, r = tvI f1 qN ∧ w = mw G a x4 (nI 0) x7 x8 x11 x15 f1 f2 f3 f4 f5 g6 f7 f8 f9 f10 f11 h ++ wr) := by
  refine MUi hE (by decide) (Nat.le_of_ble_eq_true rfl) (fun pR eV sT mI below meth cd QQ ls X hH hl ret => ?_)
  obtain ⟨⟨hx, hb, hml, hown, hts⟩, ⟨hr, hlk⟩, -, -, -⟩ := id X
  have hl : lv_has ls 2 [(0, .ref (a 0)), (1, .int (nI qN))] := hl
  refine wgen (H := sT.heap) (locs := []) hH (fun H locs hH => ?_)
  refine lv_aload_n hx hb dX6_value_0 rfl (lv_at hl 0 rfl) ?_
  refine lv_iload_n hx hb dX6_value_1 rfl (lv_at hl 1 rfl) ?_
  refine lv_iconst (v := nI 0) hx hb dX6_value_2 (by decide) ?_
  refine lv_bipush (v := nI 8) hx hb dX6_value_3 (by decide) ?_
  refine m_S (c_X6_in hE) X hH.2 (lw_S q1528 q1529 q72 q1530) hds_X6_in ⟨Nat.le_of_ble_eq_true rfl, Nat.le_of_ble_eq_true rfl⟩ ⟨Nat.le_refl _, Nat.le_refl _⟩ rfl hl.1 rfl (Nat.le_of_ble_eq_true rfl) dX6_value_5 ?_
  refine n_top (y := nI 1) (by rw [rgB_t hq (by decide)]; rfl) ?_
  refine lv_if_eq (tgt := 15) hx hb dX6_value_8 (by decide) (fun h => absurd h (by decide)) (fun _ => ?_)
  refine lv_iconst (v := nI 0) hx hb dX6_value_11 (by decide) ?_
  refine lv_goto (tgt := 16) hx hb dX6_value_12 (by decide) ?_
  refine m_Mi (c_X6_refused (cN := 0) hE (by omega)) X hH (lw_V q1520 q1522 qs23 q72 q1523) hdv_X6_refused ⟨Nat.le_of_ble_eq_true rfl, Nat.le_of_ble_eq_true rfl⟩ ⟨Nat.le_refl _, Nat.le_refl _⟩ rfl hl.1 rfl (Nat.le_of_ble_eq_true rfl) dX6_value_16 (fun r w H locs hq hH => ?_)
  obtain ⟨rfl, rfl⟩ := hq
  refine n_top (y := bI false) (rfl) ?_
  refine n_top (y := nI 0) (rfl) ?_
  refine lv_if_eq (tgt := 26) hx hb dX6_value_19 (by decide) (fun _ => ?_) (fun h => absurd rfl h)
  refine lv_aload_n hx hb dX6_value_26 rfl (lv_at hl 0 rfl) ?_
  refine lv_iload_n hx hb dX6_value_27 rfl (lv_at hl 1 rfl) ?_
  refine m_Mi (c_X6_tellValue hE hR hq) X hH (lw_V q1617 q1619 qs35 q72 q1620) hdv_X6_tellValue ⟨Nat.le_of_ble_eq_true rfl, Nat.le_of_ble_eq_true rfl⟩ ⟨Nat.le_refl _, Nat.le_refl _⟩ rfl hl.1 rfl (Nat.le_of_ble_eq_true rfl) dX6_value_28 (fun r w H locs hq hH => ?_)
  obtain ⟨g6, rfl, rfl⟩ := hq
  exact ret _ _ _ _ _ _ _ _ hH (⟨g6, rfl, rfl⟩) (Nat.le_refl _) (Nat.le_refl _) dX6_value_31
theorem hdv_X6_tellStamp : yX6_tellStamp.cls = RX6 ∧ yX6_tellStamp.cls ≠ "java/lang/invoke/MethodHandle" ∧ yX6_tellStamp.cls ≠ "java/lang/invoke/VarHandle" ∧ (parseMethodDescriptor yX6_tellStamp.desc).map (fun d => d.parameters.length) = some 2 := by decide +kernel
theorem c_X6_tellStamp (hE : EnvOK G E) {sN qN : Nat} (hR : ROk f1) (hs : sN < nS f1) (hq : qN ≤ 5) : RO l G E yX6_tellStamp cX6_tellStamp 4 .int 3 [.ref (a 0), .int (nI sN), .int (nI qN)] (va_P G.1 cls (mw G a x4 x5 x7 x8 x11 x15 f1 f2 f3 f4 f5 f6 f7 f8 f9 f10 f11 h)) (.int (tsI f1 sN qN)) := by
  refine ROi hE (by decide) (Nat.le_of_ble_eq_true rfl) (fun pR eV sT mI below meth cd QQ ls X hP hl ret => ?_)
  obtain ⟨⟨hx, hb, hml, hown, hts⟩, ⟨hr, hlk⟩, -, -, -⟩ := id X
  have hl : lv_has ls 4 [(0, .ref (a 0)), (1, .int (nI sN)), (2, .int (nI qN))] := hl
  have hm := hR.s1
  refine lv_iload_n hx hb dX6_tellStamp_0 rfl (lv_at hl 1 rfl) ?_
  refine m_S (c_X6_stampAt hE) X va_S.rf (lw_S q1551 q1552 q72 q1553) hds_X6_stampAt ⟨Nat.le_of_ble_eq_true rfl, Nat.le_of_ble_eq_true rfl⟩ ⟨Nat.le_refl _, Nat.le_refl _⟩ rfl hl.1 rfl (Nat.le_of_ble_eq_true rfl) dX6_tellStamp_1 ?_
  refine lv_istore_n (lv' := [(3, .int (nI (7 + 9 * sN))), (0, .ref (a 0)), (1, .int (nI sN)), (2, .int (nI qN))]) hx hb dX6_tellStamp_4 rfl hl (by decide) rfl (fun ls hl => ?_)
  refine lv_iload_n hx hb dX6_tellStamp_5 rfl (lv_at hl 3 rfl) ?_
  rcases (show qN = 0 ∨ qN = 1 ∨ qN = 2 ∨ qN = 3 ∨ qN = 4 ∨ qN = 5 by omega) with rfl | rfl | rfl | rfl | rfl | rfl
  · refine lv_tableIn (off := 34) (tgt := 40) hx hb dX6_tellStamp_6 (by decide) (by decide) (by decide) (by decide) ?_
    refine lv_aload_n hx hb dX6_tellStamp_40 rfl (lv_at hl 1 rfl) ?_
    refine m_g0 X hP dX6_tellStamp_41 ?_
    refine lv_iload_n hx hb dX6_tellStamp_44 rfl (lv_at hl 0 rfl) ?_
    refine m_ld1 X hP (by omega) dX6_tellStamp_45 ?_
    exact ret _ _ _ (rfl) dX6_tellStamp_46
  · refine lv_tableIn (off := 41) (tgt := 47) hx hb dX6_tellStamp_6 (by decide) (by decide) (by decide) (by decide) ?_
    refine lv_aload_n hx hb dX6_tellStamp_47 rfl (lv_at hl 1 rfl) ?_
    refine m_g0 X hP dX6_tellStamp_48 ?_
    refine lv_iload_n hx hb dX6_tellStamp_51 rfl (lv_at hl 0 rfl) ?_
    refine lv_bipush (v := nI 6) hx hb dX6_tellStamp_52 (by decide) ?_
    refine n_iadd hx hb dX6_tellStamp_54 ?_
    refine m_ld1 X hP (by omega) dX6_tellStamp_55 ?_
    exact ret _ _ _ (rfl) dX6_tellStamp_56
  · refine lv_tableIn (off := 51) (tgt := 57) hx hb dX6_tellStamp_6 (by decide) (by decide) (by decide) (by decide) ?_
    refine lv_aload_n hx hb dX6_tellStamp_57 rfl (lv_at hl 1 rfl) ?_
    refine m_g0 X hP dX6_tellStamp_58 ?_
    refine lv_iload_n hx hb dX6_tellStamp_61 rfl (lv_at hl 0 rfl) ?_
    refine lv_bipush (v := nI 7) hx hb dX6_tellStamp_62 (by decide) ?_
    refine n_iadd hx hb dX6_tellStamp_64 ?_
    refine m_ld1 X hP (by omega) dX6_tellStamp_65 ?_
    exact ret _ _ _ (rfl) dX6_tellStamp_66
  · refine lv_tableIn (off := 61) (tgt := 67) hx hb dX6_tellStamp_6 (by decide) (by decide) (by decide) (by decide) ?_
    refine lv_aload_n hx hb dX6_tellStamp_67 rfl (lv_at hl 1 rfl) ?_
    refine m_g0 X hP dX6_tellStamp_68 ?_
    refine lv_iload_n hx hb dX6_tellStamp_71 rfl (lv_at hl 0 rfl) ?_
    refine lv_bipush (v := nI 8) hx hb dX6_tellStamp_72 (by decide) ?_
    refine n_iadd hx hb dX6_tellStamp_74 ?_
    refine m_ld1 X hP (by omega) dX6_tellStamp_75 ?_
    exact ret _ _ _ (rfl) dX6_tellStamp_76
  · refine lv_tableIn (off := 71) (tgt := 77) hx hb dX6_tellStamp_6 (by decide) (by decide) (by decide) (by decide) ?_
    refine lv_aload_n hx hb dX6_tellStamp_77 rfl (lv_at hl 1 rfl) ?_
    refine lv_iload_n hx hb dX6_tellStamp_78 rfl (lv_at hl 2 rfl) ?_
    refine m_R (c_X6_canTurn hE hR hs) X va_S.rf hP (lw_V q1656 q1658 qs44 q72 q1659) hdv_X6_canTurn ⟨Nat.le_of_ble_eq_true rfl, Nat.le_of_ble_eq_true rfl⟩ ⟨Nat.le_refl _, Nat.le_refl _⟩ rfl hl.1 rfl (Nat.le_of_ble_eq_true rfl) dX6_tellStamp_79 ?_
    refine b_if_eq (tgt := 89) hx hb dX6_tellStamp_82 (by decide) (fun c2 => ?_) (fun c2 => ?_)
    · refine lv_iconst (v := nI 0) hx hb dX6_tellStamp_89 (by decide) ?_
      exact ret _ _ _ (bI_f c2) dX6_tellStamp_90
    · refine lv_iconst (v := nI 1) hx hb dX6_tellStamp_85 (by decide) ?_
      refine lv_goto (tgt := 90) hx hb dX6_tellStamp_86 (by decide) ?_
      exact ret _ _ _ (bI_t c2) dX6_tellStamp_90
  · refine lv_tableOut (tgt := 91) hx hb dX6_tellStamp_6 (by decide) (by decide) ?_
    refine lv_aload_n hx hb dX6_tellStamp_91 rfl (lv_at hl 1 rfl) ?_
    refine lv_iload_n hx hb dX6_tellStamp_92 rfl (lv_at hl 2 rfl) ?_
    refine m_R (c_X6_isWorn hE (show sN < 20 by omega)) X va_S.rf hP (lw_V q1625 q1627 qs37 q72 q1628) hdv_X6_isWorn ⟨Nat.le_of_ble_eq_true rfl, Nat.le_of_ble_eq_true rfl⟩ ⟨Nat.le_refl _, Nat.le_refl _⟩ rfl hl.1 rfl (Nat.le_of_ble_eq_true rfl) dX6_tellStamp_93 ?_
    refine b_if_eq (tgt := 103) hx hb dX6_tellStamp_96 (by decide) (fun c2 => ?_) (fun c2 => ?_)
    · refine lv_iconst (v := nI 0) hx hb dX6_tellStamp_103 (by decide) ?_
      exact ret _ _ _ (bI_f c2) dX6_tellStamp_104
    · refine lv_iconst (v := nI 1) hx hb dX6_tellStamp_99 (by decide) ?_
      refine lv_goto (tgt := 104) hx hb dX6_tellStamp_100 (by decide) ?_
      exact ret _ _ _ (bI_t c2) dX6_tellStamp_104
theorem hdv_X6_stamp : yX6_stamp.cls = RX6 ∧ yX6_stamp.cls ≠ "java/lang/invoke/MethodHandle" ∧ yX6_stamp.cls ≠ "java/lang/invoke/VarHandle" ∧ (parseMethodDescriptor yX6_stamp.desc).map (fun d => d.parameters.length) = some 2 := by decide +kernel
theorem c_X6_stamp_1 (hE : EnvOK G E) {x y : Int32} (hR : ROk f1) (hB : idB x (nS f1) = false) : MU vI l G E yX6_stamp cX6_stamp 3 (some .int) 4 0 0 [.ref (a 0), .int x, .int y] (mw G a x4 x5 x7 x8 x11 x15 f1 f2 f3 f4 f5 f6 f7 f8 f9 f10 f11 h ++ wr) (fun r w => r = nI 0 ∧ w = mw G a x4 (nI 1) x7 x8 x11 x15 f1 f2 f3 f4 f5 f6 f7 f8 f9 f10 f11 h ++ wr) := by
  refine MUi hE (by decide) (Nat.le_of_ble_eq_true rfl) (fun pR eV sT mI below meth cd QQ ls X hH hl ret => ?_)
  obtain ⟨⟨hx, hb, hml, hown, hts⟩, ⟨hr, hlk⟩, -, -, -⟩ := id X
  have hl : lv_has ls 3 [(0, .ref (a 0)), (1, .int x), (2, .int y)] := hl
  refine wgen (H := sT.heap) (locs := []) hH (fun H locs hH => ?_)
  have hm := hR.s1
  have hm7 := hR.w1
  refine lv_aload_n hx hb dX6_stamp_0 rfl (lv_at hl 0 rfl) ?_
  refine lv_aload_n hx hb dX6_stamp_1 rfl (lv_at hl 0 rfl) ?_
  refine lv_iload_n hx hb dX6_stamp_2 rfl (lv_at hl 1 rfl) ?_
  refine m_R (c_X6_isStamp hE hR) X hH.2 hH.mp (lw_V q1593 q1595 qs34 q72 q1596) hdv_X6_isStamp ⟨Nat.le_of_ble_eq_true rfl, Nat.le_of_ble_eq_true rfl⟩ ⟨Nat.le_refl _, Nat.le_refl _⟩ rfl hl.1 rfl (Nat.le_of_ble_eq_true rfl) dX6_stamp_3 ?_
  refine n_top (y := nI 0) (by rw [hB]; rfl) ?_
  refine lv_if_ne (tgt := 13) hx hb dX6_stamp_6 (by decide) (fun h => absurd rfl h) (fun _ => ?_)
  refine lv_iconst (v := nI 1) hx hb dX6_stamp_9 (by decide) ?_
  refine lv_goto (tgt := 27) hx hb dX6_stamp_10 (by decide) ?_
  refine m_Mi (c_X6_refused (cN := 1) hE (by omega)) X hH (lw_V q1520 q1522 qs23 q72 q1523) hdv_X6_refused ⟨Nat.le_of_ble_eq_true rfl, Nat.le_of_ble_eq_true rfl⟩ ⟨Nat.le_refl _, Nat.le_refl _⟩ rfl hl.1 rfl (Nat.le_of_ble_eq_true rfl) dX6_stamp_27 (fun r w H locs hq hH => ?_)
  obtain ⟨rfl, rfl⟩ := hq
  refine n_top (y := bI true) (rfl) ?_
  refine n_top (y := nI 1) (rfl) ?_
  refine lv_if_eq (tgt := 37) hx hb dX6_stamp_30 (by decide) (fun h => absurd h (by decide)) (fun _ => ?_)
  refine lv_iconst (v := nI 0) hx hb dX6_stamp_33 (by decide) ?_
  refine lv_goto (tgt := 43) hx hb dX6_stamp_34 (by decide) ?_
  exact ret _ _ _ _ _ _ _ _ hH (⟨rfl, rfl⟩) (Nat.le_refl _) (Nat.le_refl _) dX6_stamp_43
theorem c_X6_stamp_2 (hE : EnvOK G E) {sN : Nat} {x : Int32} (hR : ROk f1) (hs : sN < nS f1) (hB : rgB (nI 0) (nI 5) x = false) : MU vI l G E yX6_stamp cX6_stamp 3 (some .int) 4 0 0 [.ref (a 0), .int (nI sN), .int x] (mw G a x4 x5 x7 x8 x11 x15 f1 f2 f3 f4 f5 f6 f7 f8 f9 f10 f11 h ++ wr) (fun r w => r = nI 0 ∧ w = mw G a x4 (nI 2) x7 x8 x11 x15 f1 f2 f3 f4 f5 f6 f7 f8 f9 f10 f11 h ++ wr) := by
  refine MUi hE (by decide) (Nat.le_of_ble_eq_true rfl) (fun pR eV sT mI below meth cd QQ ls X hH hl ret => ?_)
  obtain ⟨⟨hx, hb, hml, hown, hts⟩, ⟨hr, hlk⟩, -, -, -⟩ := id X
  have hl : lv_has ls 3 [(0, .ref (a 0)), (1, .int (nI sN)), (2, .int x)] := hl
  refine wgen (H := sT.heap) (locs := []) hH (fun H locs hH => ?_)
  have hm := hR.s1
  have hm7 := hR.w1
  refine lv_aload_n hx hb dX6_stamp_0 rfl (lv_at hl 0 rfl) ?_
  refine lv_aload_n hx hb dX6_stamp_1 rfl (lv_at hl 0 rfl) ?_
  refine lv_iload_n hx hb dX6_stamp_2 rfl (lv_at hl 1 rfl) ?_
  refine m_R (c_X6_isStamp hE hR) X hH.2 hH.mp (lw_V q1593 q1595 qs34 q72 q1596) hdv_X6_isStamp ⟨Nat.le_of_ble_eq_true rfl, Nat.le_of_ble_eq_true rfl⟩ ⟨Nat.le_refl _, Nat.le_refl _⟩ rfl hl.1 rfl (Nat.le_of_ble_eq_true rfl) dX6_stamp_3 ?_
  refine n_top (y := nI 1) (by rw [idB_t hs (by omega)]; rfl) ?_
  refine lv_if_ne (tgt := 13) hx hb dX6_stamp_6 (by decide) (fun _ => ?_) (fun h => absurd h (by decide))
  refine lv_iload_n hx hb dX6_stamp_13 rfl (lv_at hl 2 rfl) ?_
  refine lv_iconst (v := nI 0) hx hb dX6_stamp_14 (by decide) ?_
  refine lv_iconst (v := nI 5) hx hb dX6_stamp_15 (by decide) ?_
  refine m_S (c_X6_in hE) X hH.2 (lw_S q1528 q1529 q72 q1530) hds_X6_in ⟨Nat.le_of_ble_eq_true rfl, Nat.le_of_ble_eq_true rfl⟩ ⟨Nat.le_refl _, Nat.le_refl _⟩ rfl hl.1 rfl (Nat.le_of_ble_eq_true rfl) dX6_stamp_16 ?_
  refine n_top (y := nI 0) (by rw [hB]; rfl) ?_
  refine lv_if_eq (tgt := 26) hx hb dX6_stamp_19 (by decide) (fun _ => ?_) (fun h => absurd rfl h)
  refine lv_iconst (v := nI 2) hx hb dX6_stamp_26 (by decide) ?_
  refine m_Mi (c_X6_refused (cN := 2) hE (by omega)) X hH (lw_V q1520 q1522 qs23 q72 q1523) hdv_X6_refused ⟨Nat.le_of_ble_eq_true rfl, Nat.le_of_ble_eq_true rfl⟩ ⟨Nat.le_refl _, Nat.le_refl _⟩ rfl hl.1 rfl (Nat.le_of_ble_eq_true rfl) dX6_stamp_27 (fun r w H locs hq hH => ?_)
  obtain ⟨rfl, rfl⟩ := hq
  refine n_top (y := bI true) (rfl) ?_
  refine n_top (y := nI 1) (rfl) ?_
  refine lv_if_eq (tgt := 37) hx hb dX6_stamp_30 (by decide) (fun h => absurd h (by decide)) (fun _ => ?_)
  refine lv_iconst (v := nI 0) hx hb dX6_stamp_33 (by decide) ?_
  refine lv_goto (tgt := 43) hx hb dX6_stamp_34 (by decide) ?_
  exact ret _ _ _ _ _ _ _ _ hH (⟨rfl, rfl⟩) (Nat.le_refl _) (Nat.le_refl _) dX6_stamp_43
theorem c_X6_stamp_0 (hE : EnvOK G E) {sN qN : Nat} (hR : ROk f1) (hs : sN < nS f1) (hq : qN ≤ 5) : MU vI l G E yX6_stamp cX6_stamp 3 (some .int) 4 0 0 [.ref (a 0), .int (nI sN), .int (nI qN)] (mw G a x4 x5 x7 x8 x11 x15 f1 f2 f3 f4 f5 f6 f7 f8 f9 f10 f11 h ++ wr) (fun r w => r = tsI f1 sN qN ∧ w = mw G a x4 (nI 0) x7 x8 x11 x15 f1 f2 f3 f4 f5 f6 f7 f8 f9 f10 f11 h ++ wr) := by
  refine MUi hE (by decide) (Nat.le_of_ble_eq_true rfl) (fun pR eV sT mI below meth cd QQ ls X hH hl ret => ?_)
  obtain ⟨⟨hx, hb, hml, hown, hts⟩, ⟨hr, hlk⟩, -, -, -⟩ := id X
  have hl : lv_has ls 3 [(0, .ref (a 0)), (1, .int (nI sN)), (2, .int (nI qN))] := hl
  refine wgen (H := sT.heap) (locs := []) hH (fun H locs hH => ?_)
  have hm := hR.s1
  have hm7 := hR.w1
  refine lv_aload_n hx hb dX6_stamp_0 rfl (lv_at hl 0 rfl) ?_
  refine lv_aload_n hx hb dX6_stamp_1 rfl (lv_at hl 0 rfl) ?_
  refine lv_iload_n hx hb dX6_stamp_2 rfl (lv_at hl 1 rfl) ?_
  refine m_R (c_X6_isStamp hE hR) X hH.2 hH.mp (lw_V q1593 q1595 qs34 q72 q1596) hdv_X6_isStamp ⟨Nat.le_of_ble_eq_true rfl, Nat.le_of_ble_eq_true rfl⟩ ⟨Nat.le_refl _, Nat.le_refl _⟩ rfl hl.1 rfl (Nat.le_of_ble_eq_true rfl) dX6_stamp_3 ?_
  refine n_top (y := nI 1) (by rw [idB_t hs (by omega)]; rfl) ?_
  refine lv_if_ne (tgt := 13) hx hb dX6_stamp_6 (by decide) (fun _ => ?_) (fun h => absurd h (by decide))
  refine lv_iload_n hx hb dX6_stamp_13 rfl (lv_at hl 2 rfl) ?_
  refine lv_iconst (v := nI 0) hx hb dX6_stamp_14 (by decide) ?_
  refine lv_iconst (v := nI 5) hx hb dX6_stamp_15 (by decide) ?_
  refine m_S (c_X6_in hE) X hH.2 (lw_S q1528 q1529 q72 q1530) hds_X6_in ⟨Nat.le_of_ble_eq_true rfl, Nat.le_of_ble_eq_true rfl⟩ ⟨Nat.le_refl _, Nat.le_refl _⟩ rfl hl.1 rfl (Nat.le_of_ble_eq_true rfl) dX6_stamp_16 ?_
  refine n_top (y := nI 1) (by rw [rgB_t hq (by decide)]; rfl) ?_
  refine lv_if_eq (tgt := 26) hx hb dX6_stamp_19 (by decide) (fun h => absurd h (by decide)) (fun _ => ?_)
  refine lv_iconst (v := nI 0) hx hb dX6_stamp_22 (by decide) ?_
  refine lv_goto (tgt := 27) hx hb dX6_stamp_23 (by decide) ?_
  refine m_Mi (c_X6_refused (cN := 0) hE (by omega)) X hH (lw_V q1520 q1522 qs23 q72 q1523) hdv_X6_refused ⟨Nat.le_of_ble_eq_true rfl, Nat.le_of_ble_eq_true rfl⟩ ⟨Nat.le_refl _, Nat.le_refl _⟩ rfl hl.1 rfl (Nat.le_of_ble_eq_true rfl) dX6_stamp_27 (fun r w H locs hq hH => ?_)
  obtain ⟨rfl, rfl⟩ := hq
  refine n_top (y := bI false) (rfl) ?_
  refine n_top (y := nI 0) (rfl) ?_
  refine lv_if_eq (tgt := 37) hx hb dX6_stamp_30 (by decide) (fun _ => ?_) (fun h => absurd rfl h)
  refine lv_aload_n hx hb dX6_stamp_37 rfl (lv_at hl 0 rfl) ?_
  refine lv_iload_n hx hb dX6_stamp_38 rfl (lv_at hl 1 rfl) ?_
  refine lv_iload_n hx hb dX6_stamp_39 rfl (lv_at hl 2 rfl) ?_
  refine m_R (c_X6_tellStamp hE hR hs hq) X hH.2 hH.mp (lw_V q1664 q1666 qs45 q72 q1667) hdv_X6_tellStamp ⟨Nat.le_of_ble_eq_true rfl, Nat.le_of_ble_eq_true rfl⟩ ⟨Nat.le_refl _, Nat.le_refl _⟩ rfl hl.1 rfl (Nat.le_of_ble_eq_true rfl) dX6_stamp_40 ?_
  exact ret _ _ _ _ _ _ _ _ hH (⟨rfl, rfl⟩) (Nat.le_refl _) (Nat.le_refl _) dX6_stamp_43
theorem hdv_X6_print : yX6_print.cls = RX6 ∧ yX6_print.cls ≠ "java/lang/invoke/MethodHandle" ∧ yX6_print.cls ≠ "java/lang/invoke/VarHandle" ∧ (parseMethodDescriptor yX6_print.desc).map (fun d => d.parameters.length) = some 3 := by decide +kernel
theorem c_X6_print_1 (hE : EnvOK G E) {x y : Int32} {tB : Bool} (hR : ROk f1) (hB : idB x (nS f1) = false) : MU vI l G E yX6_print cX6_print 4 (some .int) 3 0 0 [.ref (a 0), .int x, .int y, .int (bI tB)] (mw G a x4 x5 x7 x8 x11 x15 f1 f2 f3 f4 f5 f6 f7 f8 f9 f10 f11 h ++ wr) (fun r w => r = nI 0 ∧ w = mw G a x4 (nI 1) x7 x8 x11 x15 f1 f2 f3 f4 f5 f6 f7 f8 f9 f10 f11 h ++ wr) := by
  refine MUi hE (by decide) (Nat.le_of_ble_eq_true rfl) (fun pR eV sT mI below meth cd QQ ls X hH hl ret => ?_)
  obtain ⟨⟨hx, hb, hml, hown, hts⟩, ⟨hr, hlk⟩, -, -, -⟩ := id X
  have hl : lv_has ls 4 [(0, .ref (a 0)), (1, .int x), (2, .int y), (3, .int (bI tB))] := hl
  refine wgen (H := sT.heap) (locs := []) hH (fun H locs hH => ?_)
  have hm := hR.s1
  have hm7 := hR.w1
  refine lv_aload_n hx hb dX6_print_0 rfl (lv_at hl 0 rfl) ?_
  refine lv_aload_n hx hb dX6_print_1 rfl (lv_at hl 0 rfl) ?_
  refine lv_iload_n hx hb dX6_print_2 rfl (lv_at hl 1 rfl) ?_
  refine m_R (c_X6_isStamp hE hR) X hH.2 hH.mp (lw_V q1593 q1595 qs34 q72 q1596) hdv_X6_isStamp ⟨Nat.le_of_ble_eq_true rfl, Nat.le_of_ble_eq_true rfl⟩ ⟨Nat.le_refl _, Nat.le_refl _⟩ rfl hl.1 rfl (Nat.le_of_ble_eq_true rfl) dX6_print_3 ?_
  refine n_top (y := nI 0) (by rw [hB]; rfl) ?_
  refine lv_if_eq (tgt := 32) hx hb dX6_print_6 (by decide) (fun _ => ?_) (fun h => absurd rfl h)
  refine lv_iconst (v := nI 1) hx hb dX6_print_32 (by decide) ?_
  refine m_Mi (c_X6_refused (cN := 1) hE (by omega)) X hH (lw_V q1520 q1522 qs23 q72 q1523) hdv_X6_refused ⟨Nat.le_of_ble_eq_true rfl, Nat.le_of_ble_eq_true rfl⟩ ⟨Nat.le_refl _, Nat.le_refl _⟩ rfl hl.1 rfl (Nat.le_of_ble_eq_true rfl) dX6_print_33 (fun r w H locs hq hH => ?_)
  obtain ⟨rfl, rfl⟩ := hq
  refine n_top (y := bI true) (rfl) ?_
  refine n_top (y := nI 1) (rfl) ?_
  refine lv_if_eq (tgt := 41) hx hb dX6_print_36 (by decide) (fun h => absurd h (by decide)) (fun _ => ?_)
  refine lv_iconst (v := nI 0) hx hb dX6_print_39 (by decide) ?_
  exact ret _ _ _ _ _ _ _ _ hH (⟨rfl, rfl⟩) (Nat.le_refl _) (Nat.le_refl _) dX6_print_40
theorem c_X6_print_2 (hE : EnvOK G E) {sN : Nat} {y : Int32} {tB : Bool} (hR : ROk f1) (hs : sN < nS f1) (hB : idB y (sL f1 sN) = false) : MU vI l G E yX6_print cX6_print 4 (some .int) 3 0 0 [.ref (a 0), .int (nI sN), .int y, .int (bI tB)] (mw G a x4 x5 x7 x8 x11 x15 f1 f2 f3 f4 f5 f6 f7 f8 f9 f10 f11 h ++ wr) (fun r w => r = nI 0 ∧ w = mw G a x4 (nI 1) x7 x8 x11 x15 f1 f2 f3 f4 f5 f6 f7 f8 f9 f10 f11 h ++ wr) := by
  refine MUi hE (by decide) (Nat.le_of_ble_eq_true rfl) (fun pR eV sT mI below meth cd QQ ls X hH hl ret => ?_)
  obtain ⟨⟨hx, hb, hml, hown, hts⟩, ⟨hr, hlk⟩, -, -, -⟩ := id X
  have hl : lv_has ls 4 [(0, .ref (a 0)), (1, .int (nI sN)), (2, .int y), (3, .int (bI tB))] := hl
  refine wgen (H := sT.heap) (locs := []) hH (fun H locs hH => ?_)
  have hm := hR.s1
  have hm7 := hR.w1
  refine lv_aload_n hx hb dX6_print_0 rfl (lv_at hl 0 rfl) ?_
  refine lv_aload_n hx hb dX6_print_1 rfl (lv_at hl 0 rfl) ?_
  refine lv_iload_n hx hb dX6_print_2 rfl (lv_at hl 1 rfl) ?_
  refine m_R (c_X6_isStamp hE hR) X hH.2 hH.mp (lw_V q1593 q1595 qs34 q72 q1596) hdv_X6_isStamp ⟨Nat.le_of_ble_eq_true rfl, Nat.le_of_ble_eq_true rfl⟩ ⟨Nat.le_refl _, Nat.le_refl _⟩ rfl hl.1 rfl (Nat.le_of_ble_eq_true rfl) dX6_print_3 ?_
  refine n_top (y := nI 1) (by rw [idB_t hs (by omega)]; rfl) ?_
  refine lv_if_eq (tgt := 32) hx hb dX6_print_6 (by decide) (fun h => absurd h (by decide)) (fun _ => ?_)
  refine lv_iload_n hx hb dX6_print_9 rfl (lv_at hl 2 rfl) ?_
  refine lv_iconst (v := nI 0) hx hb dX6_print_10 (by decide) ?_
  refine lv_aload_n hx hb dX6_print_11 rfl (lv_at hl 0 rfl) ?_
  refine m_g0 X hH.mp dX6_print_12 ?_
  refine lv_iload_n hx hb dX6_print_15 rfl (lv_at hl 1 rfl) ?_
  refine m_S (c_X6_stampAt hE) X hH.2 (lw_S q1551 q1552 q72 q1553) hds_X6_stampAt ⟨Nat.le_of_ble_eq_true rfl, Nat.le_of_ble_eq_true rfl⟩ ⟨Nat.le_refl _, Nat.le_refl _⟩ rfl hl.1 rfl (Nat.le_of_ble_eq_true rfl) dX6_print_16 ?_
  refine m_ld1 X hH.mp (by omega) dX6_print_19 ?_
  refine n_top (y := nI (sL f1 sN)) (hR.sl hs) ?_
  have hL := hR.sl1 hs
  refine lv_iconst (v := nI 1) hx hb dX6_print_20 (by decide) ?_
  refine n_isub hx hb (by omega) dX6_print_21 ?_
  refine m_S (c_X6_in hE) X hH.2 (lw_S q1528 q1529 q72 q1530) hds_X6_in ⟨Nat.le_of_ble_eq_true rfl, Nat.le_of_ble_eq_true rfl⟩ ⟨Nat.le_refl _, Nat.le_refl _⟩ rfl hl.1 rfl (Nat.le_of_ble_eq_true rfl) dX6_print_22 ?_
  refine n_top (y := bI (idB y (sL f1 sN))) (by unfold idB rgB; rw [pk_sub (by omega)]) ?_
  refine n_top (y := nI 0) (by rw [hB]; rfl) ?_
  refine lv_if_eq (tgt := 32) hx hb dX6_print_25 (by decide) (fun _ => ?_) (fun h => absurd rfl h)
  refine lv_iconst (v := nI 1) hx hb dX6_print_32 (by decide) ?_
  refine m_Mi (c_X6_refused (cN := 1) hE (by omega)) X hH (lw_V q1520 q1522 qs23 q72 q1523) hdv_X6_refused ⟨Nat.le_of_ble_eq_true rfl, Nat.le_of_ble_eq_true rfl⟩ ⟨Nat.le_refl _, Nat.le_refl _⟩ rfl hl.1 rfl (Nat.le_of_ble_eq_true rfl) dX6_print_33 (fun r w H locs hq hH => ?_)
  obtain ⟨rfl, rfl⟩ := hq
  refine n_top (y := bI true) (rfl) ?_
  refine n_top (y := nI 1) (rfl) ?_
  refine lv_if_eq (tgt := 41) hx hb dX6_print_36 (by decide) (fun h => absurd h (by decide)) (fun _ => ?_)
  refine lv_iconst (v := nI 0) hx hb dX6_print_39 (by decide) ?_
  exact ret _ _ _ _ _ _ _ _ hH (⟨rfl, rfl⟩) (Nat.le_refl _) (Nat.le_refl _) dX6_print_40
theorem c_X6_print_0 (hE : EnvOK G E) {sN kN : Nat} {tB : Bool} (hR : ROk f1) (hs : sN < nS f1) (hk : kN < sL f1 sN) : MU vI l G E yX6_print cX6_print 4 (some .int) 3 0 0 [.ref (a 0), .int (nI sN), .int (nI kN), .int (bI tB)] (mw G a x4 x5 x7 x8 x11 x15 f1 f2 f3 f4 f5 f6 f7 f8 f9 f10 f11 h ++ wr) (fun r w => r = (if tB && !canT f1 sN then -1 else pC f1 sN kN tB) ∧ w = mw G a x4 (nI 0) x7 x8 x11 x15 f1 f2 f3 f4 f5 f6 f7 f8 f9 f10 f11 h ++ wr) := by
  refine MUi hE (by decide) (Nat.le_of_ble_eq_true rfl) (fun pR eV sT mI below meth cd QQ ls X hH hl ret => ?_)
  obtain ⟨⟨hx, hb, hml, hown, hts⟩, ⟨hr, hlk⟩, -, -, -⟩ := id X
  have hl : lv_has ls 4 [(0, .ref (a 0)), (1, .int (nI sN)), (2, .int (nI kN)), (3, .int (bI tB))] := hl
  refine wgen (H := sT.heap) (locs := []) hH (fun H locs hH => ?_)
  have hm := hR.s1
  have hm7 := hR.w1
  refine lv_aload_n hx hb dX6_print_0 rfl (lv_at hl 0 rfl) ?_
  refine lv_aload_n hx hb dX6_print_1 rfl (lv_at hl 0 rfl) ?_
  refine lv_iload_n hx hb dX6_print_2 rfl (lv_at hl 1 rfl) ?_
  refine m_R (c_X6_isStamp hE hR) X hH.2 hH.mp (lw_V q1593 q1595 qs34 q72 q1596) hdv_X6_isStamp ⟨Nat.le_of_ble_eq_true rfl, Nat.le_of_ble_eq_true rfl⟩ ⟨Nat.le_refl _, Nat.le_refl _⟩ rfl hl.1 rfl (Nat.le_of_ble_eq_true rfl) dX6_print_3 ?_
  refine n_top (y := nI 1) (by rw [idB_t hs (by omega)]; rfl) ?_
  refine lv_if_eq (tgt := 32) hx hb dX6_print_6 (by decide) (fun h => absurd h (by decide)) (fun _ => ?_)
  refine lv_iload_n hx hb dX6_print_9 rfl (lv_at hl 2 rfl) ?_
  refine lv_iconst (v := nI 0) hx hb dX6_print_10 (by decide) ?_
  refine lv_aload_n hx hb dX6_print_11 rfl (lv_at hl 0 rfl) ?_
  refine m_g0 X hH.mp dX6_print_12 ?_
  refine lv_iload_n hx hb dX6_print_15 rfl (lv_at hl 1 rfl) ?_
  refine m_S (c_X6_stampAt hE) X hH.2 (lw_S q1551 q1552 q72 q1553) hds_X6_stampAt ⟨Nat.le_of_ble_eq_true rfl, Nat.le_of_ble_eq_true rfl⟩ ⟨Nat.le_refl _, Nat.le_refl _⟩ rfl hl.1 rfl (Nat.le_of_ble_eq_true rfl) dX6_print_16 ?_
  refine m_ld1 X hH.mp (by omega) dX6_print_19 ?_
  refine n_top (y := nI (sL f1 sN)) (hR.sl hs) ?_
  have hL := hR.sl1 hs
  refine lv_iconst (v := nI 1) hx hb dX6_print_20 (by decide) ?_
  refine n_isub hx hb (by omega) dX6_print_21 ?_
  refine m_S (c_X6_in hE) X hH.2 (lw_S q1528 q1529 q72 q1530) hds_X6_in ⟨Nat.le_of_ble_eq_true rfl, Nat.le_of_ble_eq_true rfl⟩ ⟨Nat.le_refl _, Nat.le_refl _⟩ rfl hl.1 rfl (Nat.le_of_ble_eq_true rfl) dX6_print_22 ?_
  refine n_top (y := bI (idB (nI kN) (sL f1 sN))) (by unfold idB rgB; rw [pk_sub (by omega)]) ?_
  refine n_top (y := nI 1) (by rw [idB_t hk (by omega)]; rfl) ?_
  refine lv_if_eq (tgt := 32) hx hb dX6_print_25 (by decide) (fun h => absurd h (by decide)) (fun _ => ?_)
  refine lv_iconst (v := nI 0) hx hb dX6_print_28 (by decide) ?_
  refine lv_goto (tgt := 33) hx hb dX6_print_29 (by decide) ?_
  refine m_Mi (c_X6_refused (cN := 0) hE (by omega)) X hH (lw_V q1520 q1522 qs23 q72 q1523) hdv_X6_refused ⟨Nat.le_of_ble_eq_true rfl, Nat.le_of_ble_eq_true rfl⟩ ⟨Nat.le_refl _, Nat.le_refl _⟩ rfl hl.1 rfl (Nat.le_of_ble_eq_true rfl) dX6_print_33 (fun r w H locs hq hH => ?_)
  obtain ⟨rfl, rfl⟩ := hq
  refine n_top (y := bI false) (rfl) ?_
  refine n_top (y := nI 0) (rfl) ?_
  refine lv_if_eq (tgt := 41) hx hb dX6_print_36 (by decide) (fun _ => ?_) (fun h => absurd rfl h)
  refine lv_iload_n hx hb dX6_print_41 rfl (lv_at hl 3 rfl) ?_
  refine b_if_eq (tgt := 57) hx hb dX6_print_42 (by decide) (fun c1 => ?_) (fun c1 => ?_)
  · refine lv_aload_n hx hb dX6_print_57 rfl (lv_at hl 0 rfl) ?_
    refine lv_iload_n hx hb dX6_print_58 rfl (lv_at hl 1 rfl) ?_
    refine lv_iload_n hx hb dX6_print_59 rfl (lv_at hl 2 rfl) ?_
    refine lv_iload_n hx hb dX6_print_60 rfl (lv_at hl 3 rfl) ?_
    refine m_R (c_X6_printed (tB := tB) hE hR hs hk) X hH.2 hH.mp (lw_V q1645 q1647 qs42 q72 q1648) hdv_X6_printed ⟨Nat.le_of_ble_eq_true rfl, Nat.le_of_ble_eq_true rfl⟩ ⟨Nat.le_refl _, Nat.le_refl _⟩ rfl hl.1 rfl (Nat.le_of_ble_eq_true rfl) dX6_print_61 ?_
    exact ret _ _ _ _ _ _ _ _ hH (⟨by rw [c1]; rfl, rfl⟩) (Nat.le_refl _) (Nat.le_refl _) dX6_print_64
  · refine lv_aload_n hx hb dX6_print_45 rfl (lv_at hl 0 rfl) ?_
    refine lv_iload_n hx hb dX6_print_46 rfl (lv_at hl 1 rfl) ?_
    refine m_R (c_X6_canTurn hE hR hs) X hH.2 hH.mp (lw_V q1656 q1658 qs44 q72 q1659) hdv_X6_canTurn ⟨Nat.le_of_ble_eq_true rfl, Nat.le_of_ble_eq_true rfl⟩ ⟨Nat.le_refl _, Nat.le_refl _⟩ rfl hl.1 rfl (Nat.le_of_ble_eq_true rfl) dX6_print_47 ?_
    refine b_if_ne (tgt := 57) hx hb dX6_print_50 (by decide) (fun c2 => ?_) (fun c2 => ?_)
    · refine lv_aload_n hx hb dX6_print_57 rfl (lv_at hl 0 rfl) ?_
      refine lv_iload_n hx hb dX6_print_58 rfl (lv_at hl 1 rfl) ?_
      refine lv_iload_n hx hb dX6_print_59 rfl (lv_at hl 2 rfl) ?_
      refine lv_iload_n hx hb dX6_print_60 rfl (lv_at hl 3 rfl) ?_
      refine m_R (c_X6_printed (tB := tB) hE hR hs hk) X hH.2 hH.mp (lw_V q1645 q1647 qs42 q72 q1648) hdv_X6_printed ⟨Nat.le_of_ble_eq_true rfl, Nat.le_of_ble_eq_true rfl⟩ ⟨Nat.le_refl _, Nat.le_refl _⟩ rfl hl.1 rfl (Nat.le_of_ble_eq_true rfl) dX6_print_61 ?_
      exact ret _ _ _ _ _ _ _ _ hH (⟨by rw [c2, c1]; rfl, rfl⟩) (Nat.le_refl _) (Nat.le_refl _) dX6_print_64
    · refine lv_iconst (v := (-1)) hx hb dX6_print_53 (by decide) ?_
      refine lv_goto (tgt := 64) hx hb dX6_print_54 (by decide) ?_
      exact ret _ _ _ _ _ _ _ _ hH (⟨by rw [c2, c1]; rfl, rfl⟩) (Nat.le_refl _) (Nat.le_refl _) dX6_print_64
theorem hdv_X6_letter : yX6_letter.cls = RX6 ∧ yX6_letter.cls ≠ "java/lang/invoke/MethodHandle" ∧ yX6_letter.cls ≠ "java/lang/invoke/VarHandle" ∧ (parseMethodDescriptor yX6_letter.desc).map (fun d => d.parameters.length) = some 2 := by decide +kernel
theorem c_X6_letter_1 (hE : EnvOK G E) {x y : Int32} (hR : ROk f1) (hB : idB x (nW f1) = false) : MU vI l G E yX6_letter cX6_letter 3 (some .int) 3 0 0 [.ref (a 0), .int x, .int y] (mw G a x4 x5 x7 x8 x11 x15 f1 f2 f3 f4 f5 f6 f7 f8 f9 f10 f11 h ++ wr) (fun r w => r = nI 0 ∧ w = mw G a x4 (nI 1) x7 x8 x11 x15 f1 f2 f3 f4 f5 f6 f7 f8 f9 f10 f11 h ++ wr) := by
  refine MUi hE (by decide) (Nat.le_of_ble_eq_true rfl) (fun pR eV sT mI below meth cd QQ ls X hH hl ret => ?_)
  obtain ⟨⟨hx, hb, hml, hown, hts⟩, ⟨hr, hlk⟩, -, -, -⟩ := id X
  have hl : lv_has ls 3 [(0, .ref (a 0)), (1, .int x), (2, .int y)] := hl
  refine wgen (H := sT.heap) (locs := []) hH (fun H locs hH => ?_)
  have hm := hR.s1
  have hm7 := hR.w1
  refine lv_aload_n hx hb dX6_letter_0 rfl (lv_at hl 0 rfl) ?_
  refine lv_aload_n hx hb dX6_letter_1 rfl (lv_at hl 0 rfl) ?_
  refine lv_iload_n hx hb dX6_letter_2 rfl (lv_at hl 1 rfl) ?_
  refine m_R (c_X6_isWord hE hR) X hH.2 hH.mp (lw_V q1577 q1579 qs31 q72 q1580) hdv_X6_isWord ⟨Nat.le_of_ble_eq_true rfl, Nat.le_of_ble_eq_true rfl⟩ ⟨Nat.le_refl _, Nat.le_refl _⟩ rfl hl.1 rfl (Nat.le_of_ble_eq_true rfl) dX6_letter_3 ?_
  refine n_top (y := nI 0) (by rw [hB]; rfl) ?_
  refine lv_if_eq (tgt := 32) hx hb dX6_letter_6 (by decide) (fun _ => ?_) (fun h => absurd rfl h)
  refine lv_iconst (v := nI 1) hx hb dX6_letter_32 (by decide) ?_
  refine m_Mi (c_X6_refused (cN := 1) hE (by omega)) X hH (lw_V q1520 q1522 qs23 q72 q1523) hdv_X6_refused ⟨Nat.le_of_ble_eq_true rfl, Nat.le_of_ble_eq_true rfl⟩ ⟨Nat.le_refl _, Nat.le_refl _⟩ rfl hl.1 rfl (Nat.le_of_ble_eq_true rfl) dX6_letter_33 (fun r w H locs hq hH => ?_)
  obtain ⟨rfl, rfl⟩ := hq
  refine n_top (y := bI true) (rfl) ?_
  refine n_top (y := nI 1) (rfl) ?_
  refine lv_if_eq (tgt := 43) hx hb dX6_letter_36 (by decide) (fun h => absurd h (by decide)) (fun _ => ?_)
  refine lv_iconst (v := nI 0) hx hb dX6_letter_39 (by decide) ?_
  refine lv_goto (tgt := 56) hx hb dX6_letter_40 (by decide) ?_
  exact ret _ _ _ _ _ _ _ _ hH (⟨rfl, rfl⟩) (Nat.le_refl _) (Nat.le_refl _) dX6_letter_56
theorem c_X6_letter_2 (hE : EnvOK G E) {wN : Nat} {y : Int32} (hR : ROk f1) (hw : wN < nW f1) (hB : idB y (wL f1 wN) = false) : MU vI l G E yX6_letter cX6_letter 3 (some .int) 3 0 0 [.ref (a 0), .int (nI wN), .int y] (mw G a x4 x5 x7 x8 x11 x15 f1 f2 f3 f4 f5 f6 f7 f8 f9 f10 f11 h ++ wr) (fun r w => r = nI 0 ∧ w = mw G a x4 (nI 1) x7 x8 x11 x15 f1 f2 f3 f4 f5 f6 f7 f8 f9 f10 f11 h ++ wr) := by
  refine MUi hE (by decide) (Nat.le_of_ble_eq_true rfl) (fun pR eV sT mI below meth cd QQ ls X hH hl ret => ?_)
  obtain ⟨⟨hx, hb, hml, hown, hts⟩, ⟨hr, hlk⟩, -, -, -⟩ := id X
  have hl : lv_has ls 3 [(0, .ref (a 0)), (1, .int (nI wN)), (2, .int y)] := hl
  refine wgen (H := sT.heap) (locs := []) hH (fun H locs hH => ?_)
  have hm := hR.s1
  have hm7 := hR.w1
  refine lv_aload_n hx hb dX6_letter_0 rfl (lv_at hl 0 rfl) ?_
  refine lv_aload_n hx hb dX6_letter_1 rfl (lv_at hl 0 rfl) ?_
  refine lv_iload_n hx hb dX6_letter_2 rfl (lv_at hl 1 rfl) ?_
  refine m_R (c_X6_isWord hE hR) X hH.2 hH.mp (lw_V q1577 q1579 qs31 q72 q1580) hdv_X6_isWord ⟨Nat.le_of_ble_eq_true rfl, Nat.le_of_ble_eq_true rfl⟩ ⟨Nat.le_refl _, Nat.le_refl _⟩ rfl hl.1 rfl (Nat.le_of_ble_eq_true rfl) dX6_letter_3 ?_
  refine n_top (y := nI 1) (by rw [idB_t hw (by omega)]; rfl) ?_
  refine lv_if_eq (tgt := 32) hx hb dX6_letter_6 (by decide) (fun h => absurd h (by decide)) (fun _ => ?_)
  refine lv_iload_n hx hb dX6_letter_9 rfl (lv_at hl 2 rfl) ?_
  refine lv_iconst (v := nI 0) hx hb dX6_letter_10 (by decide) ?_
  refine lv_aload_n hx hb dX6_letter_11 rfl (lv_at hl 0 rfl) ?_
  refine m_g0 X hH.mp dX6_letter_12 ?_
  refine lv_iload_n hx hb dX6_letter_15 rfl (lv_at hl 1 rfl) ?_
  refine m_S (c_X6_wordAt hE) X hH.2 (lw_S q1562 q1563 q72 q1564) hds_X6_wordAt ⟨Nat.le_of_ble_eq_true rfl, Nat.le_of_ble_eq_true rfl⟩ ⟨Nat.le_refl _, Nat.le_refl _⟩ rfl hl.1 rfl (Nat.le_of_ble_eq_true rfl) dX6_letter_16 ?_
  refine m_ld1 X hH.mp (by omega) dX6_letter_19 ?_
  refine n_top (y := nI (wL f1 wN)) (hR.wl hw) ?_
  have hL := hR.wl1 hw
  refine lv_iconst (v := nI 1) hx hb dX6_letter_20 (by decide) ?_
  refine n_isub hx hb (by omega) dX6_letter_21 ?_
  refine m_S (c_X6_in hE) X hH.2 (lw_S q1528 q1529 q72 q1530) hds_X6_in ⟨Nat.le_of_ble_eq_true rfl, Nat.le_of_ble_eq_true rfl⟩ ⟨Nat.le_refl _, Nat.le_refl _⟩ rfl hl.1 rfl (Nat.le_of_ble_eq_true rfl) dX6_letter_22 ?_
  refine n_top (y := bI (idB y (wL f1 wN))) (by unfold idB rgB; rw [pk_sub (by omega)]) ?_
  refine n_top (y := nI 0) (by rw [hB]; rfl) ?_
  refine lv_if_eq (tgt := 32) hx hb dX6_letter_25 (by decide) (fun _ => ?_) (fun h => absurd rfl h)
  refine lv_iconst (v := nI 1) hx hb dX6_letter_32 (by decide) ?_
  refine m_Mi (c_X6_refused (cN := 1) hE (by omega)) X hH (lw_V q1520 q1522 qs23 q72 q1523) hdv_X6_refused ⟨Nat.le_of_ble_eq_true rfl, Nat.le_of_ble_eq_true rfl⟩ ⟨Nat.le_refl _, Nat.le_refl _⟩ rfl hl.1 rfl (Nat.le_of_ble_eq_true rfl) dX6_letter_33 (fun r w H locs hq hH => ?_)
  obtain ⟨rfl, rfl⟩ := hq
  refine n_top (y := bI true) (rfl) ?_
  refine n_top (y := nI 1) (rfl) ?_
  refine lv_if_eq (tgt := 43) hx hb dX6_letter_36 (by decide) (fun h => absurd h (by decide)) (fun _ => ?_)
  refine lv_iconst (v := nI 0) hx hb dX6_letter_39 (by decide) ?_
  refine lv_goto (tgt := 56) hx hb dX6_letter_40 (by decide) ?_
  exact ret _ _ _ _ _ _ _ _ hH (⟨rfl, rfl⟩) (Nat.le_refl _) (Nat.le_refl _) dX6_letter_56
theorem c_X6_letter_0 (hE : EnvOK G E) {wN kN : Nat} (hR : ROk f1) (hw : wN < nW f1) (hk : kN < wL f1 wN) : MU vI l G E yX6_letter cX6_letter 3 (some .int) 3 0 0 [.ref (a 0), .int (nI wN), .int (nI kN)] (mw G a x4 x5 x7 x8 x11 x15 f1 f2 f3 f4 f5 f6 f7 f8 f9 f10 f11 h ++ wr) (fun r w => r = f1 (97 + 14 * wN + 2 + kN) ∧ w = mw G a x4 (nI 0) x7 x8 x11 x15 f1 f2 f3 f4 f5 f6 f7 f8 f9 f10 f11 h ++ wr) := by
  refine MUi hE (by decide) (Nat.le_of_ble_eq_true rfl) (fun pR eV sT mI below meth cd QQ ls X hH hl ret => ?_)
  obtain ⟨⟨hx, hb, hml, hown, hts⟩, ⟨hr, hlk⟩, -, -, -⟩ := id X
  have hl : lv_has ls 3 [(0, .ref (a 0)), (1, .int (nI wN)), (2, .int (nI kN))] := hl
  refine wgen (H := sT.heap) (locs := []) hH (fun H locs hH => ?_)
  have hm := hR.s1
  have hm7 := hR.w1
  refine lv_aload_n hx hb dX6_letter_0 rfl (lv_at hl 0 rfl) ?_
  refine lv_aload_n hx hb dX6_letter_1 rfl (lv_at hl 0 rfl) ?_
  refine lv_iload_n hx hb dX6_letter_2 rfl (lv_at hl 1 rfl) ?_
  refine m_R (c_X6_isWord hE hR) X hH.2 hH.mp (lw_V q1577 q1579 qs31 q72 q1580) hdv_X6_isWord ⟨Nat.le_of_ble_eq_true rfl, Nat.le_of_ble_eq_true rfl⟩ ⟨Nat.le_refl _, Nat.le_refl _⟩ rfl hl.1 rfl (Nat.le_of_ble_eq_true rfl) dX6_letter_3 ?_
  refine n_top (y := nI 1) (by rw [idB_t hw (by omega)]; rfl) ?_
  refine lv_if_eq (tgt := 32) hx hb dX6_letter_6 (by decide) (fun h => absurd h (by decide)) (fun _ => ?_)
  refine lv_iload_n hx hb dX6_letter_9 rfl (lv_at hl 2 rfl) ?_
  refine lv_iconst (v := nI 0) hx hb dX6_letter_10 (by decide) ?_
  refine lv_aload_n hx hb dX6_letter_11 rfl (lv_at hl 0 rfl) ?_
  refine m_g0 X hH.mp dX6_letter_12 ?_
  refine lv_iload_n hx hb dX6_letter_15 rfl (lv_at hl 1 rfl) ?_
  refine m_S (c_X6_wordAt hE) X hH.2 (lw_S q1562 q1563 q72 q1564) hds_X6_wordAt ⟨Nat.le_of_ble_eq_true rfl, Nat.le_of_ble_eq_true rfl⟩ ⟨Nat.le_refl _, Nat.le_refl _⟩ rfl hl.1 rfl (Nat.le_of_ble_eq_true rfl) dX6_letter_16 ?_
  refine m_ld1 X hH.mp (by omega) dX6_letter_19 ?_
  refine n_top (y := nI (wL f1 wN)) (hR.wl hw) ?_
  have hL := hR.wl1 hw
  refine lv_iconst (v := nI 1) hx hb dX6_letter_20 (by decide) ?_
  refine n_isub hx hb (by omega) dX6_letter_21 ?_
  refine m_S (c_X6_in hE) X hH.2 (lw_S q1528 q1529 q72 q1530) hds_X6_in ⟨Nat.le_of_ble_eq_true rfl, Nat.le_of_ble_eq_true rfl⟩ ⟨Nat.le_refl _, Nat.le_refl _⟩ rfl hl.1 rfl (Nat.le_of_ble_eq_true rfl) dX6_letter_22 ?_
  refine n_top (y := bI (idB (nI kN) (wL f1 wN))) (by unfold idB rgB; rw [pk_sub (by omega)]) ?_
  refine n_top (y := nI 1) (by rw [idB_t hk (by omega)]; rfl) ?_
  refine lv_if_eq (tgt := 32) hx hb dX6_letter_25 (by decide) (fun h => absurd h (by decide)) (fun _ => ?_)
  refine lv_iconst (v := nI 0) hx hb dX6_letter_28 (by decide) ?_
  refine lv_goto (tgt := 33) hx hb dX6_letter_29 (by decide) ?_
  refine m_Mi (c_X6_refused (cN := 0) hE (by omega)) X hH (lw_V q1520 q1522 qs23 q72 q1523) hdv_X6_refused ⟨Nat.le_of_ble_eq_true rfl, Nat.le_of_ble_eq_true rfl⟩ ⟨Nat.le_refl _, Nat.le_refl _⟩ rfl hl.1 rfl (Nat.le_of_ble_eq_true rfl) dX6_letter_33 (fun r w H locs hq hH => ?_)
  obtain ⟨rfl, rfl⟩ := hq
  refine n_top (y := bI false) (rfl) ?_
  refine n_top (y := nI 0) (rfl) ?_
  refine lv_if_eq (tgt := 43) hx hb dX6_letter_36 (by decide) (fun _ => ?_) (fun h => absurd rfl h)
  refine lv_aload_n hx hb dX6_letter_43 rfl (lv_at hl 0 rfl) ?_
  refine m_g0 X hH.mp dX6_letter_44 ?_
  refine lv_iload_n hx hb dX6_letter_47 rfl (lv_at hl 1 rfl) ?_
  refine m_S (c_X6_wordAt hE) X hH.2 (lw_S q1562 q1563 q72 q1564) hds_X6_wordAt ⟨Nat.le_of_ble_eq_true rfl, Nat.le_of_ble_eq_true rfl⟩ ⟨Nat.le_refl _, Nat.le_refl _⟩ rfl hl.1 rfl (Nat.le_of_ble_eq_true rfl) dX6_letter_48 ?_
  refine lv_iconst (v := nI 2) hx hb dX6_letter_51 (by decide) ?_
  refine n_iadd hx hb dX6_letter_52 ?_
  refine lv_iload_n hx hb dX6_letter_53 rfl (lv_at hl 2 rfl) ?_
  refine n_iadd hx hb dX6_letter_54 ?_
  refine m_ld1 X hH.mp (by omega) dX6_letter_55 ?_
  exact ret _ _ _ _ _ _ _ _ hH (⟨rfl, rfl⟩) (Nat.le_refl _) (Nat.le_refl _) dX6_letter_56
theorem hdv_X6_needs : yX6_needs.cls = RX6 ∧ yX6_needs.cls ≠ "java/lang/invoke/MethodHandle" ∧ yX6_needs.cls ≠ "java/lang/invoke/VarHandle" ∧ (parseMethodDescriptor yX6_needs.desc).map (fun d => d.parameters.length) = some 2 := by decide +kernel
theorem c_X6_needs (hE : EnvOK G E) {wN : Nat} {tB : Bool} (hR : ROk f1) (hw : wN < nW f1) : MU vI l G E yX6_needs cX6_needs 5 (some .int) 7 0 0 [.ref (a 0), .int (nI wN), .int (bI tB)] (mw G a x4 x5 x7 x8 x11 x15 f1 f2 f3 f4 f5 f6 f7 f8 f9 f10 f11 h ++ wr) (fun r w => ∃ g3 g6 g7, r = needI f1 wN (if tB then 6 else 5) ∧ w = mw G a x4 x5 x7 x8 (nI (pmN f1 wN (frM f1))) x15 f1 f2 g3 f4 f5 g6 g7 f8 f9 f10 f11 h ++ wr) := by
  refine MUi hE (by decide) (Nat.le_of_ble_eq_true rfl) (fun pR eV sT mI below meth cd QQ ls X hH hl ret => ?_)
  obtain ⟨⟨hx, hb, hml, hown, hts⟩, ⟨hr, hlk⟩, -, -, -⟩ := id X
  have hl : lv_has ls 5 [(0, .ref (a 0)), (1, .int (nI wN)), (2, .int (bI tB))] := hl
  refine wgen (H := sT.heap) (locs := []) hH (fun H locs hH => ?_)
  have hm7 := hR.w1
  refine lv_aload_n hx hb dX6_needs_0 rfl (lv_at hl 0 rfl) ?_
  refine lv_iload_n hx hb dX6_needs_1 rfl (lv_at hl 1 rfl) ?_
  refine m_Mi (c_X6_canWrite hE hR hw) X hH (lw_V q1680 q1682 qs47 q72 q1683) hdv_X6_canWrite ⟨Nat.le_of_ble_eq_true rfl, Nat.le_of_ble_eq_true rfl⟩ ⟨Nat.le_refl _, Nat.le_refl _⟩ rfl hl.1 rfl (Nat.le_of_ble_eq_true rfl) dX6_needs_2 (fun r w H locs hq hH => ?_)
  obtain ⟨g6, g7, -, hg7, rfl, rfl⟩ := hq
  refine b_if_ne (tgt := 10) hx hb dX6_needs_5 (by decide) (fun c1 => ?_) (fun c1 => ?_)
  · refine lv_aload_n hx hb dX6_needs_10 rfl (lv_at hl 0 rfl) ?_
    refine m_Mv (c_X6_keeps hE) X hH (lw_V q1539 q1541 qs24 q72 q1542) hdv_X6_keeps ⟨Nat.le_of_ble_eq_true rfl, Nat.le_of_ble_eq_true rfl⟩ ⟨Nat.le_refl _, Nat.le_refl _⟩ rfl hl.1 rfl (Nat.le_of_ble_eq_true rfl) dX6_needs_11 (fun w H locs hq hH => ?_)
    obtain rfl := hq
    refine lv_aload_n hx hb dX6_needs_14 rfl (lv_at hl 0 rfl) ?_
    refine lv_aload_n hx hb dX6_needs_15 rfl (lv_at hl 0 rfl) ?_
    refine m_g0 X hH.mp dX6_needs_16 ?_
    refine lv_iload_n hx hb dX6_needs_19 rfl (lv_at hl 1 rfl) ?_
    refine m_S (c_X6_wordAt hE) X hH.2 (lw_S q1562 q1563 q72 q1564) hds_X6_wordAt ⟨Nat.le_of_ble_eq_true rfl, Nat.le_of_ble_eq_true rfl⟩ ⟨Nat.le_refl _, Nat.le_refl _⟩ rfl hl.1 rfl (Nat.le_of_ble_eq_true rfl) dX6_needs_20 ?_
    refine lv_iconst (v := nI 1) hx hb dX6_needs_23 (by decide) ?_
    refine n_iadd hx hb dX6_needs_24 ?_
    refine m_ld1 X hH.mp (by omega) dX6_needs_25 ?_
    refine m_Mv (c_X6_carries (pl := plP f1 wN (frM f1)) hE (Nat.le_trans (pmN_le hR) (hR.wl1 hw).2) (fun i hi => ⟨hg7 i hi, by have h1 := plP_lt hR hi; have h2 := hR.s1; omega⟩)) X hH (lw_V q1692 q1694 qs50 q72 q1695) hdv_X6_carries ⟨Nat.le_of_ble_eq_true rfl, Nat.le_of_ble_eq_true rfl⟩ ⟨Nat.le_refl _, Nat.le_refl _⟩ rfl hl.1 rfl (Nat.le_of_ble_eq_true rfl) dX6_needs_26 (fun w H locs hq hH => ?_)
    obtain rfl := hq
    refine lv_iload_n hx hb dX6_needs_29 rfl (lv_at hl 2 rfl) ?_
    refine b_if_eq (tgt := 38) hx hb dX6_needs_30 (by decide) (fun c2 => ?_) (fun c2 => ?_)
    · refine lv_iconst (v := nI 5) hx hb dX6_needs_38 (by decide) ?_
      refine lv_istore_n (lv' := [(3, .int (nI 5)), (0, .ref (a 0)), (1, .int (nI wN)), (2, .int (bI tB))]) hx hb dX6_needs_39 rfl hl (by decide) rfl (fun ls hl => ?_)
      refine lv_aload_n hx hb dX6_needs_40 rfl (lv_at hl 1 rfl) ?_
      refine m_g0 X hH.mp dX6_needs_41 ?_
      refine lv_iload_n hx hb dX6_needs_44 rfl (lv_at hl 0 rfl) ?_
      refine m_ld1 X hH.mp (by omega) dX6_needs_45 ?_
      refine lv_aload_n hx hb dX6_needs_46 rfl (lv_at hl 1 rfl) ?_
      refine m_g2 X hH.mp dX6_needs_47 ?_
      refine lv_iload_n hx hb dX6_needs_50 rfl (lv_at hl 0 rfl) ?_
      refine m_ld3 X hH.mp (by omega) dX6_needs_51 ?_
      refine lv_isub hx hb dX6_needs_52 ?_
      refine lv_istore (lv' := [(4, .int (((wroR f1 wN) 5) - (f1 5))), (3, .int (nI 5)), (0, .ref (a 0)), (1, .int (nI wN)), (2, .int (bI tB))]) hx hb dX6_needs_53 hl (by decide) rfl (fun ls hl => ?_)
      have hl : lv_has ls 5 [(4, .int (wroR f1 wN 5 - f1 5)), (3, .int (nI 5)), (0, .ref (a 0)), (1, .int (nI wN)), (2, .int (bI tB))] := by rw [← (show (((wroR f1 wN) 5) - (f1 5) : Int32) = wroR f1 wN 5 - f1 5 from rfl)]; exact hl
      refine lv_aload_n hx hb dX6_needs_55 rfl (lv_at hl 2 rfl) ?_
      refine m_Mv (c_X6_takesBack hE) X hH (lw_V q1565 q1567 qs29 q72 q1568) hdv_X6_takesBack ⟨Nat.le_of_ble_eq_true rfl, Nat.le_of_ble_eq_true rfl⟩ ⟨Nat.le_refl _, Nat.le_refl _⟩ rfl hl.1 rfl (Nat.le_of_ble_eq_true rfl) dX6_needs_56 (fun w H locs hq hH => ?_)
      obtain rfl := hq
      refine lv_iload hx hb dX6_needs_59 (lv_at hl 0 rfl) ?_
      exact ret _ _ _ _ _ _ _ _ hH (⟨f1, g6, g7, by unfold needI; rw [c1, if_pos rfl, c2]; rfl, rfl⟩) (Nat.le_refl _) (Nat.le_refl _) dX6_needs_61
    · refine lv_bipush (v := nI 6) hx hb dX6_needs_33 (by decide) ?_
      refine lv_goto (tgt := 39) hx hb dX6_needs_35 (by decide) ?_
      refine lv_istore_n (lv' := [(3, .int (nI 6)), (0, .ref (a 0)), (1, .int (nI wN)), (2, .int (bI tB))]) hx hb dX6_needs_39 rfl hl (by decide) rfl (fun ls hl => ?_)
      refine lv_aload_n hx hb dX6_needs_40 rfl (lv_at hl 1 rfl) ?_
      refine m_g0 X hH.mp dX6_needs_41 ?_
      refine lv_iload_n hx hb dX6_needs_44 rfl (lv_at hl 0 rfl) ?_
      refine m_ld1 X hH.mp (by omega) dX6_needs_45 ?_
      refine lv_aload_n hx hb dX6_needs_46 rfl (lv_at hl 1 rfl) ?_
      refine m_g2 X hH.mp dX6_needs_47 ?_
      refine lv_iload_n hx hb dX6_needs_50 rfl (lv_at hl 0 rfl) ?_
      refine m_ld3 X hH.mp (by omega) dX6_needs_51 ?_
      refine lv_isub hx hb dX6_needs_52 ?_
      refine lv_istore (lv' := [(4, .int (((wroR f1 wN) 6) - (f1 6))), (3, .int (nI 6)), (0, .ref (a 0)), (1, .int (nI wN)), (2, .int (bI tB))]) hx hb dX6_needs_53 hl (by decide) rfl (fun ls hl => ?_)
      have hl : lv_has ls 5 [(4, .int (wroR f1 wN 6 - f1 6)), (3, .int (nI 6)), (0, .ref (a 0)), (1, .int (nI wN)), (2, .int (bI tB))] := by rw [← (show (((wroR f1 wN) 6) - (f1 6) : Int32) = wroR f1 wN 6 - f1 6 from rfl)]; exact hl
      refine lv_aload_n hx hb dX6_needs_55 rfl (lv_at hl 2 rfl) ?_
      refine m_Mv (c_X6_takesBack hE) X hH (lw_V q1565 q1567 qs29 q72 q1568) hdv_X6_takesBack ⟨Nat.le_of_ble_eq_true rfl, Nat.le_of_ble_eq_true rfl⟩ ⟨Nat.le_refl _, Nat.le_refl _⟩ rfl hl.1 rfl (Nat.le_of_ble_eq_true rfl) dX6_needs_56 (fun w H locs hq hH => ?_)
      obtain rfl := hq
      refine lv_iload hx hb dX6_needs_59 (lv_at hl 0 rfl) ?_
      exact ret _ _ _ _ _ _ _ _ hH (⟨f1, g6, g7, by unfold needI; rw [c1, if_pos rfl, c2]; rfl, rfl⟩) (Nat.le_refl _) (Nat.le_refl _) dX6_needs_61
  · refine lv_iconst (v := (-1)) hx hb dX6_needs_8 (by decide) ?_
    exact ret _ _ _ _ _ _ _ _ hH (⟨f3, g6, g7, by unfold needI; rw [c1]; rfl, rfl⟩) (Nat.le_refl _) (Nat.le_refl _) dX6_needs_9
theorem hdv_X6_tellWord : yX6_tellWord.cls = RX6 ∧ yX6_tellWord.cls ≠ "java/lang/invoke/MethodHandle" ∧ yX6_tellWord.cls ≠ "java/lang/invoke/VarHandle" ∧ (parseMethodDescriptor yX6_tellWord.desc).map (fun d => d.parameters.length) = some 2 := by decide +kernel
theorem c_X6_tellWord (hE : EnvOK G E) {wN qN : Nat} (hR : ROk f1) (hw : wN < nW f1) (hq : qN ≤ 5) : MU vI l G E yX6_tellWord cX6_tellWord 3 (some .int) 8 0 0 [.ref (a 0), .int (nI wN), .int (nI qN)] (mw G a x4 x5 x7 x8 x11 x15 f1 f2 f3 f4 f5 f6 f7 f8 f9 f10 f11 h ++ wr) (fun r w => ∃ z11 g3 g6 g7, r = twI f1 wN qN ∧ w = mw G a x4 x5 x7 x8 z11 x15 f1 f2 g3 f4 f5 g6 g7 f8 f9 f10 f11 h ++ wr) := by
  refine MUi hE (by decide) (Nat.le_of_ble_eq_true rfl) (fun pR eV sT mI below meth cd QQ ls X hH hl ret => ?_)
  obtain ⟨⟨hx, hb, hml, hown, hts⟩, ⟨hr, hlk⟩, -, -, -⟩ := id X
  have hl : lv_has ls 3 [(0, .ref (a 0)), (1, .int (nI wN)), (2, .int (nI qN))] := hl
  refine wgen (H := sT.heap) (locs := []) hH (fun H locs hH => ?_)
  have hm7 := hR.w1
  refine lv_iload_n hx hb dX6_tellWord_0 rfl (lv_at hl 2 rfl) ?_
  rcases (show qN = 0 ∨ qN = 1 ∨ qN = 2 ∨ qN = 3 ∨ qN = 4 ∨ qN = 5 by omega) with rfl | rfl | rfl | rfl | rfl | rfl
  · refine lv_tableIn (off := 31) (tgt := 32) hx hb dX6_tellWord_1 (by decide) (by decide) (by decide) (by decide) ?_
    refine lv_aload_n hx hb dX6_tellWord_32 rfl (lv_at hl 0 rfl) ?_
    refine m_g0 X hH.mp dX6_tellWord_33 ?_
    refine lv_iload_n hx hb dX6_tellWord_36 rfl (lv_at hl 1 rfl) ?_
    refine m_S (c_X6_wordAt hE) X hH.2 (lw_S q1562 q1563 q72 q1564) hds_X6_wordAt ⟨Nat.le_of_ble_eq_true rfl, Nat.le_of_ble_eq_true rfl⟩ ⟨Nat.le_refl _, Nat.le_refl _⟩ rfl hl.1 rfl (Nat.le_of_ble_eq_true rfl) dX6_tellWord_37 ?_
    refine lv_iload_n hx hb dX6_tellWord_40 rfl (lv_at hl 2 rfl) ?_
    refine n_iadd hx hb dX6_tellWord_41 ?_
    refine m_ld1 X hH.mp (by omega) dX6_tellWord_42 ?_
    exact ret _ _ _ _ _ _ _ _ hH (⟨x11, f3, f6, f7, rfl, rfl⟩) (Nat.le_refl _) (Nat.le_refl _) dX6_tellWord_43
  · refine lv_tableIn (off := 31) (tgt := 32) hx hb dX6_tellWord_1 (by decide) (by decide) (by decide) (by decide) ?_
    refine lv_aload_n hx hb dX6_tellWord_32 rfl (lv_at hl 0 rfl) ?_
    refine m_g0 X hH.mp dX6_tellWord_33 ?_
    refine lv_iload_n hx hb dX6_tellWord_36 rfl (lv_at hl 1 rfl) ?_
    refine m_S (c_X6_wordAt hE) X hH.2 (lw_S q1562 q1563 q72 q1564) hds_X6_wordAt ⟨Nat.le_of_ble_eq_true rfl, Nat.le_of_ble_eq_true rfl⟩ ⟨Nat.le_refl _, Nat.le_refl _⟩ rfl hl.1 rfl (Nat.le_of_ble_eq_true rfl) dX6_tellWord_37 ?_
    refine lv_iload_n hx hb dX6_tellWord_40 rfl (lv_at hl 2 rfl) ?_
    refine n_iadd hx hb dX6_tellWord_41 ?_
    refine m_ld1 X hH.mp (by omega) dX6_tellWord_42 ?_
    exact ret _ _ _ _ _ _ _ _ hH (⟨x11, f3, f6, f7, rfl, rfl⟩) (Nat.le_refl _) (Nat.le_refl _) dX6_tellWord_43
  · refine lv_tableIn (off := 43) (tgt := 44) hx hb dX6_tellWord_1 (by decide) (by decide) (by decide) (by decide) ?_
    refine lv_aload_n hx hb dX6_tellWord_44 rfl (lv_at hl 0 rfl) ?_
    refine lv_iload_n hx hb dX6_tellWord_45 rfl (lv_at hl 1 rfl) ?_
    refine lv_aload_n hx hb dX6_tellWord_46 rfl (lv_at hl 0 rfl) ?_
    refine m_R (c_X6_fresh hE hR) X hH.2 hH.mp (lw_V q1633 q1635 qs39 q72 q1636) hdv_X6_fresh ⟨Nat.le_of_ble_eq_true rfl, Nat.le_of_ble_eq_true rfl⟩ ⟨Nat.le_refl _, Nat.le_refl _⟩ rfl hl.1 rfl (Nat.le_of_ble_eq_true rfl) dX6_tellWord_47 ?_
    refine m_Mi (c_X6_presses (mk := frM f1) hE hR hw) X hH (lw_V q1637 q1639 qs40 q72 q1640) hdv_X6_presses ⟨Nat.le_of_ble_eq_true rfl, Nat.le_of_ble_eq_true rfl⟩ ⟨Nat.le_refl _, Nat.le_refl _⟩ rfl hl.1 rfl (Nat.le_of_ble_eq_true rfl) dX6_tellWord_50 (fun r w H locs hq hH => ?_)
    obtain ⟨g6, -, rfl, rfl⟩ := hq
    exact ret _ _ _ _ _ _ _ _ hH (⟨x11, f3, g6, f7, rfl, rfl⟩) (Nat.le_refl _) (Nat.le_refl _) dX6_tellWord_53
  · refine lv_tableIn (off := 53) (tgt := 54) hx hb dX6_tellWord_1 (by decide) (by decide) (by decide) (by decide) ?_
    refine lv_aload_n hx hb dX6_tellWord_54 rfl (lv_at hl 0 rfl) ?_
    refine lv_iload_n hx hb dX6_tellWord_55 rfl (lv_at hl 1 rfl) ?_
    refine m_Mi (c_X6_canWrite hE hR hw) X hH (lw_V q1680 q1682 qs47 q72 q1683) hdv_X6_canWrite ⟨Nat.le_of_ble_eq_true rfl, Nat.le_of_ble_eq_true rfl⟩ ⟨Nat.le_refl _, Nat.le_refl _⟩ rfl hl.1 rfl (Nat.le_of_ble_eq_true rfl) dX6_tellWord_56 (fun r w H locs hq hH => ?_)
    obtain ⟨g6, g7, -, hg7, rfl, rfl⟩ := hq
    refine b_if_eq (tgt := 66) hx hb dX6_tellWord_59 (by decide) (fun c2 => ?_) (fun c2 => ?_)
    · refine lv_iconst (v := nI 0) hx hb dX6_tellWord_66 (by decide) ?_
      exact ret _ _ _ _ _ _ _ _ hH (⟨_, f3, g6, g7, bI_f c2, rfl⟩) (Nat.le_refl _) (Nat.le_refl _) dX6_tellWord_67
    · refine lv_iconst (v := nI 1) hx hb dX6_tellWord_62 (by decide) ?_
      refine lv_goto (tgt := 67) hx hb dX6_tellWord_63 (by decide) ?_
      exact ret _ _ _ _ _ _ _ _ hH (⟨_, f3, g6, g7, bI_t c2, rfl⟩) (Nat.le_refl _) (Nat.le_refl _) dX6_tellWord_67
  · refine lv_tableOut (tgt := 68) hx hb dX6_tellWord_1 (by decide) (by decide) ?_
    refine lv_aload_n hx hb dX6_tellWord_68 rfl (lv_at hl 0 rfl) ?_
    refine lv_iload_n hx hb dX6_tellWord_69 rfl (lv_at hl 1 rfl) ?_
    refine lv_iload_n hx hb dX6_tellWord_70 rfl (lv_at hl 2 rfl) ?_
    refine lv_iconst (v := nI 5) hx hb dX6_tellWord_71 (by decide) ?_
    refine n_icmp_ne (tgt := 79) hx hb (by omega) (by omega) dX6_tellWord_72 (by decide) (fun c2 => ?_) (fun c2 => absurd c2 (by decide))
    refine lv_iconst (v := nI 0) hx hb dX6_tellWord_79 (by decide) ?_
    refine m_Mi (c_X6_needs (tB := false) hE hR hw) X hH (lw_V q1688 q1690 qs49 q72 q1691) hdv_X6_needs ⟨Nat.le_of_ble_eq_true rfl, Nat.le_of_ble_eq_true rfl⟩ ⟨Nat.le_refl _, Nat.le_refl _⟩ rfl hl.1 rfl (Nat.le_of_ble_eq_true rfl) dX6_tellWord_80 (fun r w H locs hq hH => ?_)
    obtain ⟨g3, g6, g7, rfl, rfl⟩ := hq
    exact ret _ _ _ _ _ _ _ _ hH (⟨_, g3, g6, g7, rfl, rfl⟩) (Nat.le_refl _) (Nat.le_refl _) dX6_tellWord_83
  · refine lv_tableOut (tgt := 68) hx hb dX6_tellWord_1 (by decide) (by decide) ?_
    refine lv_aload_n hx hb dX6_tellWord_68 rfl (lv_at hl 0 rfl) ?_
    refine lv_iload_n hx hb dX6_tellWord_69 rfl (lv_at hl 1 rfl) ?_
    refine lv_iload_n hx hb dX6_tellWord_70 rfl (lv_at hl 2 rfl) ?_
    refine lv_iconst (v := nI 5) hx hb dX6_tellWord_71 (by decide) ?_
    refine n_icmp_ne (tgt := 79) hx hb (by omega) (by omega) dX6_tellWord_72 (by decide) (fun c2 => absurd rfl c2) (fun c2 => ?_)
    refine lv_iconst (v := nI 1) hx hb dX6_tellWord_75 (by decide) ?_
    refine lv_goto (tgt := 80) hx hb dX6_tellWord_76 (by decide) ?_
    refine m_Mi (c_X6_needs (tB := true) hE hR hw) X hH (lw_V q1688 q1690 qs49 q72 q1691) hdv_X6_needs ⟨Nat.le_of_ble_eq_true rfl, Nat.le_of_ble_eq_true rfl⟩ ⟨Nat.le_refl _, Nat.le_refl _⟩ rfl hl.1 rfl (Nat.le_of_ble_eq_true rfl) dX6_tellWord_80 (fun r w H locs hq hH => ?_)
    obtain ⟨g3, g6, g7, rfl, rfl⟩ := hq
    exact ret _ _ _ _ _ _ _ _ hH (⟨_, g3, g6, g7, rfl, rfl⟩) (Nat.le_refl _) (Nat.le_refl _) dX6_tellWord_83
theorem hdv_X6_word : yX6_word.cls = RX6 ∧ yX6_word.cls ≠ "java/lang/invoke/MethodHandle" ∧ yX6_word.cls ≠ "java/lang/invoke/VarHandle" ∧ (parseMethodDescriptor yX6_word.desc).map (fun d => d.parameters.length) = some 2 := by decide +kernel
theorem c_X6_word_1 (hE : EnvOK G E) {x y : Int32} (hR : ROk f1) (hB : idB x (nW f1) = false) : MU vI l G E yX6_word cX6_word 3 (some .int) 9 0 0 [.ref (a 0), .int x, .int y] (mw G a x4 x5 x7 x8 x11 x15 f1 f2 f3 f4 f5 f6 f7 f8 f9 f10 f11 h ++ wr) (fun r w => r = nI 0 ∧ w = mw G a x4 (nI 1) x7 x8 x11 x15 f1 f2 f3 f4 f5 f6 f7 f8 f9 f10 f11 h ++ wr) := by
  refine MUi hE (by decide) (Nat.le_of_ble_eq_true rfl) (fun pR eV sT mI below meth cd QQ ls X hH hl ret => ?_)
  obtain ⟨⟨hx, hb, hml, hown, hts⟩, ⟨hr, hlk⟩, -, -, -⟩ := id X
  have hl : lv_has ls 3 [(0, .ref (a 0)), (1, .int x), (2, .int y)] := hl
  refine wgen (H := sT.heap) (locs := []) hH (fun H locs hH => ?_)
  have hm := hR.s1
  have hm7 := hR.w1
  refine lv_aload_n hx hb dX6_word_0 rfl (lv_at hl 0 rfl) ?_
  refine lv_aload_n hx hb dX6_word_1 rfl (lv_at hl 0 rfl) ?_
  refine lv_iload_n hx hb dX6_word_2 rfl (lv_at hl 1 rfl) ?_
  refine m_R (c_X6_isWord hE hR) X hH.2 hH.mp (lw_V q1577 q1579 qs31 q72 q1580) hdv_X6_isWord ⟨Nat.le_of_ble_eq_true rfl, Nat.le_of_ble_eq_true rfl⟩ ⟨Nat.le_refl _, Nat.le_refl _⟩ rfl hl.1 rfl (Nat.le_of_ble_eq_true rfl) dX6_word_3 ?_
  refine n_top (y := nI 0) (by rw [hB]; rfl) ?_
  refine lv_if_ne (tgt := 13) hx hb dX6_word_6 (by decide) (fun h => absurd rfl h) (fun _ => ?_)
  refine lv_iconst (v := nI 1) hx hb dX6_word_9 (by decide) ?_
  refine lv_goto (tgt := 27) hx hb dX6_word_10 (by decide) ?_
  refine m_Mi (c_X6_refused (cN := 1) hE (by omega)) X hH (lw_V q1520 q1522 qs23 q72 q1523) hdv_X6_refused ⟨Nat.le_of_ble_eq_true rfl, Nat.le_of_ble_eq_true rfl⟩ ⟨Nat.le_refl _, Nat.le_refl _⟩ rfl hl.1 rfl (Nat.le_of_ble_eq_true rfl) dX6_word_27 (fun r w H locs hq hH => ?_)
  obtain ⟨rfl, rfl⟩ := hq
  refine n_top (y := bI true) (rfl) ?_
  refine n_top (y := nI 1) (rfl) ?_
  refine lv_if_eq (tgt := 37) hx hb dX6_word_30 (by decide) (fun h => absurd h (by decide)) (fun _ => ?_)
  refine lv_iconst (v := nI 0) hx hb dX6_word_33 (by decide) ?_
  refine lv_goto (tgt := 43) hx hb dX6_word_34 (by decide) ?_
  exact ret _ _ _ _ _ _ _ _ hH (⟨rfl, rfl⟩) (Nat.le_refl _) (Nat.le_refl _) dX6_word_43
theorem c_X6_word_2 (hE : EnvOK G E) {wN : Nat} {x : Int32} (hR : ROk f1) (hw : wN < nW f1) (hB : rgB (nI 0) (nI 5) x = false) : MU vI l G E yX6_word cX6_word 3 (some .int) 9 0 0 [.ref (a 0), .int (nI wN), .int x] (mw G a x4 x5 x7 x8 x11 x15 f1 f2 f3 f4 f5 f6 f7 f8 f9 f10 f11 h ++ wr) (fun r w => r = nI 0 ∧ w = mw G a x4 (nI 2) x7 x8 x11 x15 f1 f2 f3 f4 f5 f6 f7 f8 f9 f10 f11 h ++ wr) := by
  refine MUi hE (by decide) (Nat.le_of_ble_eq_true rfl) (fun pR eV sT mI below meth cd QQ ls X hH hl ret => ?_)
  obtain ⟨⟨hx, hb, hml, hown, hts⟩, ⟨hr, hlk⟩, -, -, -⟩ := id X
  have hl : lv_has ls 3 [(0, .ref (a 0)), (1, .int (nI wN)), (2, .int x)] := hl
  refine wgen (H := sT.heap) (locs := []) hH (fun H locs hH => ?_)
  have hm := hR.s1
  have hm7 := hR.w1
  refine lv_aload_n hx hb dX6_word_0 rfl (lv_at hl 0 rfl) ?_
  refine lv_aload_n hx hb dX6_word_1 rfl (lv_at hl 0 rfl) ?_
  refine lv_iload_n hx hb dX6_word_2 rfl (lv_at hl 1 rfl) ?_
  refine m_R (c_X6_isWord hE hR) X hH.2 hH.mp (lw_V q1577 q1579 qs31 q72 q1580) hdv_X6_isWord ⟨Nat.le_of_ble_eq_true rfl, Nat.le_of_ble_eq_true rfl⟩ ⟨Nat.le_refl _, Nat.le_refl _⟩ rfl hl.1 rfl (Nat.le_of_ble_eq_true rfl) dX6_word_3 ?_
  refine n_top (y := nI 1) (by rw [idB_t hw (by omega)]; rfl) ?_
  refine lv_if_ne (tgt := 13) hx hb dX6_word_6 (by decide) (fun _ => ?_) (fun h => absurd h (by decide))
  refine lv_iload_n hx hb dX6_word_13 rfl (lv_at hl 2 rfl) ?_
  refine lv_iconst (v := nI 0) hx hb dX6_word_14 (by decide) ?_
  refine lv_iconst (v := nI 5) hx hb dX6_word_15 (by decide) ?_
  refine m_S (c_X6_in hE) X hH.2 (lw_S q1528 q1529 q72 q1530) hds_X6_in ⟨Nat.le_of_ble_eq_true rfl, Nat.le_of_ble_eq_true rfl⟩ ⟨Nat.le_refl _, Nat.le_refl _⟩ rfl hl.1 rfl (Nat.le_of_ble_eq_true rfl) dX6_word_16 ?_
  refine n_top (y := nI 0) (by rw [hB]; rfl) ?_
  refine lv_if_eq (tgt := 26) hx hb dX6_word_19 (by decide) (fun _ => ?_) (fun h => absurd rfl h)
  refine lv_iconst (v := nI 2) hx hb dX6_word_26 (by decide) ?_
  refine m_Mi (c_X6_refused (cN := 2) hE (by omega)) X hH (lw_V q1520 q1522 qs23 q72 q1523) hdv_X6_refused ⟨Nat.le_of_ble_eq_true rfl, Nat.le_of_ble_eq_true rfl⟩ ⟨Nat.le_refl _, Nat.le_refl _⟩ rfl hl.1 rfl (Nat.le_of_ble_eq_true rfl) dX6_word_27 (fun r w H locs hq hH => ?_)
  obtain ⟨rfl, rfl⟩ := hq
  refine n_top (y := bI true) (rfl) ?_
  refine n_top (y := nI 1) (rfl) ?_
  refine lv_if_eq (tgt := 37) hx hb dX6_word_30 (by decide) (fun h => absurd h (by decide)) (fun _ => ?_)
  refine lv_iconst (v := nI 0) hx hb dX6_word_33 (by decide) ?_
  refine lv_goto (tgt := 43) hx hb dX6_word_34 (by decide) ?_
  exact ret _ _ _ _ _ _ _ _ hH (⟨rfl, rfl⟩) (Nat.le_refl _) (Nat.le_refl _) dX6_word_43
theorem c_X6_word_0 (hE : EnvOK G E) {wN qN : Nat} (hR : ROk f1) (hw : wN < nW f1) (hq : qN ≤ 5) : MU vI l G E yX6_word cX6_word 3 (some .int) 9 0 0 [.ref (a 0), .int (nI wN), .int (nI qN)] (mw G a x4 x5 x7 x8 x11 x15 f1 f2 f3 f4 f5 f6 f7 f8 f9 f10 f11 h ++ wr) (fun r w => ∃ z11 g3 g6 g7, r = twI f1 wN qN ∧ w = mw G a x4 (nI 0) x7 x8 z11 x15 f1 f2 g3 f4 f5 g6 g7 f8 f9 f10 f11 h ++ wr) := by
  refine MUi hE (by decide) (Nat.le_of_ble_eq_true rfl) (fun pR eV sT mI below meth cd QQ ls X hH hl ret => ?_)
  obtain ⟨⟨hx, hb, hml, hown, hts⟩, ⟨hr, hlk⟩, -, -, -⟩ := id X
  have hl : lv_has ls 3 [(0, .ref (a 0)), (1, .int (nI wN)), (2, .int (nI qN))] := hl
  refine wgen (H := sT.heap) (locs := []) hH (fun H locs hH => ?_)
  have hm := hR.s1
  have hm7 := hR.w1
  refine lv_aload_n hx hb dX6_word_0 rfl (lv_at hl 0 rfl) ?_
  refine lv_aload_n hx hb dX6_word_1 rfl (lv_at hl 0 rfl) ?_
  refine lv_iload_n hx hb dX6_word_2 rfl (lv_at hl 1 rfl) ?_
  refine m_R (c_X6_isWord hE hR) X hH.2 hH.mp (lw_V q1577 q1579 qs31 q72 q1580) hdv_X6_isWord ⟨Nat.le_of_ble_eq_true rfl, Nat.le_of_ble_eq_true rfl⟩ ⟨Nat.le_refl _, Nat.le_refl _⟩ rfl hl.1 rfl (Nat.le_of_ble_eq_true rfl) dX6_word_3 ?_
  refine n_top (y := nI 1) (by rw [idB_t hw (by omega)]; rfl) ?_
  refine lv_if_ne (tgt := 13) hx hb dX6_word_6 (by decide) (fun _ => ?_) (fun h => absurd h (by decide))
  refine lv_iload_n hx hb dX6_word_13 rfl (lv_at hl 2 rfl) ?_
  refine lv_iconst (v := nI 0) hx hb dX6_word_14 (by decide) ?_
  refine lv_iconst (v := nI 5) hx hb dX6_word_15 (by decide) ?_
  refine m_S (c_X6_in hE) X hH.2 (lw_S q1528 q1529 q72 q1530) hds_X6_in ⟨Nat.le_of_ble_eq_true rfl, Nat.le_of_ble_eq_true rfl⟩ ⟨Nat.le_refl _, Nat.le_refl _⟩ rfl hl.1 rfl (Nat.le_of_ble_eq_true rfl) dX6_word_16 ?_
  refine n_top (y := nI 1) (by rw [rgB_t hq (by decide)]; rfl) ?_
  refine lv_if_eq (tgt := 26) hx hb dX6_word_19 (by decide) (fun h => absurd h (by decide)) (fun _ => ?_)
  refine lv_iconst (v := nI 0) hx hb dX6_word_22 (by decide) ?_
  refine lv_goto (tgt := 27) hx hb dX6_word_23 (by decide) ?_
  refine m_Mi (c_X6_refused (cN := 0) hE (by omega)) X hH (lw_V q1520 q1522 qs23 q72 q1523) hdv_X6_refused ⟨Nat.le_of_ble_eq_true rfl, Nat.le_of_ble_eq_true rfl⟩ ⟨Nat.le_refl _, Nat.le_refl _⟩ rfl hl.1 rfl (Nat.le_of_ble_eq_true rfl) dX6_word_27 (fun r w H locs hq hH => ?_)
  obtain ⟨rfl, rfl⟩ := hq
  refine n_top (y := bI false) (rfl) ?_
  refine n_top (y := nI 0) (rfl) ?_
  refine lv_if_eq (tgt := 37) hx hb dX6_word_30 (by decide) (fun _ => ?_) (fun h => absurd rfl h)
  refine lv_aload_n hx hb dX6_word_37 rfl (lv_at hl 0 rfl) ?_
  refine lv_iload_n hx hb dX6_word_38 rfl (lv_at hl 1 rfl) ?_
  refine lv_iload_n hx hb dX6_word_39 rfl (lv_at hl 2 rfl) ?_
  refine m_Mi (c_X6_tellWord hE hR hw hq) X hH (lw_V q1676 q1678 qs46 q72 q1679) hdv_X6_tellWord ⟨Nat.le_of_ble_eq_true rfl, Nat.le_of_ble_eq_true rfl⟩ ⟨Nat.le_refl _, Nat.le_refl _⟩ rfl hl.1 rfl (Nat.le_of_ble_eq_true rfl) dX6_word_40 (fun r w H locs hq hH => ?_)
  obtain ⟨z11, g3, g6, g7, rfl, rfl⟩ := hq
  exact ret _ _ _ _ _ _ _ _ hH (⟨z11, g3, g6, g7, rfl, rfl⟩) (Nat.le_refl _) (Nat.le_refl _) dX6_word_43
theorem hdv_X6_press : yX6_press.cls = RX6 ∧ yX6_press.cls ≠ "java/lang/invoke/MethodHandle" ∧ yX6_press.cls ≠ "java/lang/invoke/VarHandle" ∧ (parseMethodDescriptor yX6_press.desc).map (fun d => d.parameters.length) = some 2 := by decide +kernel
theorem c_X6_press_1 (hE : EnvOK G E) {x y : Int32} (hR : ROk f1) (hB : idB x (nW f1) = false) : MU vI l G E yX6_press cX6_press 4 (some .int) 6 0 0 [.ref (a 0), .int x, .int y] (mw G a x4 x5 x7 x8 x11 x15 f1 f2 f3 f4 f5 f6 f7 f8 f9 f10 f11 h ++ wr) (fun r w => ∃ z11 g6 g7, r = nI 0 ∧ w = mw G a x4 (nI 1) x7 x8 z11 x15 f1 f2 f3 f4 f5 g6 g7 f8 f9 f10 f11 h ++ wr) := by
  refine MUi hE (by decide) (Nat.le_of_ble_eq_true rfl) (fun pR eV sT mI below meth cd QQ ls X hH hl ret => ?_)
  obtain ⟨⟨hx, hb, hml, hown, hts⟩, ⟨hr, hlk⟩, -, -, -⟩ := id X
  have hl : lv_has ls 4 [(0, .ref (a 0)), (1, .int x), (2, .int y)] := hl
  refine wgen (H := sT.heap) (locs := []) hH (fun H locs hH => ?_)
  have hm7 := hR.w1
  refine lv_aload_n hx hb dX6_press_0 rfl (lv_at hl 0 rfl) ?_
  refine lv_iload_n hx hb dX6_press_1 rfl (lv_at hl 1 rfl) ?_
  refine m_R (c_X6_isWord hE hR) X hH.2 hH.mp (lw_V q1577 q1579 qs31 q72 q1580) hdv_X6_isWord ⟨Nat.le_of_ble_eq_true rfl, Nat.le_of_ble_eq_true rfl⟩ ⟨Nat.le_refl _, Nat.le_refl _⟩ rfl hl.1 rfl (Nat.le_of_ble_eq_true rfl) dX6_press_2 ?_
  refine n_top (y := nI 0) (by rw [hB]; rfl) ?_
  refine lv_if_eq (tgt := 38) hx hb dX6_press_5 (by decide) (fun _ => ?_) (fun h => absurd rfl h)
  refine lv_iconst (v := nI 0) hx hb dX6_press_38 (by decide) ?_
  refine lv_istore_n (lv' := [(3, .int (nI 0)), (0, .ref (a 0)), (1, .int x), (2, .int y)]) hx hb dX6_press_39 rfl hl (by decide) rfl (fun ls hl => ?_)
  refine lv_aload_n hx hb dX6_press_40 rfl (lv_at hl 1 rfl) ?_
  refine lv_iload_n hx hb dX6_press_41 rfl (lv_at hl 0 rfl) ?_
  refine lv_if_eq (tgt := 49) hx hb dX6_press_42 (by decide) (fun _ => ?_) (fun h => absurd rfl h)
  refine lv_iconst (v := nI 1) hx hb dX6_press_49 (by decide) ?_
  refine m_Mi (c_X6_refused (cN := 1) hE (by omega)) X hH (lw_V q1520 q1522 qs23 q72 q1523) hdv_X6_refused ⟨Nat.le_of_ble_eq_true rfl, Nat.le_of_ble_eq_true rfl⟩ ⟨Nat.le_refl _, Nat.le_refl _⟩ rfl hl.1 rfl (Nat.le_of_ble_eq_true rfl) dX6_press_50 (fun r w H locs hq hH => ?_)
  obtain ⟨rfl, rfl⟩ := hq
  refine n_top (y := bI true) (rfl) ?_
  refine n_top (y := nI 1) (rfl) ?_
  refine lv_if_eq (tgt := 60) hx hb dX6_press_53 (by decide) (fun h => absurd h (by decide)) (fun _ => ?_)
  refine lv_iconst (v := nI 0) hx hb dX6_press_56 (by decide) ?_
  refine lv_goto (tgt := 66) hx hb dX6_press_57 (by decide) ?_
  exact ret _ _ _ _ _ _ _ _ hH (⟨x11, f6, f7, rfl, rfl⟩) (Nat.le_refl _) (Nat.le_refl _) dX6_press_66
end
