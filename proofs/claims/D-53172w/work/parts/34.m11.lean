/-! MODEL, methods 11: writing, what if -/
def allW (R : Nat → Int32) (m : Int32) (n : Nat) : Bool := allB n (fun w => decide (pr R w m ≠ 100))
def popF : Nat → Nat → Nat
  | 0, _ => 0
  | f + 1, n => n % 2 + popF f (n / 2)
def okS (R : Nat → Int32) (q : Nat) : Bool := decide (nI q &&& (frM R ^^^ (-1)) = 0) && allW R (nI q) (nW R)
/-- the first set of n stamps that is enough -/
def fwN (R : Nat → Int32) (n : Nat) : Nat := fstP (fun q => decide (popF 11 q = n) && okS R q) (2 ^ nS R)
def fwM (R : Nat → Int32) : Nat := fstP (fun n => decide (fwN R n < 2 ^ nS R)) 11
def smlI (R : Nat → Int32) : Int32 := if allW R (frM R) (nW R) then (if fwM R < 11 then nI (fwN R (fwM R)) else -1) else -1
def nedN (R : Nat → Int32) (s : Nat) : Nat → Nat
  | 0 => 0
  | w + 1 => nedN R s w + (if pr R w (frM R) ≠ 100 ∧ pr R w (frM R &&& ((nI 1 <<< (nI s &&& 31)) ^^^ (-1))) = 100 then 1 else 0)
def apN (R : Nat → Int32) (m : Int32) : Nat → Nat
  | 0 => 0
  | w + 1 => apN R m w + pr R w m
def lppL (R : Nat → Int32) (m : Int32) : Nat → Nat
  | 0 => 0
  | w + 1 => lppL R m w + (if pr R w m = 100 then 0 else wL R w)
def lppP (R : Nat → Int32) (m : Int32) : Nat → Nat
  | 0 => 0
  | w + 1 => lppP R m w + (if pr R w m = 100 then 0 else pr R w m)
def lppD (R : Nat → Int32) : UInt64 := if lppP R (frM R) (nW R) = 0 then FP.dconst0 else FP.ddiv (FP.i2d (nI (lppL R (frM R) (nW R)))) (FP.i2d (nI (lppP R (frM R) (nW R))))
theorem lppL_le {R : Nat → Int32} (hR : ROk R) {m : Int32} : ∀ w, w ≤ nW R → lppL R m w ≤ 12 * w := by
  intro w
  induction w with
  | zero => intro _; exact Nat.le_refl _
  | succ w ih =>
    intro h
    have h1 := ih (by omega)
    have h2 := (hR.wl1 (w := w) (by omega)).2
    rw [lppL]
    split <;> omega
theorem lppP_le {R : Nat → Int32} (hR : ROk R) {m : Int32} : ∀ w, w ≤ nW R → lppP R m w ≤ 12 * w := by
  intro w
  induction w with
  | zero => intro _; exact Nat.le_refl _
  | succ w ih =>
    intro h
    have h1 := ih (by omega)
    have h2 := (hR.wl1 (w := w) (by omega)).2
    rw [lppP]
    split
    · omega
    · next e => have := pr_le hR e; omega
theorem sh_n : ∀ n, n < 32 → ((nI n &&& 31).toBitVec.smod 32).toNat = n := by decide +kernel
theorem shl1 {n : Nat} (h : n < 31) : nI 1 <<< (nI n &&& 31) = nI (2 ^ n) := by
  have e := pk_shlN (n := 1) (nI n &&& 31) n (sh_n n (by omega)) (by rw [Nat.one_mul]; exact Nat.pow_lt_pow_right (by decide) (by omega))
  rw [Nat.one_mul] at e
  exact e
theorem shr1 {n : Nat} (h : n < 2 ^ 31) : nI n >>> (nI 1 &&& 31) = nI (n / 2) := by
  have e := pk_shrN h (nI 1 &&& 31) 1 (by decide)
  rw [Nat.pow_one] at e
  exact e
theorem and1 {n : Nat} (h : n < 2 ^ 31) : nI n &&& nI 1 = nI (n % 2) := by
  have e := pk_andN (n := n) (by omega) (m := nI 1) 1 (by decide)
  rw [Nat.pow_one] at e
  exact e
theorem popF_le : ∀ f n, popF f n ≤ f := by
  intro f
  induction f with
  | zero => intro n; exact Nat.le_refl _
  | succ f ih => intro n; rw [popF]; have := ih (n / 2); omega
theorem popF_0 : ∀ f, popF f 0 = 0 := by
  intro f
  induction f with
  | zero => rfl
  | succ f ih => rw [popF, Nat.zero_div, ih]
theorem allW_le {R : Nat → Int32} {m : Int32} {n j : Nat} (hj : j ≤ n) (h : allW R m j = false) : allW R m n = false := allB_le hj h
section
variable {l : Launch} {G : GG} {E : State → Prop} {a : Nat → Nat} {x4 x5 x7 x8 x11 x15 : Int32} {f1 f2 f3 f4 f5 f6 f7 f8 f9 f10 f11 : Nat → Int32} {h : Int64} {wr : va_W}
theorem c_X6_press_2 (hE : EnvOK G E) {wN : Nat} {y : Int32} (hR : ROk f1) (hw : wN < nW f1) (hB : idB y (pmN f1 wN (frM f1)) = false) : MU vI l G E yX6_press cX6_press 4 (some .int) 6 0 0 [.ref (a 0), .int (nI wN), .int y] (mw G a x4 x5 x7 x8 x11 x15 f1 f2 f3 f4 f5 f6 f7 f8 f9 f10 f11 h ++ wr) (fun r w => ∃ z11 g6 g7, r = nI 0 ∧ w = mw G a x4 (nI 1) x7 x8 z11 x15 f1 f2 f3 f4 f5 g6 g7 f8 f9 f10 f11 h ++ wr) := by
  refine MUi hE (by decide) (Nat.le_of_ble_eq_true rfl) (fun pR eV sT mI below meth cd QQ ls X hH hl ret => ?_)
  obtain ⟨⟨hx, hb, hml, hown, hts⟩, ⟨hr, hlk⟩, -, -, -⟩ := id X
  have hl : lv_has ls 4 [(0, .ref (a 0)), (1, .int (nI wN)), (2, .int y)] := hl
  refine wgen (H := sT.heap) (locs := []) hH (fun H locs hH => ?_)
  have hm7 := hR.w1
  refine lv_aload_n hx hb dX6_press_0 rfl (lv_at hl 0 rfl) ?_
  refine lv_iload_n hx hb dX6_press_1 rfl (lv_at hl 1 rfl) ?_
  refine m_R (c_X6_isWord hE hR) X hH.2 hH.mp (lw_V q1577 q1579 qs31 q72 q1580) hdv_X6_isWord ⟨Nat.le_of_ble_eq_true rfl, Nat.le_of_ble_eq_true rfl⟩ ⟨Nat.le_refl _, Nat.le_refl _⟩ rfl hl.1 rfl (Nat.le_of_ble_eq_true rfl) dX6_press_2 ?_
  refine n_top (y := nI 1) (by rw [idB_t hw (by omega)]; rfl) ?_
  refine lv_if_eq (tgt := 38) hx hb dX6_press_5 (by decide) (fun h => absurd h (by decide)) (fun _ => ?_)
  refine lv_aload_n hx hb dX6_press_8 rfl (lv_at hl 0 rfl) ?_
  refine lv_iload_n hx hb dX6_press_9 rfl (lv_at hl 1 rfl) ?_
  refine lv_aload_n hx hb dX6_press_10 rfl (lv_at hl 0 rfl) ?_
  have hpm := pmN_le hR (w := wN) (m := frM f1)
  have hL := hR.wl1 hw
  refine m_R (c_X6_fresh hE hR) X hH.2 hH.mp (lw_V q1633 q1635 qs39 q72 q1636) hdv_X6_fresh ⟨Nat.le_of_ble_eq_true rfl, Nat.le_of_ble_eq_true rfl⟩ ⟨Nat.le_refl _, Nat.le_refl _⟩ rfl hl.1 rfl (Nat.le_of_ble_eq_true rfl) dX6_press_11 ?_
  refine m_Mi (c_X6_plans (mk := frM f1) hE hR hw) X hH (lw_V q1684 q1686 qs48 q72 q1687) hdv_X6_plans ⟨Nat.le_of_ble_eq_true rfl, Nat.le_of_ble_eq_true rfl⟩ ⟨Nat.le_refl _, Nat.le_refl _⟩ rfl hl.1 rfl (Nat.le_of_ble_eq_true rfl) dX6_press_14 (fun r w H locs hq hH => ?_)
  obtain ⟨g6, g7, -, hg7, rfl, rfl⟩ := hq
  refine b_if_eq (tgt := 38) hx hb dX6_press_17 (by decide) (fun c1 => ?_) (fun c1 => ?_)
  · refine lv_iconst (v := nI 0) hx hb dX6_press_38 (by decide) ?_
    refine lv_istore_n (lv' := [(3, .int (nI 0)), (0, .ref (a 0)), (1, .int (nI wN)), (2, .int y)]) hx hb dX6_press_39 rfl hl (by decide) rfl (fun ls hl => ?_)
    refine lv_aload_n hx hb dX6_press_40 rfl (lv_at hl 1 rfl) ?_
    refine lv_iload_n hx hb dX6_press_41 rfl (lv_at hl 0 rfl) ?_
    refine lv_if_eq (tgt := 49) hx hb dX6_press_42 (by decide) (fun _ => ?_) (fun h => absurd rfl h)
    refine lv_iconst (v := nI 1) hx hb dX6_press_49 (by decide) ?_
    refine m_Mi (c_X6_refused (cN := 1) hE (by omega)) X hH (lw_V q1520 q1522 qs23 q72 q1523) hdv_X6_refused ⟨Nat.le_of_ble_eq_true rfl, Nat.le_of_ble_eq_true rfl⟩ ⟨Nat.le_refl _, Nat.le_refl _⟩ rfl hl.1 rfl (Nat.le_of_ble_eq_true rfl) dX6_press_50 (fun r w H locs hq hH => ?_)
    obtain ⟨rfl, rfl⟩ := hq
    refine n_top (y := bI true) (rfl) ?_
    refine n_top (y := nI 1) (rfl) ?_
    refine lv_if_eq (tgt := 60) hx hb dX6_press_53 (by decide) (fun h => absurd h (by decide)) (fun _ => ?_)
    refine lv_iconst (v := nI 0) hx hb dX6_press_56 (by decide) ?_
    refine lv_goto (tgt := 66) hx hb dX6_press_57 (by decide) ?_
    exact ret _ _ _ _ _ _ _ _ hH (⟨_, g6, g7, rfl, rfl⟩) (Nat.le_refl _) (Nat.le_refl _) dX6_press_66
  · have hp1 : 1 ≤ pmN f1 wN (frM f1) := by unfold pmN; rw [if_neg (of_decide_eq_true c1)]; exact lf_pos hR hL.1
    refine lv_iload_n hx hb dX6_press_20 rfl (lv_at hl 2 rfl) ?_
    refine lv_iconst (v := nI 0) hx hb dX6_press_21 (by decide) ?_
    refine lv_aload_n hx hb dX6_press_22 rfl (lv_at hl 0 rfl) ?_
    refine m_g11 X hH.mp dX6_press_23 ?_
    refine lv_iconst (v := nI 1) hx hb dX6_press_26 (by decide) ?_
    refine n_isub hx hb (by omega) dX6_press_27 ?_
    refine m_S (c_X6_in hE) X hH.2 (lw_S q1528 q1529 q72 q1530) hds_X6_in ⟨Nat.le_of_ble_eq_true rfl, Nat.le_of_ble_eq_true rfl⟩ ⟨Nat.le_refl _, Nat.le_refl _⟩ rfl hl.1 rfl (Nat.le_of_ble_eq_true rfl) dX6_press_28 ?_
    refine n_top (y := bI (idB y (pmN f1 wN (frM f1)))) (by unfold idB rgB; rw [pk_sub (by omega)]) ?_
    refine n_top (y := nI 0) (by rw [hB]; rfl) ?_
    refine lv_if_eq (tgt := 38) hx hb dX6_press_31 (by decide) (fun _ => ?_) (fun h => absurd rfl h)
    refine lv_iconst (v := nI 0) hx hb dX6_press_38 (by decide) ?_
    refine lv_istore_n (lv' := [(3, .int (nI 0)), (0, .ref (a 0)), (1, .int (nI wN)), (2, .int y)]) hx hb dX6_press_39 rfl hl (by decide) rfl (fun ls hl => ?_)
    refine lv_aload_n hx hb dX6_press_40 rfl (lv_at hl 1 rfl) ?_
    refine lv_iload_n hx hb dX6_press_41 rfl (lv_at hl 0 rfl) ?_
    refine lv_if_eq (tgt := 49) hx hb dX6_press_42 (by decide) (fun _ => ?_) (fun h => absurd rfl h)
    refine lv_iconst (v := nI 1) hx hb dX6_press_49 (by decide) ?_
    refine m_Mi (c_X6_refused (cN := 1) hE (by omega)) X hH (lw_V q1520 q1522 qs23 q72 q1523) hdv_X6_refused ⟨Nat.le_of_ble_eq_true rfl, Nat.le_of_ble_eq_true rfl⟩ ⟨Nat.le_refl _, Nat.le_refl _⟩ rfl hl.1 rfl (Nat.le_of_ble_eq_true rfl) dX6_press_50 (fun r w H locs hq hH => ?_)
    obtain ⟨rfl, rfl⟩ := hq
    refine n_top (y := bI true) (rfl) ?_
    refine n_top (y := nI 1) (rfl) ?_
    refine lv_if_eq (tgt := 60) hx hb dX6_press_53 (by decide) (fun h => absurd h (by decide)) (fun _ => ?_)
    refine lv_iconst (v := nI 0) hx hb dX6_press_56 (by decide) ?_
    refine lv_goto (tgt := 66) hx hb dX6_press_57 (by decide) ?_
    exact ret _ _ _ _ _ _ _ _ hH (⟨_, g6, g7, rfl, rfl⟩) (Nat.le_refl _) (Nat.le_refl _) dX6_press_66
theorem c_X6_press_0 (hE : EnvOK G E) {wN kN : Nat} (hR : ROk f1) (hw : wN < nW f1) (hk : kN < pmN f1 wN (frM f1)) : MU vI l G E yX6_press cX6_press 4 (some .int) 6 0 0 [.ref (a 0), .int (nI wN), .int (nI kN)] (mw G a x4 x5 x7 x8 x11 x15 f1 f2 f3 f4 f5 f6 f7 f8 f9 f10 f11 h ++ wr) (fun r w => ∃ z11 g6 g7, r = nI (plP f1 wN (frM f1) kN) ∧ w = mw G a x4 (nI 0) x7 x8 z11 x15 f1 f2 f3 f4 f5 g6 g7 f8 f9 f10 f11 h ++ wr) := by
  refine MUi hE (by decide) (Nat.le_of_ble_eq_true rfl) (fun pR eV sT mI below meth cd QQ ls X hH hl ret => ?_)
  obtain ⟨⟨hx, hb, hml, hown, hts⟩, ⟨hr, hlk⟩, -, -, -⟩ := id X
  have hl : lv_has ls 4 [(0, .ref (a 0)), (1, .int (nI wN)), (2, .int (nI kN))] := hl
  refine wgen (H := sT.heap) (locs := []) hH (fun H locs hH => ?_)
  have hm7 := hR.w1
  refine lv_aload_n hx hb dX6_press_0 rfl (lv_at hl 0 rfl) ?_
  refine lv_iload_n hx hb dX6_press_1 rfl (lv_at hl 1 rfl) ?_
  refine m_R (c_X6_isWord hE hR) X hH.2 hH.mp (lw_V q1577 q1579 qs31 q72 q1580) hdv_X6_isWord ⟨Nat.le_of_ble_eq_true rfl, Nat.le_of_ble_eq_true rfl⟩ ⟨Nat.le_refl _, Nat.le_refl _⟩ rfl hl.1 rfl (Nat.le_of_ble_eq_true rfl) dX6_press_2 ?_
  refine n_top (y := nI 1) (by rw [idB_t hw (by omega)]; rfl) ?_
  refine lv_if_eq (tgt := 38) hx hb dX6_press_5 (by decide) (fun h => absurd h (by decide)) (fun _ => ?_)
  refine lv_aload_n hx hb dX6_press_8 rfl (lv_at hl 0 rfl) ?_
  refine lv_iload_n hx hb dX6_press_9 rfl (lv_at hl 1 rfl) ?_
  refine lv_aload_n hx hb dX6_press_10 rfl (lv_at hl 0 rfl) ?_
  have hpm := pmN_le hR (w := wN) (m := frM f1)
  have hL := hR.wl1 hw
  refine m_R (c_X6_fresh hE hR) X hH.2 hH.mp (lw_V q1633 q1635 qs39 q72 q1636) hdv_X6_fresh ⟨Nat.le_of_ble_eq_true rfl, Nat.le_of_ble_eq_true rfl⟩ ⟨Nat.le_refl _, Nat.le_refl _⟩ rfl hl.1 rfl (Nat.le_of_ble_eq_true rfl) dX6_press_11 ?_
  refine m_Mi (c_X6_plans (mk := frM f1) hE hR hw) X hH (lw_V q1684 q1686 qs48 q72 q1687) hdv_X6_plans ⟨Nat.le_of_ble_eq_true rfl, Nat.le_of_ble_eq_true rfl⟩ ⟨Nat.le_refl _, Nat.le_refl _⟩ rfl hl.1 rfl (Nat.le_of_ble_eq_true rfl) dX6_press_14 (fun r w H locs hq hH => ?_)
  obtain ⟨g6, g7, -, hg7, rfl, rfl⟩ := hq
  refine b_if_eq (tgt := 38) hx hb dX6_press_17 (by decide) (fun c1 => ?_) (fun c1 => ?_)
  · exact absurd hk (by unfold pmN; rw [if_pos (by simpa using c1)]; exact Nat.not_lt_zero _)
  · have hp1 : 1 ≤ pmN f1 wN (frM f1) := by unfold pmN; rw [if_neg (of_decide_eq_true c1)]; exact lf_pos hR hL.1
    refine lv_iload_n hx hb dX6_press_20 rfl (lv_at hl 2 rfl) ?_
    refine lv_iconst (v := nI 0) hx hb dX6_press_21 (by decide) ?_
    refine lv_aload_n hx hb dX6_press_22 rfl (lv_at hl 0 rfl) ?_
    refine m_g11 X hH.mp dX6_press_23 ?_
    refine lv_iconst (v := nI 1) hx hb dX6_press_26 (by decide) ?_
    refine n_isub hx hb (by omega) dX6_press_27 ?_
    refine m_S (c_X6_in hE) X hH.2 (lw_S q1528 q1529 q72 q1530) hds_X6_in ⟨Nat.le_of_ble_eq_true rfl, Nat.le_of_ble_eq_true rfl⟩ ⟨Nat.le_refl _, Nat.le_refl _⟩ rfl hl.1 rfl (Nat.le_of_ble_eq_true rfl) dX6_press_28 ?_
    refine n_top (y := bI (idB (nI kN) (pmN f1 wN (frM f1)))) (by unfold idB rgB; rw [pk_sub (by omega)]) ?_
    refine n_top (y := nI 1) (by rw [idB_t hk (by omega)]; rfl) ?_
    refine lv_if_eq (tgt := 38) hx hb dX6_press_31 (by decide) (fun h => absurd h (by decide)) (fun _ => ?_)
    refine lv_iconst (v := nI 1) hx hb dX6_press_34 (by decide) ?_
    refine lv_goto (tgt := 39) hx hb dX6_press_35 (by decide) ?_
    refine lv_istore_n (lv' := [(3, .int (nI 1)), (0, .ref (a 0)), (1, .int (nI wN)), (2, .int (nI kN))]) hx hb dX6_press_39 rfl hl (by decide) rfl (fun ls hl => ?_)
    refine lv_aload_n hx hb dX6_press_40 rfl (lv_at hl 1 rfl) ?_
    refine lv_iload_n hx hb dX6_press_41 rfl (lv_at hl 0 rfl) ?_
    refine lv_if_eq (tgt := 49) hx hb dX6_press_42 (by decide) (fun h => absurd h (by decide)) (fun _ => ?_)
    refine lv_iconst (v := nI 0) hx hb dX6_press_45 (by decide) ?_
    refine lv_goto (tgt := 50) hx hb dX6_press_46 (by decide) ?_
    refine m_Mi (c_X6_refused (cN := 0) hE (by omega)) X hH (lw_V q1520 q1522 qs23 q72 q1523) hdv_X6_refused ⟨Nat.le_of_ble_eq_true rfl, Nat.le_of_ble_eq_true rfl⟩ ⟨Nat.le_refl _, Nat.le_refl _⟩ rfl hl.1 rfl (Nat.le_of_ble_eq_true rfl) dX6_press_50 (fun r w H locs hq hH => ?_)
    obtain ⟨rfl, rfl⟩ := hq
    refine n_top (y := bI false) (rfl) ?_
    refine n_top (y := nI 0) (rfl) ?_
    refine lv_if_eq (tgt := 60) hx hb dX6_press_53 (by decide) (fun _ => ?_) (fun h => absurd rfl h)
    refine lv_aload_n hx hb dX6_press_60 rfl (lv_at hl 1 rfl) ?_
    refine m_g10 X hH.mp dX6_press_61 ?_
    refine lv_iload_n hx hb dX6_press_64 rfl (lv_at hl 3 rfl) ?_
    refine m_ld7 X hH.mp (by omega) dX6_press_65 ?_
    refine n_top (y := nI (plP f1 wN (frM f1) kN)) (hg7 kN hk) ?_
    exact ret _ _ _ _ _ _ _ _ hH (⟨_, g6, g7, rfl, rfl⟩) (Nat.le_refl _) (Nat.le_refl _) dX6_press_66
theorem hdv_X6_write : yX6_write.cls = RX6 ∧ yX6_write.cls ≠ "java/lang/invoke/MethodHandle" ∧ yX6_write.cls ≠ "java/lang/invoke/VarHandle" ∧ (parseMethodDescriptor yX6_write.desc).map (fun d => d.parameters.length) = some 1 := by decide +kernel
theorem c_X6_write_1 (hE : EnvOK G E) {x : Int32} (hR : ROk f1) (hB : idB x (nW f1) = false) : MU vI l G E yX6_write cX6_write 2 (some .int) 7 0 0 [.ref (a 0), .int x] (mw G a x4 x5 x7 x8 x11 x15 f1 f2 f3 f4 f5 f6 f7 f8 f9 f10 f11 h ++ wr) (fun r w => r = nI 0 ∧ w = mw G a x4 (nI 1) x7 x8 x11 x15 f1 f2 f3 f4 f5 f6 f7 f8 f9 f10 f11 h ++ wr) := by
  refine MUi hE (by decide) (Nat.le_of_ble_eq_true rfl) (fun pR eV sT mI below meth cd QQ ls X hH hl ret => ?_)
  obtain ⟨⟨hx, hb, hml, hown, hts⟩, ⟨hr, hlk⟩, -, -, -⟩ := id X
  have hl : lv_has ls 2 [(0, .ref (a 0)), (1, .int x)] := hl
  refine wgen (H := sT.heap) (locs := []) hH (fun H locs hH => ?_)
  have hm7 := hR.w1
  refine lv_aload_n hx hb dX6_write_0 rfl (lv_at hl 0 rfl) ?_
  refine lv_aload_n hx hb dX6_write_1 rfl (lv_at hl 0 rfl) ?_
  refine lv_iload_n hx hb dX6_write_2 rfl (lv_at hl 1 rfl) ?_
  refine m_R (c_X6_isWord hE hR) X hH.2 hH.mp (lw_V q1577 q1579 qs31 q72 q1580) hdv_X6_isWord ⟨Nat.le_of_ble_eq_true rfl, Nat.le_of_ble_eq_true rfl⟩ ⟨Nat.le_refl _, Nat.le_refl _⟩ rfl hl.1 rfl (Nat.le_of_ble_eq_true rfl) dX6_write_3 ?_
  refine n_top (y := nI 0) (by rw [hB]; rfl) ?_
  refine lv_if_ne (tgt := 13) hx hb dX6_write_6 (by decide) (fun h => absurd rfl h) (fun _ => ?_)
  refine lv_iconst (v := nI 1) hx hb dX6_write_9 (by decide) ?_
  refine lv_goto (tgt := 26) hx hb dX6_write_10 (by decide) ?_
  refine m_Mi (c_X6_refused (cN := 1) hE (by omega)) X hH (lw_V q1520 q1522 qs23 q72 q1523) hdv_X6_refused ⟨Nat.le_of_ble_eq_true rfl, Nat.le_of_ble_eq_true rfl⟩ ⟨Nat.le_refl _, Nat.le_refl _⟩ rfl hl.1 rfl (Nat.le_of_ble_eq_true rfl) dX6_write_26 (fun r w H locs hq hH => ?_)
  obtain ⟨rfl, rfl⟩ := hq
  refine n_top (y := bI true) (rfl) ?_
  refine n_top (y := nI 1) (rfl) ?_
  refine lv_if_eq (tgt := 34) hx hb dX6_write_29 (by decide) (fun h => absurd h (by decide)) (fun _ => ?_)
  refine lv_iconst (v := nI 0) hx hb dX6_write_32 (by decide) ?_
  exact ret _ _ _ _ _ _ _ _ hH (⟨rfl, rfl⟩) (Nat.le_refl _) (Nat.le_refl _) dX6_write_33
theorem c_X6_write_2 (hE : EnvOK G E) {wN : Nat} (hR : ROk f1) (hw : wN < nW f1) (hB : wrB f1 wN (frM f1) = false) : MU vI l G E yX6_write cX6_write 2 (some .int) 7 0 0 [.ref (a 0), .int (nI wN)] (mw G a x4 x5 x7 x8 x11 x15 f1 f2 f3 f4 f5 f6 f7 f8 f9 f10 f11 h ++ wr) (fun r w => ∃ z11 g6 g7, r = nI 0 ∧ w = mw G a x4 (nI 2) x7 x8 z11 x15 f1 f2 f3 f4 f5 g6 g7 f8 f9 f10 f11 h ++ wr) := by
  refine MUi hE (by decide) (Nat.le_of_ble_eq_true rfl) (fun pR eV sT mI below meth cd QQ ls X hH hl ret => ?_)
  obtain ⟨⟨hx, hb, hml, hown, hts⟩, ⟨hr, hlk⟩, -, -, -⟩ := id X
  have hl : lv_has ls 2 [(0, .ref (a 0)), (1, .int (nI wN))] := hl
  refine wgen (H := sT.heap) (locs := []) hH (fun H locs hH => ?_)
  have hm7 := hR.w1
  refine lv_aload_n hx hb dX6_write_0 rfl (lv_at hl 0 rfl) ?_
  refine lv_aload_n hx hb dX6_write_1 rfl (lv_at hl 0 rfl) ?_
  refine lv_iload_n hx hb dX6_write_2 rfl (lv_at hl 1 rfl) ?_
  refine m_R (c_X6_isWord hE hR) X hH.2 hH.mp (lw_V q1577 q1579 qs31 q72 q1580) hdv_X6_isWord ⟨Nat.le_of_ble_eq_true rfl, Nat.le_of_ble_eq_true rfl⟩ ⟨Nat.le_refl _, Nat.le_refl _⟩ rfl hl.1 rfl (Nat.le_of_ble_eq_true rfl) dX6_write_3 ?_
  refine n_top (y := nI 1) (by rw [idB_t hw (by omega)]; rfl) ?_
  refine lv_if_ne (tgt := 13) hx hb dX6_write_6 (by decide) (fun _ => ?_) (fun h => absurd h (by decide))
  refine lv_aload_n hx hb dX6_write_13 rfl (lv_at hl 0 rfl) ?_
  refine lv_iload_n hx hb dX6_write_14 rfl (lv_at hl 1 rfl) ?_
  refine m_Mi (c_X6_canWrite hE hR hw) X hH (lw_V q1680 q1682 qs47 q72 q1683) hdv_X6_canWrite ⟨Nat.le_of_ble_eq_true rfl, Nat.le_of_ble_eq_true rfl⟩ ⟨Nat.le_refl _, Nat.le_refl _⟩ rfl hl.1 rfl (Nat.le_of_ble_eq_true rfl) dX6_write_15 (fun r w H locs hq hH => ?_)
  obtain ⟨g6, g7, -, hg7, rfl, rfl⟩ := hq
  refine n_top (y := nI 0) (by rw [hB]; rfl) ?_
  refine lv_if_eq (tgt := 25) hx hb dX6_write_18 (by decide) (fun _ => ?_) (fun h => absurd rfl h)
  refine lv_iconst (v := nI 2) hx hb dX6_write_25 (by decide) ?_
  refine m_Mi (c_X6_refused (cN := 2) hE (by omega)) X hH (lw_V q1520 q1522 qs23 q72 q1523) hdv_X6_refused ⟨Nat.le_of_ble_eq_true rfl, Nat.le_of_ble_eq_true rfl⟩ ⟨Nat.le_refl _, Nat.le_refl _⟩ rfl hl.1 rfl (Nat.le_of_ble_eq_true rfl) dX6_write_26 (fun r w H locs hq hH => ?_)
  obtain ⟨rfl, rfl⟩ := hq
  refine n_top (y := bI true) (rfl) ?_
  refine n_top (y := nI 1) (rfl) ?_
  refine lv_if_eq (tgt := 34) hx hb dX6_write_29 (by decide) (fun h => absurd h (by decide)) (fun _ => ?_)
  refine lv_iconst (v := nI 0) hx hb dX6_write_32 (by decide) ?_
  exact ret _ _ _ _ _ _ _ _ hH (⟨_, g6, g7, rfl, rfl⟩) (Nat.le_refl _) (Nat.le_refl _) dX6_write_33
theorem c_X6_write_0 (hE : EnvOK G E) {nN : Nat} {SV : Nat → Nat → Int32} (hn : nN ≤ 4) (hS : ∀ i, i < nN → ∀ k, k < 195 → f2 (195 * i + k) = SV i k) {wN : Nat} (hR : ROk f1) (hw : wN < nW f1) (hB : wrB f1 wN (frM f1) = true) : MU vI l G E yX6_write cX6_write 2 (some .int) 7 0 0 [.ref (a 0), .int (nI wN)] (mw G a (nI nN) x5 x7 x8 x11 x15 f1 f2 f3 f4 f5 f6 f7 f8 f9 f10 f11 h ++ wr) (fun r w => ∃ g g6 g7, (∀ i, i < svN nN → ∀ k, k < 195 → g (195 * i + k) = svF nN SV f1 i k) ∧ r = nI (pmN f1 wN (frM f1)) ∧ w = mw G a (nI (svN nN)) (nI 0) x7 x8 (nI (pmN f1 wN (frM f1))) x15 (wroR f1 wN) g f3 f4 f5 g6 g7 f8 f9 f10 f11 h ++ wr) := by
  refine MUi hE (by decide) (Nat.le_of_ble_eq_true rfl) (fun pR eV sT mI below meth cd QQ ls X hH hl ret => ?_)
  obtain ⟨⟨hx, hb, hml, hown, hts⟩, ⟨hr, hlk⟩, -, -, -⟩ := id X
  have hl : lv_has ls 2 [(0, .ref (a 0)), (1, .int (nI wN))] := hl
  refine wgen (H := sT.heap) (locs := []) hH (fun H locs hH => ?_)
  have hm7 := hR.w1
  refine lv_aload_n hx hb dX6_write_0 rfl (lv_at hl 0 rfl) ?_
  refine lv_aload_n hx hb dX6_write_1 rfl (lv_at hl 0 rfl) ?_
  refine lv_iload_n hx hb dX6_write_2 rfl (lv_at hl 1 rfl) ?_
  refine m_R (c_X6_isWord hE hR) X hH.2 hH.mp (lw_V q1577 q1579 qs31 q72 q1580) hdv_X6_isWord ⟨Nat.le_of_ble_eq_true rfl, Nat.le_of_ble_eq_true rfl⟩ ⟨Nat.le_refl _, Nat.le_refl _⟩ rfl hl.1 rfl (Nat.le_of_ble_eq_true rfl) dX6_write_3 ?_
  refine n_top (y := nI 1) (by rw [idB_t hw (by omega)]; rfl) ?_
  refine lv_if_ne (tgt := 13) hx hb dX6_write_6 (by decide) (fun _ => ?_) (fun h => absurd h (by decide))
  refine lv_aload_n hx hb dX6_write_13 rfl (lv_at hl 0 rfl) ?_
  refine lv_iload_n hx hb dX6_write_14 rfl (lv_at hl 1 rfl) ?_
  refine m_Mi (c_X6_canWrite hE hR hw) X hH (lw_V q1680 q1682 qs47 q72 q1683) hdv_X6_canWrite ⟨Nat.le_of_ble_eq_true rfl, Nat.le_of_ble_eq_true rfl⟩ ⟨Nat.le_refl _, Nat.le_refl _⟩ rfl hl.1 rfl (Nat.le_of_ble_eq_true rfl) dX6_write_15 (fun r w H locs hq hH => ?_)
  obtain ⟨g6, g7, -, hg7, rfl, rfl⟩ := hq
  refine n_top (y := nI 1) (by rw [hB]; rfl) ?_
  refine lv_if_eq (tgt := 25) hx hb dX6_write_18 (by decide) (fun h => absurd h (by decide)) (fun _ => ?_)
  refine lv_iconst (v := nI 0) hx hb dX6_write_21 (by decide) ?_
  refine lv_goto (tgt := 26) hx hb dX6_write_22 (by decide) ?_
  refine m_Mi (c_X6_refused (cN := 0) hE (by omega)) X hH (lw_V q1520 q1522 qs23 q72 q1523) hdv_X6_refused ⟨Nat.le_of_ble_eq_true rfl, Nat.le_of_ble_eq_true rfl⟩ ⟨Nat.le_refl _, Nat.le_refl _⟩ rfl hl.1 rfl (Nat.le_of_ble_eq_true rfl) dX6_write_26 (fun r w H locs hq hH => ?_)
  obtain ⟨rfl, rfl⟩ := hq
  refine n_top (y := bI false) (rfl) ?_
  refine n_top (y := nI 0) (rfl) ?_
  refine lv_if_eq (tgt := 34) hx hb dX6_write_29 (by decide) (fun _ => ?_) (fun h => absurd rfl h)
  refine lv_aload_n hx hb dX6_write_34 rfl (lv_at hl 0 rfl) ?_
  refine m_Mv (c_X6_saves (SV := SV) hE hn hS) X hH (lw_V q1569 q1571 qs30 q72 q1572) hdv_X6_saves ⟨Nat.le_of_ble_eq_true rfl, Nat.le_of_ble_eq_true rfl⟩ ⟨Nat.le_refl _, Nat.le_refl _⟩ rfl hl.1 rfl (Nat.le_of_ble_eq_true rfl) dX6_write_35 (fun w H locs hq hH => ?_)
  obtain ⟨g2, hg2, rfl⟩ := hq
  refine lv_aload_n hx hb dX6_write_38 rfl (lv_at hl 0 rfl) ?_
  refine lv_aload_n hx hb dX6_write_39 rfl (lv_at hl 0 rfl) ?_
  refine m_g0 X hH.mp dX6_write_40 ?_
  refine lv_iload_n hx hb dX6_write_43 rfl (lv_at hl 1 rfl) ?_
  refine m_S (c_X6_wordAt hE) X hH.2 (lw_S q1562 q1563 q72 q1564) hds_X6_wordAt ⟨Nat.le_of_ble_eq_true rfl, Nat.le_of_ble_eq_true rfl⟩ ⟨Nat.le_refl _, Nat.le_refl _⟩ rfl hl.1 rfl (Nat.le_of_ble_eq_true rfl) dX6_write_44 ?_
  refine lv_iconst (v := nI 1) hx hb dX6_write_47 (by decide) ?_
  refine n_iadd hx hb dX6_write_48 ?_
  refine m_ld1 X hH.mp (by omega) dX6_write_49 ?_
  refine m_Mv (c_X6_carries (pl := plP f1 wN (frM f1)) hE (Nat.le_trans (pmN_le hR) (hR.wl1 hw).2) (fun i hi => ⟨hg7 i hi, by have h1 := plP_lt hR hi; have h2 := hR.s1; omega⟩)) X hH (lw_V q1692 q1694 qs50 q72 q1695) hdv_X6_carries ⟨Nat.le_of_ble_eq_true rfl, Nat.le_of_ble_eq_true rfl⟩ ⟨Nat.le_refl _, Nat.le_refl _⟩ rfl hl.1 rfl (Nat.le_of_ble_eq_true rfl) dX6_write_50 (fun w H locs hq hH => ?_)
  obtain rfl := hq
  refine lv_aload_n hx hb dX6_write_53 rfl (lv_at hl 0 rfl) ?_
  refine m_g11 X hH.mp dX6_write_54 ?_
  exact ret _ _ _ _ _ _ _ _ hH (⟨g2, g6, g7, hg2, rfl, rfl⟩) (Nat.le_refl _) (Nat.le_refl _) dX6_write_57
theorem hdv_X6_writeAll : yX6_writeAll.cls = RX6 ∧ yX6_writeAll.cls ≠ "java/lang/invoke/MethodHandle" ∧ yX6_writeAll.cls ≠ "java/lang/invoke/VarHandle" ∧ (parseMethodDescriptor yX6_writeAll.desc).map (fun d => d.parameters.length) = some 0 := by decide +kernel
theorem c_X6_writeAll (hE : EnvOK G E) {nN : Nat} {SV : Nat → Nat → Int32} (hn : nN ≤ 4) (hS : ∀ i, i < nN → ∀ k, k < 195 → f2 (195 * i + k) = SV i k) (hR : ROk f1) : MU vI l G E yX6_writeAll cX6_writeAll 3 (some .int) 7 0 0 [.ref (a 0)] (mw G a (nI nN) x5 x7 x8 x11 x15 f1 f2 f3 f4 f5 f6 f7 f8 f9 f10 f11 h ++ wr) (fun r w => ∃ z11 g g6 g7, (∀ i, i < svN nN → ∀ k, k < 195 → g (195 * i + k) = svF nN SV f1 i k) ∧ r = nI (waN f1 (nW f1)) ∧ w = mw G a (nI (svN nN)) (nI 0) x7 x8 z11 x15 (waR f1 (nW f1)) g f3 f4 f5 g6 g7 f8 f9 f10 f11 h ++ wr) := by
  refine MUi hE (by decide) (Nat.le_of_ble_eq_true rfl) (fun pR eV sT mI below meth cd QQ ls X hH hl ret => ?_)
  obtain ⟨⟨hx, hb, hml, hown, hts⟩, ⟨hr, hlk⟩, -, -, -⟩ := id X
  have hl : lv_has ls 3 [(0, .ref (a 0))] := hl
  refine wgen (H := sT.heap) (locs := []) hH (fun H locs hH => ?_)
  have hm7 := hR.w1
  refine lv_aload_n hx hb dX6_writeAll_0 rfl (lv_at hl 0 rfl) ?_
  refine lv_iconst (v := nI 0) hx hb dX6_writeAll_1 (by decide) ?_
  refine m_p5 X hH dX6_writeAll_2 (fun H locs hH => ?_)
  refine lv_aload_n hx hb dX6_writeAll_5 rfl (lv_at hl 0 rfl) ?_
  refine m_Mv (c_X6_saves (SV := SV) hE hn hS) X hH (lw_V q1569 q1571 qs30 q72 q1572) hdv_X6_saves ⟨Nat.le_of_ble_eq_true rfl, Nat.le_of_ble_eq_true rfl⟩ ⟨Nat.le_refl _, Nat.le_refl _⟩ rfl hl.1 rfl (Nat.le_of_ble_eq_true rfl) dX6_writeAll_6 (fun w H locs hq hH => ?_)
  obtain ⟨g2, hg2, rfl⟩ := hq
  refine lv_iconst (v := nI 0) hx hb dX6_writeAll_9 (by decide) ?_
  refine lv_istore_n (lv' := [(1, .int (nI 0)), (0, .ref (a 0))]) hx hb dX6_writeAll_10 rfl hl (by decide) rfl (fun ls hl => ?_)
  refine lv_iconst (v := nI 0) hx hb dX6_writeAll_11 (by decide) ?_
  refine lv_istore_n (lv' := [(2, .int (nI 0)), (1, .int (nI 0)), (0, .ref (a 0))]) hx hb dX6_writeAll_12 rfl hl (by decide) rfl (fun ls hl => ?_)
  have hl : lv_has ls 3 [(2, .int (nI 0)), (1, .int (nI (waN f1 0))), (0, .ref (a 0))] := by rw [← (show (nI 0 : Int32) = nI (waN f1 0) from rfl)]; exact hl
  have lp : ∀ (fu : Nat) (wN : Nat) (x11v : Int32) (f6v : Nat → Int32) (f7v : Nat → Int32), (wN ≤ nW f1) → nW f1 - wN < fu → ∀ (H : Heap) (locs : List Loc), HH G sT (mw G a (nI (svN nN)) (nI 0) x7 x8 x11v x15 (waR f1 wN) g2 f3 f4 f5 f6v f7v f8 f9 f10 f11 h ++ wr) H locs → ∀ ls : Array Slot, lv_has ls 3 [(0, .ref (a 0)), (1, .int (nI (waN f1 wN))), (2, .int (nI wN))] → W pR l eV (Rm 7 0 0) sT mI ([.ref (a 0)] : List Value).toArray below meth cd H locs 0 0 QQ (F0 mI 13 ls []) := by
    intro fu
    induction fu with
    | zero => intro wN x11v f6v f7v hk hm; exact absurd hm (Nat.not_lt_zero _)
    | succ fu ih_lp =>
      intro wN x11v f6v f7v hk hm H locs hH ls hl
      have hRw := waR_ok hR wN
      have hnw := waR_nW hR wN
      refine lv_iload_n hx hb dX6_writeAll_13 rfl (lv_at hl 2 rfl) ?_
      refine lv_aload_n hx hb dX6_writeAll_14 rfl (lv_at hl 0 rfl) ?_
      refine m_g0 X hH.mp dX6_writeAll_15 ?_
      refine lv_iconst (v := nI 1) hx hb dX6_writeAll_18 (by decide) ?_
      refine m_ld1 X hH.mp (by omega) dX6_writeAll_19 ?_
      refine n_top (y := nI (nW f1)) (by rw [hRw.w0, hnw]) ?_
      refine n_icmp_ge (tgt := 55) hx hb (by omega) (by omega) dX6_writeAll_20 (by decide) (fun c1 => ?_) (fun c1 => ?_)
      · refine lv_iload_n hx hb dX6_writeAll_55 rfl (lv_at hl 1 rfl) ?_
        rw [show waR f1 wN = waR f1 (nW f1) by rw [show wN = nW f1 by omega]] at hH
        exact ret _ _ _ _ _ _ _ _ hH (⟨x11v, g2, f6v, f7v, hg2, by rw [show nW f1 = wN by omega], rfl⟩) (Nat.le_refl _) (Nat.le_refl _) dX6_writeAll_56
      · have hww : wN < nW (waR f1 wN) := by omega
        refine lv_aload_n hx hb dX6_writeAll_23 rfl (lv_at hl 0 rfl) ?_
        refine lv_iload_n hx hb dX6_writeAll_24 rfl (lv_at hl 2 rfl) ?_
        refine m_Mi (c_X6_canWrite hE hRw hww) X hH (lw_V q1680 q1682 qs47 q72 q1683) hdv_X6_canWrite ⟨Nat.le_of_ble_eq_true rfl, Nat.le_of_ble_eq_true rfl⟩ ⟨Nat.le_refl _, Nat.le_refl _⟩ rfl hl.1 rfl (Nat.le_of_ble_eq_true rfl) dX6_writeAll_25 (fun r w H locs hq hH => ?_)
        obtain ⟨g6, g7, -, hg7, rfl, rfl⟩ := hq
        refine b_if_eq (tgt := 49) hx hb dX6_writeAll_28 (by decide) (fun c2 => ?_) (fun c2 => ?_)
        · refine lv_iinc (v := nI (wN + 1)) (lv' := [(2, .int (nI (wN + 1))), (0, .ref (a 0)), (1, .int (nI (waN f1 wN)))]) hx hb dX6_writeAll_49 hl (k := 2) rfl (nI_add _ 1) (by decide) rfl (fun ls hl => ?_)
          refine lv_goto (tgt := 13) hx hb dX6_writeAll_52 (by decide) ?_
          rw [show waR f1 wN = waR f1 (wN + 1) from by rw [waR, c2]; rfl] at hH
          have hl : lv_has ls 3 [(2, .int (nI (wN + 1))), (0, .ref (a 0)), (1, .int (nI (waN f1 (wN + 1))))] := by rw [← (show (nI (waN f1 wN) : Int32) = nI (waN f1 (wN + 1)) from by rw [waN, c2]; rfl)]; exact hl
          exact ih_lp (wN + 1) (nI (pmN (waR f1 (wN + 1)) wN (frM (waR f1 (wN + 1))))) g6 g7 (by omega) (by omega) _ _ hH ls (lv_sub hl [1, 2, 0] rfl)
        · refine lv_aload_n hx hb dX6_writeAll_31 rfl (lv_at hl 0 rfl) ?_
          refine lv_aload_n hx hb dX6_writeAll_32 rfl (lv_at hl 0 rfl) ?_
          refine m_g0 X hH.mp dX6_writeAll_33 ?_
          refine lv_iload_n hx hb dX6_writeAll_36 rfl (lv_at hl 2 rfl) ?_
          refine m_S (c_X6_wordAt hE) X hH.2 (lw_S q1562 q1563 q72 q1564) hds_X6_wordAt ⟨Nat.le_of_ble_eq_true rfl, Nat.le_of_ble_eq_true rfl⟩ ⟨Nat.le_refl _, Nat.le_refl _⟩ rfl hl.1 rfl (Nat.le_of_ble_eq_true rfl) dX6_writeAll_37 ?_
          refine lv_iconst (v := nI 1) hx hb dX6_writeAll_40 (by decide) ?_
          refine n_iadd hx hb dX6_writeAll_41 ?_
          refine m_ld1 X hH.mp (by omega) dX6_writeAll_42 ?_
          refine m_Mv (c_X6_carries (pl := plP (waR f1 wN) wN (frM (waR f1 wN))) hE (Nat.le_trans (pmN_le hRw) (hRw.wl1 hww).2) (fun i hi => ⟨hg7 i hi, by have h1 := plP_lt hRw hi; have h2 := hRw.s1; omega⟩)) X hH (lw_V q1692 q1694 qs50 q72 q1695) hdv_X6_carries ⟨Nat.le_of_ble_eq_true rfl, Nat.le_of_ble_eq_true rfl⟩ ⟨Nat.le_refl _, Nat.le_refl _⟩ rfl hl.1 rfl (Nat.le_of_ble_eq_true rfl) dX6_writeAll_43 (fun w H locs hq hH => ?_)
          obtain rfl := hq
          refine lv_iinc (v := nI (waN f1 wN + 1)) (lv' := [(1, .int (nI (waN f1 wN + 1))), (0, .ref (a 0)), (2, .int (nI wN))]) hx hb dX6_writeAll_46 hl (k := 1) rfl (nI_add _ 1) (by decide) rfl (fun ls hl => ?_)
          refine lv_iinc (v := nI (wN + 1)) (lv' := [(2, .int (nI (wN + 1))), (1, .int (nI (waN f1 wN + 1))), (0, .ref (a 0))]) hx hb dX6_writeAll_49 hl (k := 2) rfl (nI_add _ 1) (by decide) rfl (fun ls hl => ?_)
          refine lv_goto (tgt := 13) hx hb dX6_writeAll_52 (by decide) ?_
          rw [show carR (waR f1 wN) (plP (waR f1 wN) wN (frM (waR f1 wN))) (waR f1 wN (97 + 14 * wN + 1)) (pmN (waR f1 wN) wN (frM (waR f1 wN))) = waR f1 (wN + 1) from by rw [waR, c2]; rfl] at hH
          have hl : lv_has ls 3 [(2, .int (nI (wN + 1))), (1, .int (nI (waN f1 (wN + 1)))), (0, .ref (a 0))] := by rw [← (show (nI (waN f1 wN + 1) : Int32) = nI (waN f1 (wN + 1)) from by rw [waN, c2]; rfl)]; exact hl
          exact ih_lp (wN + 1) (nI (pmN (waR f1 wN) wN (frM (waR f1 wN)))) g6 g7 (by omega) (by omega) _ _ hH ls (lv_sub hl [2, 1, 0] rfl)
  exact lp _ 0 x11 f6 f7 (Nat.zero_le _) (Nat.lt_succ_self _) _ _ hH ls (lv_sub hl [2, 1, 0] rfl)
theorem hdv_X6_allWith : yX6_allWith.cls = RX6 ∧ yX6_allWith.cls ≠ "java/lang/invoke/MethodHandle" ∧ yX6_allWith.cls ≠ "java/lang/invoke/VarHandle" ∧ (parseMethodDescriptor yX6_allWith.desc).map (fun d => d.parameters.length) = some 1 := by decide +kernel
theorem c_X6_allWith (hE : EnvOK G E) {mk : Int32} (hR : ROk f1) : MU vI l G E yX6_allWith cX6_allWith 4 (some .boolean) 5 0 0 [.ref (a 0), .int mk] (mw G a x4 x5 x7 x8 x11 x15 f1 f2 f3 f4 f5 f6 f7 f8 f9 f10 f11 h ++ wr) (fun r w => ∃ g6, r = bI (allW f1 mk (nW f1)) ∧ w = mw G a x4 x5 x7 x8 x11 x15 f1 f2 f3 f4 f5 g6 f7 f8 f9 f10 f11 h ++ wr) := by
  refine MUz hE (by decide) (Nat.le_of_ble_eq_true rfl) (fun pR eV sT mI below meth cd QQ ls X hH hl ret => ?_)
  obtain ⟨⟨hx, hb, hml, hown, hts⟩, ⟨hr, hlk⟩, -, -, -⟩ := id X
  have hl : lv_has ls 4 [(0, .ref (a 0)), (1, .int mk)] := hl
  refine wgen (H := sT.heap) (locs := []) hH (fun H locs hH => ?_)
  have hm7 := hR.w1
  refine lv_iconst (v := nI 1) hx hb dX6_allWith_0 (by decide) ?_
  refine lv_istore_n (lv' := [(2, .int (nI 1)), (0, .ref (a 0)), (1, .int mk)]) hx hb dX6_allWith_1 rfl hl (by decide) rfl (fun ls hl => ?_)
  refine lv_iconst (v := nI 0) hx hb dX6_allWith_2 (by decide) ?_
  refine lv_istore_n (lv' := [(3, .int (nI 0)), (2, .int (nI 1)), (0, .ref (a 0)), (1, .int mk)]) hx hb dX6_allWith_3 rfl hl (by decide) rfl (fun ls hl => ?_)
  have hl : lv_has ls 4 [(3, .int (nI 0)), (2, .int (bI (allW f1 mk 0))), (0, .ref (a 0)), (1, .int mk)] := by rw [← (show (nI 1 : Int32) = bI (allW f1 mk 0) from rfl)]; exact hl
  have lp : ∀ (fu : Nat) (wN : Nat) (f6v : Nat → Int32), (wN ≤ nW f1) → nW f1 - wN < fu → ∀ (H : Heap) (locs : List Loc), HH G sT (mw G a x4 x5 x7 x8 x11 x15 f1 f2 f3 f4 f5 f6v f7 f8 f9 f10 f11 h ++ wr) H locs → ∀ ls : Array Slot, lv_has ls 4 [(0, .ref (a 0)), (1, .int mk), (2, .int (bI (allW f1 mk wN))), (3, .int (nI wN))] → W pR l eV (Rm 5 0 0) sT mI ([.ref (a 0), .int mk] : List Value).toArray below meth cd H locs 0 0 QQ (F0 mI 4 ls []) := by
    intro fu
    induction fu with
    | zero => intro wN f6v hk hm; exact absurd hm (Nat.not_lt_zero _)
    | succ fu ih_lp =>
      intro wN f6v hk hm H locs hH ls hl
      refine lv_iload_n hx hb dX6_allWith_4 rfl (lv_at hl 3 rfl) ?_
      refine lv_aload_n hx hb dX6_allWith_5 rfl (lv_at hl 0 rfl) ?_
      refine m_g0 X hH.mp dX6_allWith_6 ?_
      refine lv_iconst (v := nI 1) hx hb dX6_allWith_9 (by decide) ?_
      refine m_ld1 X hH.mp (by omega) dX6_allWith_10 ?_
      refine n_top (y := nI (nW f1)) (hR.w0) ?_
      refine n_icmp_ge (tgt := 40) hx hb (by omega) (by omega) dX6_allWith_11 (by decide) (fun c1 => ?_) (fun c1 => ?_)
      · refine lv_iload_n hx hb dX6_allWith_40 rfl (lv_at hl 2 rfl) ?_
        exact ret _ _ _ _ _ _ _ _ hH (⟨f6v, by rw [show nW f1 = wN by omega], rfl⟩) (bI_nar _) (Nat.le_refl _) (Nat.le_refl _) dX6_allWith_41
      · refine lv_iload_n hx hb dX6_allWith_14 rfl (lv_at hl 2 rfl) ?_
        refine b_if_eq (tgt := 40) hx hb dX6_allWith_15 (by decide) (fun c2 => ?_) (fun c2 => ?_)
        · refine lv_iload_n hx hb dX6_allWith_40 rfl (lv_at hl 2 rfl) ?_
          exact ret _ _ _ _ _ _ _ _ hH (⟨f6v, by rw [c2, allW_le hk c2], rfl⟩) (bI_nar _) (Nat.le_refl _) (Nat.le_refl _) dX6_allWith_41
        · refine lv_aload_n hx hb dX6_allWith_18 rfl (lv_at hl 0 rfl) ?_
          refine lv_iload_n hx hb dX6_allWith_19 rfl (lv_at hl 3 rfl) ?_
          refine lv_iload_n hx hb dX6_allWith_20 rfl (lv_at hl 1 rfl) ?_
          refine m_Mi (c_X6_presses (mk := mk) hE hR c1) X hH (lw_V q1637 q1639 qs40 q72 q1640) hdv_X6_presses ⟨Nat.le_of_ble_eq_true rfl, Nat.le_of_ble_eq_true rfl⟩ ⟨Nat.le_refl _, Nat.le_refl _⟩ rfl hl.1 rfl (Nat.le_of_ble_eq_true rfl) dX6_allWith_21 (fun r w H locs hq hH => ?_)
          obtain ⟨g6, -, rfl, rfl⟩ := hq
          refine lv_iconst (v := (-1)) hx hb dX6_allWith_24 (by decide) ?_
          refine lv_icmp_eq (tgt := 32) hx hb dX6_allWith_25 (by decide) (fun c3 => ?_) (fun c3 => ?_)
          · refine lv_iconst (v := nI 0) hx hb dX6_allWith_32 (by decide) ?_
            refine n_top (y := bI (allW f1 mk (wN + 1))) (bI_f (by unfold allW at c2 ⊢; rw [allB, c2, decide_eq_false (show ¬ pr f1 wN mk ≠ 100 from fun z => z (prI_iff.mp c3))]; rfl)) ?_
            refine lv_istore_n (lv' := [(2, .int (bI (allW f1 mk (wN + 1)))), (0, .ref (a 0)), (1, .int mk), (3, .int (nI wN))]) hx hb dX6_allWith_33 rfl hl (by decide) rfl (fun ls hl => ?_)
            refine lv_iinc (v := nI (wN + 1)) (lv' := [(3, .int (nI (wN + 1))), (2, .int (bI (allW f1 mk (wN + 1)))), (0, .ref (a 0)), (1, .int mk)]) hx hb dX6_allWith_34 hl (k := 3) rfl (nI_add _ 1) (by decide) rfl (fun ls hl => ?_)
            refine lv_goto (tgt := 4) hx hb dX6_allWith_37 (by decide) ?_
            exact ih_lp (wN + 1) g6 (by omega) (by omega) _ _ hH ls (lv_sub hl [2, 3, 1, 0] rfl)
          · refine lv_iconst (v := nI 1) hx hb dX6_allWith_28 (by decide) ?_
            refine lv_goto (tgt := 33) hx hb dX6_allWith_29 (by decide) ?_
            refine n_top (y := bI (allW f1 mk (wN + 1))) (bI_t (by unfold allW at c2 ⊢; rw [allB, c2, decide_eq_true (show pr f1 wN mk ≠ 100 from fun z => c3 (prI_iff.mpr z))]; rfl)) ?_
            refine lv_istore_n (lv' := [(2, .int (bI (allW f1 mk (wN + 1)))), (0, .ref (a 0)), (1, .int mk), (3, .int (nI wN))]) hx hb dX6_allWith_33 rfl hl (by decide) rfl (fun ls hl => ?_)
            refine lv_iinc (v := nI (wN + 1)) (lv' := [(3, .int (nI (wN + 1))), (2, .int (bI (allW f1 mk (wN + 1)))), (0, .ref (a 0)), (1, .int mk)]) hx hb dX6_allWith_34 hl (k := 3) rfl (nI_add _ 1) (by decide) rfl (fun ls hl => ?_)
            refine lv_goto (tgt := 4) hx hb dX6_allWith_37 (by decide) ?_
            exact ih_lp (wN + 1) g6 (by omega) (by omega) _ _ hH ls (lv_sub hl [2, 3, 1, 0] rfl)
  exact lp _ 0 f6 (Nat.zero_le _) (Nat.lt_succ_self _) _ _ hH ls (lv_sub hl [2, 3, 1, 0] rfl)
theorem hds_X6_bits : yX6_bits.cls ≠ "java/lang/invoke/MethodHandle" ∧ yX6_bits.cls ≠ "java/lang/invoke/VarHandle" ∧ (parseMethodDescriptor yX6_bits.desc).map (fun d => d.parameters.length) = some 1 := by decide +kernel
theorem c_X6_bits (hE : EnvOK G E) {kN : Nat} (hk : kN < 2 ^ 11) : RO l G E yX6_bits cX6_bits 3 .int 1 [.int (nI kN)] (fun _ => True) (.int (nI (popF 11 kN))) := by
  refine ROi hE (by decide) (Nat.le_of_ble_eq_true rfl) (fun pR eV sT mI below meth cd QQ ls X hP hl ret => ?_)
  obtain ⟨⟨hx, hb, hml, hown, hts⟩, ⟨hr, hlk⟩, -, -, -⟩ := id X
  have hl : lv_has ls 3 [(0, .int (nI kN))] := hl
  refine lv_iconst (v := nI 0) hx hb dX6_bits_0 (by decide) ?_
  refine lv_istore_n (lv' := [(1, .int (nI 0)), (0, .int (nI kN))]) hx hb dX6_bits_1 rfl hl (by decide) rfl (fun ls hl => ?_)
  refine lv_iload_n hx hb dX6_bits_2 rfl (lv_at hl 1 rfl) ?_
  refine lv_istore_n (lv' := [(2, .int (nI kN)), (1, .int (nI 0)), (0, .int (nI kN))]) hx hb dX6_bits_3 rfl hl (by decide) rfl (fun ls hl => ?_)
  have lp : ∀ (fu : Nat) (cN : Nat) (qN : Nat) (fN : Nat), (fN ≤ 11) → (qN < 2 ^ fN) → (cN + popF fN qN = popF 11 kN) → fN < fu → ∀ ls : Array Slot, lv_has ls 3 [(0, .int (nI kN)), (1, .int (nI cN)), (2, .int (nI qN))] → W pR l eV (Rm 1 0 0) sT mI ([.int (nI kN)] : List Value).toArray below meth cd sT.heap [] 0 0 QQ (F0 mI 4 ls []) := by
    intro fu
    induction fu with
    | zero => intro cN qN fN hf hq hc hm; exact absurd hm (Nat.not_lt_zero _)
    | succ fu ih_lp =>
      intro cN qN fN hf hq hc hm  ls hl
      have hq31 : 2 ^ fN ≤ 2 ^ 11 := Nat.pow_le_pow_right (by decide) hf
      refine lv_iload_n hx hb dX6_bits_4 rfl (lv_at hl 2 rfl) ?_
      refine lv_if_le (tgt := 21) hx hb dX6_bits_5 (by decide) (fun c1 => ?_) (fun c1 => ?_)
      · have hq0 : qN = 0 := by rcases Nat.eq_zero_or_pos qN with q | q; exact q; exact absurd c1 (nI_nle q (by omega))
        refine lv_iload_n hx hb dX6_bits_21 rfl (lv_at hl 1 rfl) ?_
        exact ret _ _ _ (by rw [← hc, hq0, popF_0]; rfl) dX6_bits_22
      · have hq0 : 0 < qN := by rcases Nat.eq_zero_or_pos qN with q | q; exact absurd (by rw [q]; decide) c1; exact q
        obtain ⟨fM, rfl⟩ : ∃ z, fN = z + 1 := ⟨fN - 1, by rcases Nat.eq_zero_or_pos fN with q | q; exact absurd hq (by rw [q]; omega); omega⟩
        have hp2 : 2 ^ (fM + 1) = 2 * 2 ^ fM := by rw [Nat.pow_succ, Nat.mul_comm]
        have hp3 : 2 ^ (fM + 1) ≤ 2 ^ 11 := Nat.pow_le_pow_right (by decide) hf
        refine lv_iload_n hx hb dX6_bits_8 rfl (lv_at hl 1 rfl) ?_
        refine lv_iload_n hx hb dX6_bits_9 rfl (lv_at hl 2 rfl) ?_
        refine lv_iconst (v := nI 1) hx hb dX6_bits_10 (by decide) ?_
        refine lv_iand hx hb dX6_bits_11 ?_
        refine n_top (y := nI (qN % 2)) (and1 (by omega)) ?_
        refine n_iadd hx hb dX6_bits_12 ?_
        refine lv_istore_n (lv' := [(1, .int (nI (cN + (qN % 2)))), (0, .int (nI kN)), (2, .int (nI qN))]) hx hb dX6_bits_13 rfl hl (by decide) rfl (fun ls hl => ?_)
        refine lv_iload_n hx hb dX6_bits_14 rfl (lv_at hl 2 rfl) ?_
        refine lv_iconst (v := nI 1) hx hb dX6_bits_15 (by decide) ?_
        refine lv_ishr hx hb dX6_bits_16 ?_
        refine n_top (y := nI (qN / 2)) (shr1 (by omega)) ?_
        refine lv_istore_n (lv' := [(2, .int (nI (qN / 2))), (1, .int (nI (cN + (qN % 2)))), (0, .int (nI kN))]) hx hb dX6_bits_17 rfl hl (by decide) rfl (fun ls hl => ?_)
        refine lv_goto (tgt := 4) hx hb dX6_bits_18 (by decide) ?_
        exact ih_lp (cN + qN % 2) (qN / 2) fM  (by omega) (by omega) (by rw [← hc, popF]; omega) (by omega) ls (lv_sub hl [2, 1, 0] rfl)
  exact lp _ 0 kN 11  (Nat.le_refl _) (hk) (Nat.zero_add _) (Nat.lt_succ_self _) ls (lv_sub hl [2, 1, 0] rfl)
theorem hdv_X6_smallest : yX6_smallest.cls = RX6 ∧ yX6_smallest.cls ≠ "java/lang/invoke/MethodHandle" ∧ yX6_smallest.cls ≠ "java/lang/invoke/VarHandle" ∧ (parseMethodDescriptor yX6_smallest.desc).map (fun d => d.parameters.length) = some 0 := by decide +kernel
theorem c_X6_smallest (hE : EnvOK G E) (hR : ROk f1) : MU vI l G E yX6_smallest cX6_smallest 4 (some .int) 6 0 0 [.ref (a 0)] (mw G a x4 x5 x7 x8 x11 x15 f1 f2 f3 f4 f5 f6 f7 f8 f9 f10 f11 h ++ wr) (fun r w => ∃ g6, r = smlI f1 ∧ w = mw G a x4 x5 x7 x8 x11 x15 f1 f2 f3 f4 f5 g6 f7 f8 f9 f10 f11 h ++ wr) := by
  refine MUi hE (by decide) (Nat.le_of_ble_eq_true rfl) (fun pR eV sT mI below meth cd QQ ls X hH hl ret => ?_)
  obtain ⟨⟨hx, hb, hml, hown, hts⟩, ⟨hr, hlk⟩, -, -, -⟩ := id X
  have hl : lv_has ls 4 [(0, .ref (a 0))] := hl
  refine wgen (H := sT.heap) (locs := []) hH (fun H locs hH => ?_)
  have hm := hR.s1
  have h2m : 2 ^ nS f1 ≤ 2 ^ 10 := Nat.pow_le_pow_right (by decide) hm
  refine lv_aload_n hx hb dX6_smallest_0 rfl (lv_at hl 0 rfl) ?_
  refine m_R (c_X6_fresh hE hR) X hH.2 hH.mp (lw_V q1633 q1635 qs39 q72 q1636) hdv_X6_fresh ⟨Nat.le_of_ble_eq_true rfl, Nat.le_of_ble_eq_true rfl⟩ ⟨Nat.le_refl _, Nat.le_refl _⟩ rfl hl.1 rfl (Nat.le_of_ble_eq_true rfl) dX6_smallest_1 ?_
  refine lv_istore_n (lv' := [(1, .int (frM f1)), (0, .ref (a 0))]) hx hb dX6_smallest_4 rfl hl (by decide) rfl (fun ls hl => ?_)
  refine lv_aload_n hx hb dX6_smallest_5 rfl (lv_at hl 1 rfl) ?_
  refine lv_iload_n hx hb dX6_smallest_6 rfl (lv_at hl 0 rfl) ?_
  refine m_Mi (c_X6_allWith (mk := frM f1) hE hR) X hH (lw_V q1720 q1722 qs52 q72 q1723) hdv_X6_allWith ⟨Nat.le_of_ble_eq_true rfl, Nat.le_of_ble_eq_true rfl⟩ ⟨Nat.le_refl _, Nat.le_refl _⟩ rfl hl.1 rfl (Nat.le_of_ble_eq_true rfl) dX6_smallest_7 (fun r w H locs hq hH => ?_)
  obtain ⟨g6, rfl, rfl⟩ := hq
  refine b_if_ne (tgt := 15) hx hb dX6_smallest_10 (by decide) (fun c0 => ?_) (fun c0 => ?_)
  · obtain ⟨hn1, hn2, hn3⟩ := fstP_spec (P := fun n => decide (fwN f1 n < 2 ^ nS f1)) 11
    have hn1 : fwM f1 ≤ 11 := hn1
    have hn2 : ∀ q, q < fwM f1 → decide (fwN f1 q < 2 ^ nS f1) = false := hn2
    have hn3 : fwM f1 < 11 → decide (fwN f1 (fwM f1) < 2 ^ nS f1) = true := hn3
    refine lv_iconst (v := nI 0) hx hb dX6_smallest_15 (by decide) ?_
    refine lv_istore_n (lv' := [(2, .int (nI 0)), (1, .int (frM f1)), (0, .ref (a 0))]) hx hb dX6_smallest_16 rfl hl (by decide) rfl (fun ls hl => ?_)
    have lp : ∀ (fu : Nat) (nN : Nat) (f6v : Nat → Int32), (nN ≤ fwM f1) → 12 - nN < fu → ∀ (H : Heap) (locs : List Loc), HH G sT (mw G a x4 x5 x7 x8 x11 x15 f1 f2 f3 f4 f5 f6v f7 f8 f9 f10 f11 h ++ wr) H locs → ∀ ls : Array Slot, lv_has ls 4 [(0, .ref (a 0)), (1, .int (frM f1)), (2, .int (nI nN))] → W pR l eV (Rm 6 0 0) sT mI ([.ref (a 0)] : List Value).toArray below meth cd H locs 0 0 QQ (F0 mI 17 ls []) := by
      intro fu
      induction fu with
      | zero => intro nN f6v hnf hm; exact absurd hm (Nat.not_lt_zero _)
      | succ fu ih_lp =>
        intro nN f6v hnf hm H locs hH ls hl
        obtain ⟨hq1, hq2, hq3⟩ := fstP_spec (P := fun q => decide (popF 11 q = nN) && okS f1 q) (2 ^ nS f1)
        have hq1 : fwN f1 nN ≤ 2 ^ nS f1 := hq1
        have hq2 : ∀ q, q < fwN f1 nN → (decide (popF 11 q = nN) && okS f1 q) = false := hq2
        have hq3 : fwN f1 nN < 2 ^ nS f1 → (decide (popF 11 (fwN f1 nN) = nN) && okS f1 (fwN f1 nN)) = true := hq3
        refine lv_iload_n hx hb dX6_smallest_17 rfl (lv_at hl 2 rfl) ?_
        refine lv_bipush (v := nI 10) hx hb dX6_smallest_18 (by decide) ?_
        refine n_icmp_gt (tgt := 75) hx hb (by omega) (by omega) dX6_smallest_20 (by decide) (fun c1 => ?_) (fun c1 => ?_)
        · refine lv_iconst (v := (-1)) hx hb dX6_smallest_75 (by decide) ?_
          exact ret _ _ _ _ _ _ _ _ hH (⟨f6v, by unfold smlI; rw [c0, if_pos rfl, if_neg (show ¬ fwM f1 < 11 by omega)], rfl⟩) (Nat.le_refl _) (Nat.le_refl _) dX6_smallest_76
        · refine lv_iconst (v := nI 0) hx hb dX6_smallest_23 (by decide) ?_
          refine lv_istore_n (lv' := [(3, .int (nI 0)), (0, .ref (a 0)), (1, .int (frM f1)), (2, .int (nI nN))]) hx hb dX6_smallest_24 rfl hl (by decide) rfl (fun ls hl => ?_)
          have lq : ∀ (fu : Nat) (qN : Nat) (f6u : Nat → Int32), (qN ≤ fwN f1 nN) → 2 ^ nS f1 + 1 - qN < fu → ∀ (H : Heap) (locs : List Loc), HH G sT (mw G a x4 x5 x7 x8 x11 x15 f1 f2 f3 f4 f5 f6u f7 f8 f9 f10 f11 h ++ wr) H locs → ∀ ls : Array Slot, lv_has ls 4 [(0, .ref (a 0)), (1, .int (frM f1)), (2, .int (nI nN)), (3, .int (nI qN))] → W pR l eV (Rm 6 0 0) sT mI ([.ref (a 0)] : List Value).toArray below meth cd H locs 0 0 QQ (F0 mI 25 ls []) := by
            intro fu
            induction fu with
            | zero => intro qN f6u hqf hm; exact absurd hm (Nat.not_lt_zero _)
            | succ fu ih_lq =>
              intro qN f6u hqf hm H locs hH ls hl
              refine lv_iload_n hx hb dX6_smallest_25 rfl (lv_at hl 3 rfl) ?_
              refine lv_iconst (v := nI 1) hx hb dX6_smallest_26 (by decide) ?_
              refine lv_aload_n hx hb dX6_smallest_27 rfl (lv_at hl 0 rfl) ?_
              refine m_g0 X hH.mp dX6_smallest_28 ?_
              refine lv_iconst (v := nI 0) hx hb dX6_smallest_31 (by decide) ?_
              refine m_ld1 X hH.mp (by omega) dX6_smallest_32 ?_
              refine n_top (y := nI (nS f1)) (hR.s0) ?_
              refine lv_ishl hx hb dX6_smallest_33 ?_
              refine n_top (y := nI (2 ^ nS f1)) (shl1 (by omega)) ?_
              refine n_icmp_ge (tgt := 69) hx hb (by omega) (by omega) dX6_smallest_34 (by decide) (fun c2 => ?_) (fun c2 => ?_)
              · have hfull : ¬ fwN f1 nN < 2 ^ nS f1 := by omega
                refine lv_iinc (v := nI (nN + 1)) (lv' := [(2, .int (nI (nN + 1))), (0, .ref (a 0)), (1, .int (frM f1)), (3, .int (nI qN))]) hx hb dX6_smallest_69 hl (k := 2) rfl (nI_add _ 1) (by decide) rfl (fun ls hl => ?_)
                refine lv_goto (tgt := 17) hx hb dX6_smallest_72 (by decide) ?_
                exact ih_lp (nN + 1) f6u (by rcases Nat.lt_or_ge nN (fwM f1) with q | q; exact q; exact absurd (of_decide_eq_true (hn3 (show fwM f1 < 11 by omega))) (by rw [show fwM f1 = nN by omega]; exact hfull)) (by omega) _ _ hH ls (lv_sub hl [1, 2, 0] rfl)
              · refine lv_iload_n hx hb dX6_smallest_37 rfl (lv_at hl 3 rfl) ?_
                refine m_S (c_X6_bits hE (by omega)) X hH.2 (lw_S q1724 q1725 q72 q1726) hds_X6_bits ⟨Nat.le_of_ble_eq_true rfl, Nat.le_of_ble_eq_true rfl⟩ ⟨Nat.le_refl _, Nat.le_refl _⟩ rfl hl.1 rfl (Nat.le_of_ble_eq_true rfl) dX6_smallest_38 ?_
                have hpl := popF_le 11 qN
                refine lv_iload_n hx hb dX6_smallest_41 rfl (lv_at hl 2 rfl) ?_
                refine n_icmp_ne (tgt := 63) hx hb (by omega) (by omega) dX6_smallest_42 (by decide) (fun c3 => ?_) (fun c3 => ?_)
                · refine lv_iinc (v := nI (qN + 1)) (lv' := [(3, .int (nI (qN + 1))), (0, .ref (a 0)), (1, .int (frM f1)), (2, .int (nI nN))]) hx hb dX6_smallest_63 hl (k := 3) rfl (nI_add _ 1) (by decide) rfl (fun ls hl => ?_)
                  refine lv_goto (tgt := 25) hx hb dX6_smallest_66 (by decide) ?_
                  exact ih_lq (qN + 1) f6u (by rcases Nat.lt_or_ge qN (fwN f1 nN) with q | q; exact q; exact absurd (hq3 (show fwN f1 nN < 2 ^ nS f1 by omega)) (by show ¬ (decide (popF 11 (fwN f1 nN) = nN) && okS f1 (fwN f1 nN)) = true; rw [show fwN f1 nN = qN by omega]; simp [c3])) (by omega) _ _ hH ls (lv_sub hl [1, 2, 3, 0] rfl)
                · refine lv_iload_n hx hb dX6_smallest_45 rfl (lv_at hl 3 rfl) ?_
                  refine lv_iload_n hx hb dX6_smallest_46 rfl (lv_at hl 1 rfl) ?_
                  refine lv_iconst (v := (-1)) hx hb dX6_smallest_47 (by decide) ?_
                  refine lv_ixor hx hb dX6_smallest_48 ?_
                  refine lv_iand hx hb dX6_smallest_49 ?_
                  refine lv_if_ne (tgt := 63) hx hb dX6_smallest_50 (by decide) (fun c4 => ?_) (fun c4 => ?_)
                  · refine lv_iinc (v := nI (qN + 1)) (lv' := [(3, .int (nI (qN + 1))), (0, .ref (a 0)), (1, .int (frM f1)), (2, .int (nI nN))]) hx hb dX6_smallest_63 hl (k := 3) rfl (nI_add _ 1) (by decide) rfl (fun ls hl => ?_)
                    refine lv_goto (tgt := 25) hx hb dX6_smallest_66 (by decide) ?_
                    exact ih_lq (qN + 1) f6u (by rcases Nat.lt_or_ge qN (fwN f1 nN) with q | q; exact q; exact absurd (hq3 (show fwN f1 nN < 2 ^ nS f1 by omega)) (by show ¬ (decide (popF 11 (fwN f1 nN) = nN) && okS f1 (fwN f1 nN)) = true; rw [show fwN f1 nN = qN by omega]; unfold okS; rw [decide_eq_false c4, Bool.false_and, Bool.and_false]; decide)) (by omega) _ _ hH ls (lv_sub hl [1, 2, 3, 0] rfl)
                  · refine lv_aload_n hx hb dX6_smallest_53 rfl (lv_at hl 0 rfl) ?_
                    refine lv_iload_n hx hb dX6_smallest_54 rfl (lv_at hl 3 rfl) ?_
                    refine m_Mi (c_X6_allWith (mk := nI qN) hE hR) X hH (lw_V q1720 q1722 qs52 q72 q1723) hdv_X6_allWith ⟨Nat.le_of_ble_eq_true rfl, Nat.le_of_ble_eq_true rfl⟩ ⟨Nat.le_refl _, Nat.le_refl _⟩ rfl hl.1 rfl (Nat.le_of_ble_eq_true rfl) dX6_smallest_55 (fun r w H locs hq hH => ?_)
                    obtain ⟨g6, rfl, rfl⟩ := hq
                    refine b_if_eq (tgt := 63) hx hb dX6_smallest_58 (by decide) (fun c5 => ?_) (fun c5 => ?_)
                    · refine lv_iinc (v := nI (qN + 1)) (lv' := [(3, .int (nI (qN + 1))), (0, .ref (a 0)), (1, .int (frM f1)), (2, .int (nI nN))]) hx hb dX6_smallest_63 hl (k := 3) rfl (nI_add _ 1) (by decide) rfl (fun ls hl => ?_)
                      refine lv_goto (tgt := 25) hx hb dX6_smallest_66 (by decide) ?_
                      exact ih_lq (qN + 1) g6 (by rcases Nat.lt_or_ge qN (fwN f1 nN) with q | q; exact q; exact absurd (hq3 (show fwN f1 nN < 2 ^ nS f1 by omega)) (by show ¬ (decide (popF 11 (fwN f1 nN) = nN) && okS f1 (fwN f1 nN)) = true; rw [show fwN f1 nN = qN by omega]; unfold okS; simp [c5])) (by omega) _ _ hH ls (lv_sub hl [1, 2, 3, 0] rfl)
                    · have hyes : (decide (popF 11 qN = nN) && okS f1 qN) = true := by unfold okS; rw [decide_eq_true c3, decide_eq_true c4, c5]; rfl
                      have hqe : fwN f1 nN = qN := fstP_eq c2 hyes (fun z hz => hq2 z (by omega))
                      have hne : fwM f1 = nN := fstP_eq (by omega) (decide_eq_true (by rw [hqe]; exact c2)) (fun z hz => hn2 z (by omega))
                      refine lv_iload_n hx hb dX6_smallest_61 rfl (lv_at hl 3 rfl) ?_
                      exact ret _ _ _ _ _ _ _ _ hH (⟨g6, by unfold smlI; rw [c0, if_pos rfl, hne, if_pos (by omega), hqe], rfl⟩) (Nat.le_refl _) (Nat.le_refl _) dX6_smallest_62
          exact lq _ 0 f6v (Nat.zero_le _) (Nat.lt_succ_self _) _ _ hH ls (lv_sub hl [1, 2, 3, 0] rfl)
    exact lp _ 0 g6 (Nat.zero_le _) (Nat.lt_succ_self _) _ _ hH ls (lv_sub hl [2, 1, 0] rfl)
  · refine lv_iconst (v := (-1)) hx hb dX6_smallest_13 (by decide) ?_
    exact ret _ _ _ _ _ _ _ _ hH (⟨g6, by unfold smlI; rw [c0]; rfl, rfl⟩) (Nat.le_refl _) (Nat.le_refl _) dX6_smallest_14
theorem hdv_X6_fewest : yX6_fewest.cls = RX6 ∧ yX6_fewest.cls ≠ "java/lang/invoke/MethodHandle" ∧ yX6_fewest.cls ≠ "java/lang/invoke/VarHandle" ∧ (parseMethodDescriptor yX6_fewest.desc).map (fun d => d.parameters.length) = some 0 := by decide +kernel
theorem c_X6_fewest (hE : EnvOK G E) (hR : ROk f1) : MU vI l G E yX6_fewest cX6_fewest 1 (some .int) 7 0 0 [.ref (a 0)] (mw G a x4 x5 x7 x8 x11 x15 f1 f2 f3 f4 f5 f6 f7 f8 f9 f10 f11 h ++ wr) (fun r w => ∃ g6, r = smlI f1 ∧ w = mw G a x4 (nI 0) x7 x8 x11 x15 f1 f2 f3 f4 f5 g6 f7 f8 f9 f10 f11 h ++ wr) := by
  refine MUi hE (by decide) (Nat.le_of_ble_eq_true rfl) (fun pR eV sT mI below meth cd QQ ls X hH hl ret => ?_)
  obtain ⟨⟨hx, hb, hml, hown, hts⟩, ⟨hr, hlk⟩, -, -, -⟩ := id X
  have hl : lv_has ls 1 [(0, .ref (a 0))] := hl
  refine wgen (H := sT.heap) (locs := []) hH (fun H locs hH => ?_)
  refine lv_aload_n hx hb dX6_fewest_0 rfl (lv_at hl 0 rfl) ?_
  refine lv_iconst (v := nI 0) hx hb dX6_fewest_1 (by decide) ?_
  refine m_p5 X hH dX6_fewest_2 (fun H locs hH => ?_)
  refine lv_aload_n hx hb dX6_fewest_5 rfl (lv_at hl 0 rfl) ?_
  refine m_Mi (c_X6_smallest hE hR) X hH (lw_V q1716 q1718 qs51 q72 q1719) hdv_X6_smallest ⟨Nat.le_of_ble_eq_true rfl, Nat.le_of_ble_eq_true rfl⟩ ⟨Nat.le_refl _, Nat.le_refl _⟩ rfl hl.1 rfl (Nat.le_of_ble_eq_true rfl) dX6_fewest_6 (fun r w H locs hq hH => ?_)
  obtain ⟨g6, rfl, rfl⟩ := hq
  exact ret _ _ _ _ _ _ _ _ hH (⟨g6, rfl, rfl⟩) (Nat.le_refl _) (Nat.le_refl _) dX6_fewest_9
theorem hdv_X6_needed : yX6_needed.cls = RX6 ∧ yX6_needed.cls ≠ "java/lang/invoke/MethodHandle" ∧ yX6_needed.cls ≠ "java/lang/invoke/VarHandle" ∧ (parseMethodDescriptor yX6_needed.desc).map (fun d => d.parameters.length) = some 1 := by decide +kernel
theorem c_X6_needed_1 (hE : EnvOK G E) {x : Int32} (hR : ROk f1) (hB : idB x (nS f1) = false) : MU vI l G E yX6_needed cX6_needed 4 (some .int) 5 0 0 [.ref (a 0), .int x] (mw G a x4 x5 x7 x8 x11 x15 f1 f2 f3 f4 f5 f6 f7 f8 f9 f10 f11 h ++ wr) (fun r w => r = nI 0 ∧ w = mw G a x4 (nI 1) x7 x8 x11 x15 f1 f2 f3 f4 f5 f6 f7 f8 f9 f10 f11 h ++ wr) := by
  refine MUi hE (by decide) (Nat.le_of_ble_eq_true rfl) (fun pR eV sT mI below meth cd QQ ls X hH hl ret => ?_)
  obtain ⟨⟨hx, hb, hml, hown, hts⟩, ⟨hr, hlk⟩, -, -, -⟩ := id X
  have hl : lv_has ls 4 [(0, .ref (a 0)), (1, .int x)] := hl
  refine wgen (H := sT.heap) (locs := []) hH (fun H locs hH => ?_)
  have hm := hR.s1
  have hm7 := hR.w1
  refine lv_aload_n hx hb dX6_needed_0 rfl (lv_at hl 0 rfl) ?_
  refine lv_aload_n hx hb dX6_needed_1 rfl (lv_at hl 0 rfl) ?_
  refine lv_iload_n hx hb dX6_needed_2 rfl (lv_at hl 1 rfl) ?_
  refine m_R (c_X6_isStamp hE hR) X hH.2 hH.mp (lw_V q1593 q1595 qs34 q72 q1596) hdv_X6_isStamp ⟨Nat.le_of_ble_eq_true rfl, Nat.le_of_ble_eq_true rfl⟩ ⟨Nat.le_refl _, Nat.le_refl _⟩ rfl hl.1 rfl (Nat.le_of_ble_eq_true rfl) dX6_needed_3 ?_
  refine n_top (y := nI 0) (by rw [hB]; rfl) ?_
  refine lv_if_eq (tgt := 13) hx hb dX6_needed_6 (by decide) (fun _ => ?_) (fun h => absurd rfl h)
  refine lv_iconst (v := nI 1) hx hb dX6_needed_13 (by decide) ?_
  refine m_Mi (c_X6_refused (cN := 1) hE (by omega)) X hH (lw_V q1520 q1522 qs23 q72 q1523) hdv_X6_refused ⟨Nat.le_of_ble_eq_true rfl, Nat.le_of_ble_eq_true rfl⟩ ⟨Nat.le_refl _, Nat.le_refl _⟩ rfl hl.1 rfl (Nat.le_of_ble_eq_true rfl) dX6_needed_14 (fun r w H locs hq hH => ?_)
  obtain ⟨rfl, rfl⟩ := hq
  refine n_top (y := bI true) (rfl) ?_
  refine n_top (y := nI 1) (rfl) ?_
  refine lv_if_eq (tgt := 22) hx hb dX6_needed_17 (by decide) (fun h => absurd h (by decide)) (fun _ => ?_)
  refine lv_iconst (v := nI 0) hx hb dX6_needed_20 (by decide) ?_
  exact ret _ _ _ _ _ _ _ _ hH (⟨rfl, rfl⟩) (Nat.le_refl _) (Nat.le_refl _) dX6_needed_21
theorem c_X6_needed_0 (hE : EnvOK G E) {sN : Nat} (hR : ROk f1) (hs : sN < nS f1) : MU vI l G E yX6_needed cX6_needed 4 (some .int) 5 0 0 [.ref (a 0), .int (nI sN)] (mw G a x4 x5 x7 x8 x11 x15 f1 f2 f3 f4 f5 f6 f7 f8 f9 f10 f11 h ++ wr) (fun r w => ∃ g6, r = nI (nedN f1 sN (nW f1)) ∧ w = mw G a x4 (nI 0) x7 x8 x11 x15 f1 f2 f3 f4 f5 g6 f7 f8 f9 f10 f11 h ++ wr) := by
  refine MUi hE (by decide) (Nat.le_of_ble_eq_true rfl) (fun pR eV sT mI below meth cd QQ ls X hH hl ret => ?_)
  obtain ⟨⟨hx, hb, hml, hown, hts⟩, ⟨hr, hlk⟩, -, -, -⟩ := id X
  have hl : lv_has ls 4 [(0, .ref (a 0)), (1, .int (nI sN))] := hl
  refine wgen (H := sT.heap) (locs := []) hH (fun H locs hH => ?_)
  have hm := hR.s1
  have hm7 := hR.w1
  refine lv_aload_n hx hb dX6_needed_0 rfl (lv_at hl 0 rfl) ?_
  refine lv_aload_n hx hb dX6_needed_1 rfl (lv_at hl 0 rfl) ?_
  refine lv_iload_n hx hb dX6_needed_2 rfl (lv_at hl 1 rfl) ?_
  refine m_R (c_X6_isStamp hE hR) X hH.2 hH.mp (lw_V q1593 q1595 qs34 q72 q1596) hdv_X6_isStamp ⟨Nat.le_of_ble_eq_true rfl, Nat.le_of_ble_eq_true rfl⟩ ⟨Nat.le_refl _, Nat.le_refl _⟩ rfl hl.1 rfl (Nat.le_of_ble_eq_true rfl) dX6_needed_3 ?_
  refine n_top (y := nI 1) (by rw [idB_t hs (by omega)]; rfl) ?_
  refine lv_if_eq (tgt := 13) hx hb dX6_needed_6 (by decide) (fun h => absurd h (by decide)) (fun _ => ?_)
  refine lv_iconst (v := nI 0) hx hb dX6_needed_9 (by decide) ?_
  refine lv_goto (tgt := 14) hx hb dX6_needed_10 (by decide) ?_
  refine m_Mi (c_X6_refused (cN := 0) hE (by omega)) X hH (lw_V q1520 q1522 qs23 q72 q1523) hdv_X6_refused ⟨Nat.le_of_ble_eq_true rfl, Nat.le_of_ble_eq_true rfl⟩ ⟨Nat.le_refl _, Nat.le_refl _⟩ rfl hl.1 rfl (Nat.le_of_ble_eq_true rfl) dX6_needed_14 (fun r w H locs hq hH => ?_)
  obtain ⟨rfl, rfl⟩ := hq
  refine n_top (y := bI false) (rfl) ?_
  refine n_top (y := nI 0) (rfl) ?_
  refine lv_if_eq (tgt := 22) hx hb dX6_needed_17 (by decide) (fun _ => ?_) (fun h => absurd rfl h)
  refine lv_iconst (v := nI 0) hx hb dX6_needed_22 (by decide) ?_
  refine lv_istore_n (lv' := [(2, .int (nI 0)), (0, .ref (a 0)), (1, .int (nI sN))]) hx hb dX6_needed_23 rfl hl (by decide) rfl (fun ls hl => ?_)
  refine lv_iconst (v := nI 0) hx hb dX6_needed_24 (by decide) ?_
  refine lv_istore_n (lv' := [(3, .int (nI 0)), (2, .int (nI 0)), (0, .ref (a 0)), (1, .int (nI sN))]) hx hb dX6_needed_25 rfl hl (by decide) rfl (fun ls hl => ?_)
  have hl : lv_has ls 4 [(3, .int (nI 0)), (2, .int (nI (nedN f1 sN 0))), (0, .ref (a 0)), (1, .int (nI sN))] := by rw [← (show (nI 0 : Int32) = nI (nedN f1 sN 0) from rfl)]; exact hl
  have lp : ∀ (fu : Nat) (wN : Nat) (f6v : Nat → Int32), (wN ≤ nW f1) → nW f1 - wN < fu → ∀ (H : Heap) (locs : List Loc), HH G sT (mw G a x4 (nI 0) x7 x8 x11 x15 f1 f2 f3 f4 f5 f6v f7 f8 f9 f10 f11 h ++ wr) H locs → ∀ ls : Array Slot, lv_has ls 4 [(0, .ref (a 0)), (1, .int (nI sN)), (2, .int (nI (nedN f1 sN wN))), (3, .int (nI wN))] → W pR l eV (Rm 5 0 0) sT mI ([.ref (a 0), .int (nI sN)] : List Value).toArray below meth cd H locs 0 0 QQ (F0 mI 26 ls []) := by
    intro fu
    induction fu with
    | zero => intro wN f6v hk hm; exact absurd hm (Nat.not_lt_zero _)
    | succ fu ih_lp =>
      intro wN f6v hk hm H locs hH ls hl
      refine lv_iload_n hx hb dX6_needed_26 rfl (lv_at hl 3 rfl) ?_
      refine lv_aload_n hx hb dX6_needed_27 rfl (lv_at hl 0 rfl) ?_
      refine m_g0 X hH.mp dX6_needed_28 ?_
      refine lv_iconst (v := nI 1) hx hb dX6_needed_31 (by decide) ?_
      refine m_ld1 X hH.mp (by omega) dX6_needed_32 ?_
      refine n_top (y := nI (nW f1)) (hR.w0) ?_
      refine n_icmp_ge (tgt := 82) hx hb (by omega) (by omega) dX6_needed_33 (by decide) (fun c1 => ?_) (fun c1 => ?_)
      · refine lv_iload_n hx hb dX6_needed_82 rfl (lv_at hl 2 rfl) ?_
        exact ret _ _ _ _ _ _ _ _ hH (⟨f6v, by rw [show nW f1 = wN by omega], rfl⟩) (Nat.le_refl _) (Nat.le_refl _) dX6_needed_83
      · refine lv_iload_n hx hb dX6_needed_36 rfl (lv_at hl 2 rfl) ?_
        refine lv_aload_n hx hb dX6_needed_37 rfl (lv_at hl 0 rfl) ?_
        refine lv_iload_n hx hb dX6_needed_38 rfl (lv_at hl 3 rfl) ?_
        refine lv_aload_n hx hb dX6_needed_39 rfl (lv_at hl 0 rfl) ?_
        refine m_R (c_X6_fresh hE hR) X hH.2 hH.mp (lw_V q1633 q1635 qs39 q72 q1636) hdv_X6_fresh ⟨Nat.le_of_ble_eq_true rfl, Nat.le_of_ble_eq_true rfl⟩ ⟨Nat.le_refl _, Nat.le_refl _⟩ rfl hl.1 rfl (Nat.le_of_ble_eq_true rfl) dX6_needed_40 ?_
        refine m_Mi (c_X6_presses (mk := frM f1) hE hR c1) X hH (lw_V q1637 q1639 qs40 q72 q1640) hdv_X6_presses ⟨Nat.le_of_ble_eq_true rfl, Nat.le_of_ble_eq_true rfl⟩ ⟨Nat.le_refl _, Nat.le_refl _⟩ rfl hl.1 rfl (Nat.le_of_ble_eq_true rfl) dX6_needed_43 (fun r w H locs hq hH => ?_)
        obtain ⟨g6, -, rfl, rfl⟩ := hq
        refine lv_iconst (v := (-1)) hx hb dX6_needed_46 (by decide) ?_
        refine lv_icmp_eq (tgt := 73) hx hb dX6_needed_47 (by decide) (fun c2 => ?_) (fun c2 => ?_)
        · refine lv_iconst (v := nI 0) hx hb dX6_needed_73 (by decide) ?_
          refine n_iadd hx hb dX6_needed_74 ?_
          refine n_top (y := nI (nedN f1 sN (wN + 1))) (by rw [nedN, if_neg (fun z => z.1 (prI_iff.mp c2))]) ?_
          refine lv_istore_n (lv' := [(2, .int (nI (nedN f1 sN (wN + 1)))), (0, .ref (a 0)), (1, .int (nI sN)), (3, .int (nI wN))]) hx hb dX6_needed_75 rfl hl (by decide) rfl (fun ls hl => ?_)
          refine lv_iinc (v := nI (wN + 1)) (lv' := [(3, .int (nI (wN + 1))), (2, .int (nI (nedN f1 sN (wN + 1)))), (0, .ref (a 0)), (1, .int (nI sN))]) hx hb dX6_needed_76 hl (k := 3) rfl (nI_add _ 1) (by decide) rfl (fun ls hl => ?_)
          refine lv_goto (tgt := 26) hx hb dX6_needed_79 (by decide) ?_
          exact ih_lp (wN + 1) g6 (by omega) (by omega) _ _ hH ls (lv_sub hl [2, 3, 1, 0] rfl)
        · refine lv_aload_n hx hb dX6_needed_50 rfl (lv_at hl 0 rfl) ?_
          refine lv_iload_n hx hb dX6_needed_51 rfl (lv_at hl 3 rfl) ?_
          refine lv_aload_n hx hb dX6_needed_52 rfl (lv_at hl 0 rfl) ?_
          refine m_R (c_X6_fresh hE hR) X hH.2 hH.mp (lw_V q1633 q1635 qs39 q72 q1636) hdv_X6_fresh ⟨Nat.le_of_ble_eq_true rfl, Nat.le_of_ble_eq_true rfl⟩ ⟨Nat.le_refl _, Nat.le_refl _⟩ rfl hl.1 rfl (Nat.le_of_ble_eq_true rfl) dX6_needed_53 ?_
          refine lv_iconst (v := nI 1) hx hb dX6_needed_56 (by decide) ?_
          refine lv_iload_n hx hb dX6_needed_57 rfl (lv_at hl 1 rfl) ?_
          refine lv_ishl hx hb dX6_needed_58 ?_
          refine lv_iconst (v := (-1)) hx hb dX6_needed_59 (by decide) ?_
          refine lv_ixor hx hb dX6_needed_60 ?_
          refine lv_iand hx hb dX6_needed_61 ?_
          refine m_Mi (c_X6_presses (mk := frM f1 &&& ((nI 1 <<< (nI sN &&& 31)) ^^^ (-1))) hE hR c1) X hH (lw_V q1637 q1639 qs40 q72 q1640) hdv_X6_presses ⟨Nat.le_of_ble_eq_true rfl, Nat.le_of_ble_eq_true rfl⟩ ⟨Nat.le_refl _, Nat.le_refl _⟩ rfl hl.1 rfl (Nat.le_of_ble_eq_true rfl) dX6_needed_62 (fun r w H locs hq hH => ?_)
          obtain ⟨g6, -, rfl, rfl⟩ := hq
          refine lv_iconst (v := (-1)) hx hb dX6_needed_65 (by decide) ?_
          refine lv_icmp_ne (tgt := 73) hx hb dX6_needed_66 (by decide) (fun c3 => ?_) (fun c3 => ?_)
          · refine lv_iconst (v := nI 0) hx hb dX6_needed_73 (by decide) ?_
            refine n_iadd hx hb dX6_needed_74 ?_
            refine n_top (y := nI (nedN f1 sN (wN + 1))) (by rw [nedN, if_neg (fun z => c3 (prI_iff.mpr z.2))]) ?_
            refine lv_istore_n (lv' := [(2, .int (nI (nedN f1 sN (wN + 1)))), (0, .ref (a 0)), (1, .int (nI sN)), (3, .int (nI wN))]) hx hb dX6_needed_75 rfl hl (by decide) rfl (fun ls hl => ?_)
            refine lv_iinc (v := nI (wN + 1)) (lv' := [(3, .int (nI (wN + 1))), (2, .int (nI (nedN f1 sN (wN + 1)))), (0, .ref (a 0)), (1, .int (nI sN))]) hx hb dX6_needed_76 hl (k := 3) rfl (nI_add _ 1) (by decide) rfl (fun ls hl => ?_)
            refine lv_goto (tgt := 26) hx hb dX6_needed_79 (by decide) ?_
            exact ih_lp (wN + 1) g6 (by omega) (by omega) _ _ hH ls (lv_sub hl [2, 3, 1, 0] rfl)
          · refine lv_iconst (v := nI 1) hx hb dX6_needed_69 (by decide) ?_
            refine lv_goto (tgt := 74) hx hb dX6_needed_70 (by decide) ?_
            refine n_iadd hx hb dX6_needed_74 ?_
            refine n_top (y := nI (nedN f1 sN (wN + 1))) (by rw [nedN, if_pos ⟨fun z => c2 (prI_iff.mpr z), prI_iff.mp c3⟩]) ?_
            refine lv_istore_n (lv' := [(2, .int (nI (nedN f1 sN (wN + 1)))), (0, .ref (a 0)), (1, .int (nI sN)), (3, .int (nI wN))]) hx hb dX6_needed_75 rfl hl (by decide) rfl (fun ls hl => ?_)
            refine lv_iinc (v := nI (wN + 1)) (lv' := [(3, .int (nI (wN + 1))), (2, .int (nI (nedN f1 sN (wN + 1)))), (0, .ref (a 0)), (1, .int (nI sN))]) hx hb dX6_needed_76 hl (k := 3) rfl (nI_add _ 1) (by decide) rfl (fun ls hl => ?_)
            refine lv_goto (tgt := 26) hx hb dX6_needed_79 (by decide) ?_
            exact ih_lp (wN + 1) g6 (by omega) (by omega) _ _ hH ls (lv_sub hl [2, 3, 1, 0] rfl)
  exact lp _ 0 f6 (Nat.zero_le _) (Nat.lt_succ_self _) _ _ hH ls (lv_sub hl [2, 3, 1, 0] rfl)
theorem hdv_X6_allPresses : yX6_allPresses.cls = RX6 ∧ yX6_allPresses.cls ≠ "java/lang/invoke/MethodHandle" ∧ yX6_allPresses.cls ≠ "java/lang/invoke/VarHandle" ∧ (parseMethodDescriptor yX6_allPresses.desc).map (fun d => d.parameters.length) = some 0 := by decide +kernel
theorem c_X6_allPresses (hE : EnvOK G E) (hR : ROk f1) : MU vI l G E yX6_allPresses cX6_allPresses 4 (some .int) 5 0 0 [.ref (a 0)] (mw G a x4 x5 x7 x8 x11 x15 f1 f2 f3 f4 f5 f6 f7 f8 f9 f10 f11 h ++ wr) (fun r w => ∃ g6, r = nI (apN f1 (frM f1) (nW f1)) ∧ w = mw G a x4 x5 x7 x8 x11 x15 f1 f2 f3 f4 f5 g6 f7 f8 f9 f10 f11 h ++ wr) := by
  refine MUi hE (by decide) (Nat.le_of_ble_eq_true rfl) (fun pR eV sT mI below meth cd QQ ls X hH hl ret => ?_)
  obtain ⟨⟨hx, hb, hml, hown, hts⟩, ⟨hr, hlk⟩, -, -, -⟩ := id X
  have hl : lv_has ls 4 [(0, .ref (a 0))] := hl
  refine wgen (H := sT.heap) (locs := []) hH (fun H locs hH => ?_)
  have hm7 := hR.w1
  refine lv_iconst (v := nI 0) hx hb dX6_allPresses_0 (by decide) ?_
  refine lv_istore_n (lv' := [(1, .int (nI 0)), (0, .ref (a 0))]) hx hb dX6_allPresses_1 rfl hl (by decide) rfl (fun ls hl => ?_)
  refine lv_iconst (v := nI 0) hx hb dX6_allPresses_2 (by decide) ?_
  refine lv_istore_n (lv' := [(2, .int (nI 0)), (1, .int (nI 0)), (0, .ref (a 0))]) hx hb dX6_allPresses_3 rfl hl (by decide) rfl (fun ls hl => ?_)
  have hl : lv_has ls 4 [(2, .int (nI 0)), (1, .int (nI (apN f1 (frM f1) 0))), (0, .ref (a 0))] := by rw [← (show (nI 0 : Int32) = nI (apN f1 (frM f1) 0) from rfl)]; exact hl
  have lp : ∀ (fu : Nat) (wN : Nat) (f6v : Nat → Int32), (wN ≤ nW f1) → nW f1 - wN < fu → ∀ (H : Heap) (locs : List Loc), HH G sT (mw G a x4 x5 x7 x8 x11 x15 f1 f2 f3 f4 f5 f6v f7 f8 f9 f10 f11 h ++ wr) H locs → ∀ ls : Array Slot, lv_has ls 4 [(0, .ref (a 0)), (1, .int (nI (apN f1 (frM f1) wN))), (2, .int (nI wN))] → W pR l eV (Rm 5 0 0) sT mI ([.ref (a 0)] : List Value).toArray below meth cd H locs 0 0 QQ (F0 mI 4 ls []) := by
    intro fu
    induction fu with
    | zero => intro wN f6v hk hm; exact absurd hm (Nat.not_lt_zero _)
    | succ fu ih_lp =>
      intro wN f6v hk hm H locs hH ls hl
      refine lv_iload_n hx hb dX6_allPresses_4 rfl (lv_at hl 2 rfl) ?_
      refine lv_aload_n hx hb dX6_allPresses_5 rfl (lv_at hl 0 rfl) ?_
      refine m_g0 X hH.mp dX6_allPresses_6 ?_
      refine lv_iconst (v := nI 1) hx hb dX6_allPresses_9 (by decide) ?_
      refine m_ld1 X hH.mp (by omega) dX6_allPresses_10 ?_
      refine n_top (y := nI (nW f1)) (hR.w0) ?_
      refine n_icmp_ge (tgt := 44) hx hb (by omega) (by omega) dX6_allPresses_11 (by decide) (fun c1 => ?_) (fun c1 => ?_)
      · refine lv_iload_n hx hb dX6_allPresses_44 rfl (lv_at hl 1 rfl) ?_
        exact ret _ _ _ _ _ _ _ _ hH (⟨f6v, by rw [show nW f1 = wN by omega], rfl⟩) (Nat.le_refl _) (Nat.le_refl _) dX6_allPresses_45
      · refine lv_aload_n hx hb dX6_allPresses_14 rfl (lv_at hl 0 rfl) ?_
        refine lv_iload_n hx hb dX6_allPresses_15 rfl (lv_at hl 2 rfl) ?_
        refine lv_aload_n hx hb dX6_allPresses_16 rfl (lv_at hl 0 rfl) ?_
        refine m_R (c_X6_fresh hE hR) X hH.2 hH.mp (lw_V q1633 q1635 qs39 q72 q1636) hdv_X6_fresh ⟨Nat.le_of_ble_eq_true rfl, Nat.le_of_ble_eq_true rfl⟩ ⟨Nat.le_refl _, Nat.le_refl _⟩ rfl hl.1 rfl (Nat.le_of_ble_eq_true rfl) dX6_allPresses_17 ?_
        refine m_Mi (c_X6_presses (mk := frM f1) hE hR c1) X hH (lw_V q1637 q1639 qs40 q72 q1640) hdv_X6_presses ⟨Nat.le_of_ble_eq_true rfl, Nat.le_of_ble_eq_true rfl⟩ ⟨Nat.le_refl _, Nat.le_refl _⟩ rfl hl.1 rfl (Nat.le_of_ble_eq_true rfl) dX6_allPresses_20 (fun r w H locs hq hH => ?_)
        obtain ⟨g6, -, rfl, rfl⟩ := hq
        refine lv_istore_n (lv' := [(3, .int (prI f1 wN (frM f1))), (0, .ref (a 0)), (1, .int (nI (apN f1 (frM f1) wN))), (2, .int (nI wN))]) hx hb dX6_allPresses_23 rfl hl (by decide) rfl (fun ls hl => ?_)
        refine lv_iload_n hx hb dX6_allPresses_24 rfl (lv_at hl 2 rfl) ?_
        refine lv_iload_n hx hb dX6_allPresses_25 rfl (lv_at hl 0 rfl) ?_
        refine lv_iconst (v := (-1)) hx hb dX6_allPresses_26 (by decide) ?_
        refine lv_icmp_ne (tgt := 35) hx hb dX6_allPresses_27 (by decide) (fun c2 => ?_) (fun c2 => ?_)
        · refine lv_iload_n hx hb dX6_allPresses_35 rfl (lv_at hl 0 rfl) ?_
          refine n_top (y := nI (pr f1 wN (frM f1))) (by unfold prI; rw [if_neg (fun z => c2 (prI_iff.mpr z))]) ?_
          refine n_iadd hx hb dX6_allPresses_36 ?_
          refine n_top (y := nI (apN f1 (frM f1) (wN + 1))) (rfl) ?_
          refine lv_istore_n (lv' := [(1, .int (nI (apN f1 (frM f1) (wN + 1)))), (3, .int (prI f1 wN (frM f1))), (0, .ref (a 0)), (2, .int (nI wN))]) hx hb dX6_allPresses_37 rfl hl (by decide) rfl (fun ls hl => ?_)
          refine lv_iinc (v := nI (wN + 1)) (lv' := [(2, .int (nI (wN + 1))), (1, .int (nI (apN f1 (frM f1) (wN + 1)))), (3, .int (prI f1 wN (frM f1))), (0, .ref (a 0))]) hx hb dX6_allPresses_38 hl (k := 3) rfl (nI_add _ 1) (by decide) rfl (fun ls hl => ?_)
          refine lv_goto (tgt := 4) hx hb dX6_allPresses_41 (by decide) ?_
          exact ih_lp (wN + 1) g6 (by omega) (by omega) _ _ hH ls (lv_sub hl [3, 1, 0] rfl)
        · refine lv_bipush (v := nI 100) hx hb dX6_allPresses_30 (by decide) ?_
          refine lv_goto (tgt := 36) hx hb dX6_allPresses_32 (by decide) ?_
          refine n_top (y := nI (pr f1 wN (frM f1))) (by rw [prI_iff.mp c2]) ?_
          refine n_iadd hx hb dX6_allPresses_36 ?_
          refine n_top (y := nI (apN f1 (frM f1) (wN + 1))) (rfl) ?_
          refine lv_istore_n (lv' := [(1, .int (nI (apN f1 (frM f1) (wN + 1)))), (3, .int (prI f1 wN (frM f1))), (0, .ref (a 0)), (2, .int (nI wN))]) hx hb dX6_allPresses_37 rfl hl (by decide) rfl (fun ls hl => ?_)
          refine lv_iinc (v := nI (wN + 1)) (lv' := [(2, .int (nI (wN + 1))), (1, .int (nI (apN f1 (frM f1) (wN + 1)))), (3, .int (prI f1 wN (frM f1))), (0, .ref (a 0))]) hx hb dX6_allPresses_38 hl (k := 3) rfl (nI_add _ 1) (by decide) rfl (fun ls hl => ?_)
          refine lv_goto (tgt := 4) hx hb dX6_allPresses_41 (by decide) ?_
          exact ih_lp (wN + 1) g6 (by omega) (by omega) _ _ hH ls (lv_sub hl [3, 1, 0] rfl)
  exact lp _ 0 f6 (Nat.zero_le _) (Nat.lt_succ_self _) _ _ hH ls (lv_sub hl [2, 1, 0] rfl)
theorem hdv_X6_lettersPerPress : yX6_lettersPerPress.cls = RX6 ∧ yX6_lettersPerPress.cls ≠ "java/lang/invoke/MethodHandle" ∧ yX6_lettersPerPress.cls ≠ "java/lang/invoke/VarHandle" ∧ (parseMethodDescriptor yX6_lettersPerPress.desc).map (fun d => d.parameters.length) = some 0 := by decide +kernel
theorem c_X6_lettersPerPress (hE : EnvOK G E) (hR : ROk f1) : MU vD l G E yX6_lettersPerPress cX6_lettersPerPress 5 (some .double) 5 0 0 [.ref (a 0)] (mw G a x4 x5 x7 x8 x11 x15 f1 f2 f3 f4 f5 f6 f7 f8 f9 f10 f11 h ++ wr) (fun r w => ∃ g6, r = lppD f1 ∧ w = mw G a x4 (nI 0) x7 x8 x11 x15 f1 f2 f3 f4 f5 g6 f7 f8 f9 f10 f11 h ++ wr) := by
  refine MUd hE (by decide) (Nat.le_of_ble_eq_true rfl) (fun pR eV sT mI below meth cd QQ ls X hH hl ret => ?_)
  obtain ⟨⟨hx, hb, hml, hown, hts⟩, ⟨hr, hlk⟩, -, -, -⟩ := id X
  have hl : lv_has ls 5 [(0, .ref (a 0))] := hl
  refine wgen (H := sT.heap) (locs := []) hH (fun H locs hH => ?_)
  have hm7 := hR.w1
  refine lv_aload_n hx hb dX6_lettersPerPress_0 rfl (lv_at hl 0 rfl) ?_
  refine lv_iconst (v := nI 0) hx hb dX6_lettersPerPress_1 (by decide) ?_
  refine m_p5 X hH dX6_lettersPerPress_2 (fun H locs hH => ?_)
  refine lv_iconst (v := nI 0) hx hb dX6_lettersPerPress_5 (by decide) ?_
  refine lv_istore_n (lv' := [(1, .int (nI 0)), (0, .ref (a 0))]) hx hb dX6_lettersPerPress_6 rfl hl (by decide) rfl (fun ls hl => ?_)
  refine lv_iconst (v := nI 0) hx hb dX6_lettersPerPress_7 (by decide) ?_
  refine lv_istore_n (lv' := [(2, .int (nI 0)), (1, .int (nI 0)), (0, .ref (a 0))]) hx hb dX6_lettersPerPress_8 rfl hl (by decide) rfl (fun ls hl => ?_)
  refine lv_iconst (v := nI 0) hx hb dX6_lettersPerPress_9 (by decide) ?_
  refine lv_istore_n (lv' := [(3, .int (nI 0)), (2, .int (nI 0)), (1, .int (nI 0)), (0, .ref (a 0))]) hx hb dX6_lettersPerPress_10 rfl hl (by decide) rfl (fun ls hl => ?_)
  have hl : lv_has ls 5 [(3, .int (nI 0)), (2, .int (nI 0)), (1, .int (nI (lppL f1 (frM f1) 0))), (0, .ref (a 0))] := by rw [← (show (nI 0 : Int32) = nI (lppL f1 (frM f1) 0) from rfl)]; exact hl
  have hl : lv_has ls 5 [(3, .int (nI 0)), (2, .int (nI (lppP f1 (frM f1) 0))), (1, .int (nI (lppL f1 (frM f1) 0))), (0, .ref (a 0))] := by rw [← (show (nI 0 : Int32) = nI (lppP f1 (frM f1) 0) from rfl)]; exact hl
  have lp : ∀ (fu : Nat) (wN : Nat) (f6v : Nat → Int32), (wN ≤ nW f1) → nW f1 - wN < fu → ∀ (H : Heap) (locs : List Loc), HH G sT (mw G a x4 (nI 0) x7 x8 x11 x15 f1 f2 f3 f4 f5 f6v f7 f8 f9 f10 f11 h ++ wr) H locs → ∀ ls : Array Slot, lv_has ls 5 [(0, .ref (a 0)), (1, .int (nI (lppL f1 (frM f1) wN))), (2, .int (nI (lppP f1 (frM f1) wN))), (3, .int (nI wN))] → W pR l eV (Rm 5 0 0) sT mI ([.ref (a 0)] : List Value).toArray below meth cd H locs 0 0 QQ (F0 mI 11 ls []) := by
    intro fu
    induction fu with
    | zero => intro wN f6v hk hm; exact absurd hm (Nat.not_lt_zero _)
    | succ fu ih_lp =>
      intro wN f6v hk hm H locs hH ls hl
      refine lv_iload_n hx hb dX6_lettersPerPress_11 rfl (lv_at hl 3 rfl) ?_
      refine lv_aload_n hx hb dX6_lettersPerPress_12 rfl (lv_at hl 0 rfl) ?_
      refine m_g0 X hH.mp dX6_lettersPerPress_13 ?_
      refine lv_iconst (v := nI 1) hx hb dX6_lettersPerPress_16 (by decide) ?_
      refine m_ld1 X hH.mp (by omega) dX6_lettersPerPress_17 ?_
      refine n_top (y := nI (nW f1)) (hR.w0) ?_
      refine n_icmp_ge (tgt := 75) hx hb (by omega) (by omega) dX6_lettersPerPress_18 (by decide) (fun c1 => ?_) (fun c1 => ?_)
      · have hwe : nW f1 = wN := by omega
        have hl1 := lppL_le hR (m := frM f1) wN hk
        have hl2 := lppP_le hR (m := frM f1) wN hk
        refine lv_iload_n hx hb dX6_lettersPerPress_75 rfl (lv_at hl 2 rfl) ?_
        refine lv_if_ne (tgt := 83) hx hb dX6_lettersPerPress_76 (by decide) (fun c2 => ?_) (fun c2 => ?_)
        · have hp0 : ¬ lppP f1 (frM f1) wN = 0 := fun z => c2 (by rw [z]; rfl)
          refine lv_iload_n hx hb dX6_lettersPerPress_83 rfl (lv_at hl 1 rfl) ?_
          refine lv_i2d hx hb dX6_lettersPerPress_84 ?_
          refine lv_iload_n hx hb dX6_lettersPerPress_85 rfl (lv_at hl 2 rfl) ?_
          refine lv_i2d hx hb dX6_lettersPerPress_86 ?_
          refine lv_ddiv hx hb dX6_lettersPerPress_87 (dv_ok (by omega) (by omega) (by omega)) ?_
          exact ret _ _ _ _ _ _ _ _ hH (⟨f6v, by unfold lppD; rw [hwe, if_neg hp0], rfl⟩) (Nat.le_refl _) (Nat.le_refl _) dX6_lettersPerPress_88
        · refine lv_dconst0 hx hb dX6_lettersPerPress_79 ?_
          refine lv_goto (tgt := 88) hx hb dX6_lettersPerPress_80 (by decide) ?_
          exact ret _ _ _ _ _ _ _ _ hH (⟨f6v, by unfold lppD; rw [hwe, if_pos ((nI_eq (by omega) (by decide)).mp c2)], rfl⟩) (Nat.le_refl _) (Nat.le_refl _) dX6_lettersPerPress_88
      · refine lv_aload_n hx hb dX6_lettersPerPress_21 rfl (lv_at hl 0 rfl) ?_
        refine lv_iload_n hx hb dX6_lettersPerPress_22 rfl (lv_at hl 3 rfl) ?_
        refine lv_aload_n hx hb dX6_lettersPerPress_23 rfl (lv_at hl 0 rfl) ?_
        refine m_R (c_X6_fresh hE hR) X hH.2 hH.mp (lw_V q1633 q1635 qs39 q72 q1636) hdv_X6_fresh ⟨Nat.le_of_ble_eq_true rfl, Nat.le_of_ble_eq_true rfl⟩ ⟨Nat.le_refl _, Nat.le_refl _⟩ rfl hl.1 rfl (Nat.le_of_ble_eq_true rfl) dX6_lettersPerPress_24 ?_
        refine m_Mi (c_X6_presses (mk := frM f1) hE hR c1) X hH (lw_V q1637 q1639 qs40 q72 q1640) hdv_X6_presses ⟨Nat.le_of_ble_eq_true rfl, Nat.le_of_ble_eq_true rfl⟩ ⟨Nat.le_refl _, Nat.le_refl _⟩ rfl hl.1 rfl (Nat.le_of_ble_eq_true rfl) dX6_lettersPerPress_27 (fun r w H locs hq hH => ?_)
        obtain ⟨g6, -, rfl, rfl⟩ := hq
        refine lv_istore (lv' := [(4, .int (prI f1 wN (frM f1))), (0, .ref (a 0)), (1, .int (nI (lppL f1 (frM f1) wN))), (2, .int (nI (lppP f1 (frM f1) wN))), (3, .int (nI wN))]) hx hb dX6_lettersPerPress_30 hl (by decide) rfl (fun ls hl => ?_)
        refine lv_iload_n hx hb dX6_lettersPerPress_32 rfl (lv_at hl 2 rfl) ?_
        refine lv_iload hx hb dX6_lettersPerPress_33 (lv_at hl 0 rfl) ?_
        refine lv_iconst (v := (-1)) hx hb dX6_lettersPerPress_35 (by decide) ?_
        refine lv_icmp_ne (tgt := 43) hx hb dX6_lettersPerPress_36 (by decide) (fun c2 => ?_) (fun c2 => ?_)
        · have hne : ¬ pr f1 wN (frM f1) = 100 := fun z => c2 (prI_iff.mpr z)
          refine lv_aload_n hx hb dX6_lettersPerPress_43 rfl (lv_at hl 1 rfl) ?_
          refine m_g0 X hH.mp dX6_lettersPerPress_44 ?_
          refine lv_iload_n hx hb dX6_lettersPerPress_47 rfl (lv_at hl 4 rfl) ?_
          refine m_S (c_X6_wordAt hE) X hH.2 (lw_S q1562 q1563 q72 q1564) hds_X6_wordAt ⟨Nat.le_of_ble_eq_true rfl, Nat.le_of_ble_eq_true rfl⟩ ⟨Nat.le_refl _, Nat.le_refl _⟩ rfl hl.1 rfl (Nat.le_of_ble_eq_true rfl) dX6_lettersPerPress_48 ?_
          refine m_ld1 X hH.mp (by omega) dX6_lettersPerPress_51 ?_
          refine n_top (y := nI (wL f1 wN)) (hR.wl c1) ?_
          refine n_iadd hx hb dX6_lettersPerPress_52 ?_
          refine n_top (y := nI (lppL f1 (frM f1) (wN + 1))) (by rw [lppL, if_neg hne]) ?_
          refine lv_istore_n (lv' := [(1, .int (nI (lppL f1 (frM f1) (wN + 1)))), (4, .int (prI f1 wN (frM f1))), (0, .ref (a 0)), (2, .int (nI (lppP f1 (frM f1) wN))), (3, .int (nI wN))]) hx hb dX6_lettersPerPress_53 rfl hl (by decide) rfl (fun ls hl => ?_)
          refine lv_iload_n hx hb dX6_lettersPerPress_54 rfl (lv_at hl 3 rfl) ?_
          refine lv_iload hx hb dX6_lettersPerPress_55 (lv_at hl 1 rfl) ?_
          refine lv_iconst (v := (-1)) hx hb dX6_lettersPerPress_57 (by decide) ?_
          refine lv_icmp_ne (tgt := 65) hx hb dX6_lettersPerPress_58 (by decide) (fun c3 => ?_) (fun c3 => absurd c3 c2)
          refine lv_iload hx hb dX6_lettersPerPress_65 (lv_at hl 1 rfl) ?_
          refine n_top (y := nI (pr f1 wN (frM f1))) (by unfold prI; rw [if_neg hne]) ?_
          refine n_iadd hx hb dX6_lettersPerPress_67 ?_
          refine n_top (y := nI (lppP f1 (frM f1) (wN + 1))) (by rw [lppP, if_neg hne]) ?_
          refine lv_istore_n (lv' := [(2, .int (nI (lppP f1 (frM f1) (wN + 1)))), (1, .int (nI (lppL f1 (frM f1) (wN + 1)))), (4, .int (prI f1 wN (frM f1))), (0, .ref (a 0)), (3, .int (nI wN))]) hx hb dX6_lettersPerPress_68 rfl hl (by decide) rfl (fun ls hl => ?_)
          refine lv_iinc (v := nI (wN + 1)) (lv' := [(3, .int (nI (wN + 1))), (2, .int (nI (lppP f1 (frM f1) (wN + 1)))), (1, .int (nI (lppL f1 (frM f1) (wN + 1)))), (4, .int (prI f1 wN (frM f1))), (0, .ref (a 0))]) hx hb dX6_lettersPerPress_69 hl (k := 4) rfl (nI_add _ 1) (by decide) rfl (fun ls hl => ?_)
          refine lv_goto (tgt := 11) hx hb dX6_lettersPerPress_72 (by decide) ?_
          exact ih_lp (wN + 1) g6 (by omega) (by omega) _ _ hH ls (lv_sub hl [4, 2, 1, 0] rfl)
        · have he : pr f1 wN (frM f1) = 100 := prI_iff.mp c2
          refine lv_iconst (v := nI 0) hx hb dX6_lettersPerPress_39 (by decide) ?_
          refine lv_goto (tgt := 52) hx hb dX6_lettersPerPress_40 (by decide) ?_
          refine n_iadd hx hb dX6_lettersPerPress_52 ?_
          refine n_top (y := nI (lppL f1 (frM f1) (wN + 1))) (by rw [lppL, if_pos he]) ?_
          refine lv_istore_n (lv' := [(1, .int (nI (lppL f1 (frM f1) (wN + 1)))), (4, .int (prI f1 wN (frM f1))), (0, .ref (a 0)), (2, .int (nI (lppP f1 (frM f1) wN))), (3, .int (nI wN))]) hx hb dX6_lettersPerPress_53 rfl hl (by decide) rfl (fun ls hl => ?_)
          refine lv_iload_n hx hb dX6_lettersPerPress_54 rfl (lv_at hl 3 rfl) ?_
          refine lv_iload hx hb dX6_lettersPerPress_55 (lv_at hl 1 rfl) ?_
          refine lv_iconst (v := (-1)) hx hb dX6_lettersPerPress_57 (by decide) ?_
          refine lv_icmp_ne (tgt := 65) hx hb dX6_lettersPerPress_58 (by decide) (fun c3 => absurd c2 c3) (fun c3 => ?_)
          refine lv_iconst (v := nI 0) hx hb dX6_lettersPerPress_61 (by decide) ?_
          refine lv_goto (tgt := 67) hx hb dX6_lettersPerPress_62 (by decide) ?_
          refine n_iadd hx hb dX6_lettersPerPress_67 ?_
          refine n_top (y := nI (lppP f1 (frM f1) (wN + 1))) (by rw [lppP, if_pos he]) ?_
          refine lv_istore_n (lv' := [(2, .int (nI (lppP f1 (frM f1) (wN + 1)))), (1, .int (nI (lppL f1 (frM f1) (wN + 1)))), (4, .int (prI f1 wN (frM f1))), (0, .ref (a 0)), (3, .int (nI wN))]) hx hb dX6_lettersPerPress_68 rfl hl (by decide) rfl (fun ls hl => ?_)
          refine lv_iinc (v := nI (wN + 1)) (lv' := [(3, .int (nI (wN + 1))), (2, .int (nI (lppP f1 (frM f1) (wN + 1)))), (1, .int (nI (lppL f1 (frM f1) (wN + 1)))), (4, .int (prI f1 wN (frM f1))), (0, .ref (a 0))]) hx hb dX6_lettersPerPress_69 hl (k := 4) rfl (nI_add _ 1) (by decide) rfl (fun ls hl => ?_)
          refine lv_goto (tgt := 11) hx hb dX6_lettersPerPress_72 (by decide) ?_
          exact ih_lp (wN + 1) g6 (by omega) (by omega) _ _ hH ls (lv_sub hl [4, 2, 1, 0] rfl)
  exact lp _ 0 f6 (Nat.zero_le _) (Nat.lt_succ_self _) _ _ hH ls (lv_sub hl [3, 2, 1, 0] rfl)
end
