/-! MODEL, methods 4: the plan -/
/-! SPEC 2: the plan itself: at each place the first press that is fit and lies on a shortest way -/
def okP (R : Nat → Int32) (w : Nat) (m : Int32) (f p : Nat) : Bool := bitB m (p / 2) && decide (f + sL R (p / 2) ≤ wL R w) && decide (lf R w m (f + sL R (p / 2)) + 1 = lf R w m f) && (!decide (p % 2 = 1) || cntB R (p / 2)) && fitB R w f (p / 2) (decide (p % 2 = 1))
def fstP (P : Nat → Bool) : Nat → Nat
  | 0 => 0
  | n + 1 => if fstP P n = n then (if P n then n else n + 1) else fstP P n
theorem fstP_spec {P : Nat → Bool} : ∀ n, fstP P n ≤ n ∧ (∀ q, q < fstP P n → P q = false) ∧ (fstP P n < n → P (fstP P n) = true) := by
  intro n
  induction n with
  | zero => exact ⟨Nat.le_refl _, fun q h => absurd h (Nat.not_lt_zero q), fun h => absurd h (Nat.lt_irrefl _)⟩
  | succ n ih =>
    obtain ⟨h1, h2, h3⟩ := ih
    rw [fstP]
    split
    · next e =>
      split
      · next ep => exact ⟨by omega, fun q hq => h2 q (by omega), fun _ => ep⟩
      · next ep =>
        refine ⟨Nat.le_refl _, fun q hq => ?_, fun h => absurd h (Nat.lt_irrefl _)⟩
        rcases Nat.lt_or_ge q n with c | c
        · exact h2 q (by omega)
        · have : q = n := by omega
          rw [this]; exact Bool.eq_false_iff.mpr ep
    · next e => exact ⟨by omega, h2, fun _ => h3 (by omega)⟩
theorem fstP_eq {P : Nat → Bool} {n p : Nat} (h : p < n) (hp : P p = true) (hq : ∀ q, q < p → P q = false) : fstP P n = p := by
  obtain ⟨h1, h2, h3⟩ := fstP_spec (P := P) n
  rcases Nat.lt_trichotomy (fstP P n) p with c | c | c
  · have := h3 (by omega)
    rw [hq _ c] at this; cases this
  · exact c
  · have := h2 p c
    rw [hp] at this; cases this
def pP (R : Nat → Int32) (w : Nat) (m : Int32) (f : Nat) : Nat := fstP (okP R w m f) 22
def posF (R : Nat → Int32) (w : Nat) (m : Int32) : Nat → Nat
  | 0 => 0
  | i + 1 => posF R w m i + sL R (pP R w m (posF R w m i) / 2)
def plP (R : Nat → Int32) (w : Nat) (m : Int32) (i : Nat) : Nat := pP R w m (posF R w m i)
/-- how many presses the plan has: none without a plan -/
def pmN (R : Nat → Int32) (w : Nat) (m : Int32) : Nat := if pr R w m = 100 then 0 else pr R w m
theorem prI_iff {R : Nat → Int32} {w : Nat} {m : Int32} : prI R w m = -1 ↔ pr R w m = 100 := by
  have h : pr R w m ≤ 100 := lf_le
  unfold prI
  constructor
  · intro e
    split at e
    · assumption
    · exact absurd (show nI (pr R w m) < 0 by rw [e]; decide) (nI_pos (by omega))
  · intro e
    rw [if_pos e]
theorem bst_pos {R : Nat → Int32} {w : Nat} {m : Int32} {L : Nat → Nat} {f : Nat} : ∀ s, 1 ≤ bst R w m L f s := by
  intro s
  induction s with
  | zero => exact Nat.le_of_ble_eq_true rfl
  | succ s ih => rw [bst]; split <;> omega
theorem bst_wit {R : Nat → Int32} {w : Nat} {m : Int32} {L : Nat → Nat} {f : Nat} : ∀ s, bst R w m L f s < 100 → ∃ q, q < s ∧ bitB m q = true ∧ anyB R w f q = true ∧ bst R w m L f s = L (f + sL R q) + 1 := by
  intro s
  induction s with
  | zero => intro h; exact absurd h (Nat.lt_irrefl 100)
  | succ s ih =>
    intro h
    rw [bst] at h ⊢
    split at h
    · next e =>
      rw [Bool.and_eq_true, Bool.and_eq_true] at e
      rw [if_pos (by rw [Bool.and_eq_true, Bool.and_eq_true]; exact e)]
      exact ⟨s, by omega, e.1.1, e.1.2, rfl⟩
    · next e =>
      rw [if_neg e]
      obtain ⟨q, h1, h2⟩ := ih h
      exact ⟨q, by omega, h2⟩
theorem lf_pos {R : Nat → Int32} (hR : ROk R) {w : Nat} {m : Int32} {k : Nat} (h : k < wL R w) : 1 ≤ lf R w m k := by
  rw [lf_eq hR h]; exact bst_pos _
theorem pP_ok {R : Nat → Int32} (hR : ROk R) {w : Nat} {m : Int32} {f : Nat} (h : f < wL R w) (h1 : lf R w m f < 100) : pP R w m f < 2 * nS R ∧ okP R w m f (pP R w m f) = true := by
  have e := lf_eq hR (m := m) h
  rw [e] at h1
  obtain ⟨q, hq, hb, ha, hv⟩ := bst_wit _ h1
  have hle := anyB_le ha
  have hs := hR.s1
  have key : ∃ p, p < 2 * nS R ∧ okP R w m f p = true := by
    cases e1 : fitB R w f q false with
    | true =>
      refine ⟨2 * q, by omega, ?_⟩
      unfold okP
      rw [show 2 * q / 2 = q by omega, show 2 * q % 2 = 0 by omega, hb, e, hv]
      simp [hle, e1]
    | false =>
      unfold anyB at ha
      rw [e1, Bool.false_or, Bool.and_eq_true] at ha
      refine ⟨2 * q + 1, by omega, ?_⟩
      unfold okP
      rw [show (2 * q + 1) / 2 = q by omega, show (2 * q + 1) % 2 = 1 by omega, hb, e, hv]
      simp [hle, ha.1, ha.2]
  obtain ⟨p, hp, ho⟩ := key
  obtain ⟨s1, s2, s3⟩ := fstP_spec (P := okP R w m f) 22
  have hle2 : fstP (okP R w m f) 22 ≤ p := by
    rcases Nat.lt_or_ge p (fstP (okP R w m f) 22) with c | c
    · have := s2 p c
      rw [ho] at this; cases this
    · exact c
  exact ⟨Nat.lt_of_le_of_lt hle2 hp, s3 (by omega)⟩
theorem okP_le {R : Nat → Int32} {w : Nat} {m : Int32} {f p : Nat} (h : okP R w m f p = true) : f + sL R (p / 2) ≤ wL R w ∧ lf R w m (f + sL R (p / 2)) + 1 = lf R w m f := by
  unfold okP at h
  simp only [Bool.and_eq_true, decide_eq_true_eq] at h
  exact ⟨h.1.1.1.2, h.1.1.2⟩
theorem plan_inv {R : Nat → Int32} (hR : ROk R) {w : Nat} {m : Int32} (h : pr R w m ≠ 100) : ∀ i, i ≤ pr R w m → posF R w m i ≤ wL R w ∧ lf R w m (posF R w m i) + i = pr R w m := by
  have hp : pr R w m ≤ 100 := lf_le
  intro i
  induction i with
  | zero => intro _; exact ⟨Nat.zero_le _, rfl⟩
  | succ i ih =>
    intro hi
    obtain ⟨h1, h2⟩ := ih (by omega)
    have hlt : posF R w m i < wL R w := by
      rcases Nat.lt_or_ge (posF R w m i) (wL R w) with c | c
      · exact c
      · rw [lf_end c] at h2; omega
    obtain ⟨_, ho⟩ := pP_ok hR (m := m) hlt (by omega)
    obtain ⟨h3, h4⟩ := okP_le ho
    exact ⟨h3, by show lf R w m (posF R w m i + sL R (pP R w m (posF R w m i) / 2)) + (i + 1) = _; omega⟩
theorem posF_lt {R : Nat → Int32} (hR : ROk R) {w : Nat} {m : Int32} (h : pr R w m ≠ 100) {i : Nat} (hi : i < pr R w m) : posF R w m i < wL R w := by
  obtain ⟨h1, h2⟩ := plan_inv hR h i (Nat.le_of_lt hi)
  rcases Nat.lt_or_ge (posF R w m i) (wL R w) with c | c
  · exact c
  · rw [lf_end c] at h2; omega
theorem posF_end {R : Nat → Int32} (hR : ROk R) {w : Nat} {m : Int32} (h : pr R w m ≠ 100) : posF R w m (pr R w m) = wL R w := by
  obtain ⟨h1, h2⟩ := plan_inv hR h _ (Nat.le_refl _)
  rcases Nat.lt_or_ge (posF R w m (pr R w m)) (wL R w) with c | c
  · have := lf_pos hR (m := m) c
    omega
  · omega
theorem plP_ok {R : Nat → Int32} (hR : ROk R) {w : Nat} {m : Int32} (h : pr R w m ≠ 100) {i : Nat} (hi : i < pr R w m) : plP R w m i < 2 * nS R ∧ okP R w m (posF R w m i) (plP R w m i) = true := by
  obtain ⟨_, h2⟩ := plan_inv hR h i (Nat.le_of_lt hi)
  have hp : pr R w m ≤ 100 := lf_le
  exact pP_ok hR (posF_lt hR h hi) (by omega)
theorem posF_step {R : Nat → Int32} (hR : ROk R) {w : Nat} {m : Int32} (h : pr R w m ≠ 100) : ∀ i, i ≤ pr R w m → i ≤ posF R w m i := by
  intro i
  induction i with
  | zero => intro _; exact Nat.zero_le _
  | succ i ih =>
    intro hi
    have h1 := ih (by omega)
    have h2 := (plP_ok hR h (i := i) (by omega)).1
    have h3 := (hR.sl1 (s := plP R w m i / 2) (by omega)).1
    show i + 1 ≤ posF R w m i + sL R (plP R w m i / 2)
    omega
theorem pr_le {R : Nat → Int32} (hR : ROk R) {w : Nat} {m : Int32} (h : pr R w m ≠ 100) : pr R w m ≤ wL R w := by
  have h1 := posF_step hR h _ (Nat.le_refl _)
  rw [posF_end hR h] at h1
  exact h1
theorem pmN_le {R : Nat → Int32} (hR : ROk R) {w : Nat} {m : Int32} : pmN R w m ≤ wL R w := by
  unfold pmN
  split
  · exact Nat.zero_le _
  · next h => exact pr_le hR h
section
variable {l : Launch} {G : GG} {E : State → Prop} {a : Nat → Nat} {x4 x5 x7 x8 x11 x15 : Int32} {f1 f2 f3 f4 f5 f6 f7 f8 f9 f10 f11 : Nat → Int32} {h : Int64} {wr : va_W}
theorem hdv_X6_plans : yX6_plans.cls = RX6 ∧ yX6_plans.cls ≠ "java/lang/invoke/MethodHandle" ∧ yX6_plans.cls ≠ "java/lang/invoke/VarHandle" ∧ (parseMethodDescriptor yX6_plans.desc).map (fun d => d.parameters.length) = some 2 := by decide +kernel
theorem c_X6_plans (hE : EnvOK G E) {wN : Nat} {mk : Int32} (hR : ROk f1) (hw : wN < nW f1) : MU vI l G E yX6_plans cX6_plans 9 (some .boolean) 5 0 0 [.ref (a 0), .int (nI wN), .int mk] (mw G a x4 x5 x7 x8 x11 x15 f1 f2 f3 f4 f5 f6 f7 f8 f9 f10 f11 h ++ wr) (fun r w => ∃ g6 g7, (∀ k, k ≤ wL f1 wN → g6 k = nI (lf f1 wN mk k)) ∧ (∀ i, i < pmN f1 wN mk → g7 i = nI (plP f1 wN mk i)) ∧ r = bI (decide (pr f1 wN mk ≠ 100)) ∧ w = mw G a x4 x5 x7 x8 (nI (pmN f1 wN mk)) x15 f1 f2 f3 f4 f5 g6 g7 f8 f9 f10 f11 h ++ wr) := by
  refine MUz hE (by decide) (Nat.le_of_ble_eq_true rfl) (fun pR eV sT mI below meth cd QQ ls X hH hl ret => ?_)
  obtain ⟨⟨hx, hb, hml, hown, hts⟩, ⟨hr, hlk⟩, -, -, -⟩ := id X
  have hl : lv_has ls 9 [(0, .ref (a 0)), (1, .int (nI wN)), (2, .int mk)] := hl
  refine wgen (H := sT.heap) (locs := []) hH (fun H locs hH => ?_)
  have hm := hR.s1
  have hw9 := hR.w1
  have hM := hR.wl1 hw
  have hpr : pr f1 wN mk ≤ 100 := lf_le
  refine lv_aload_n hx hb dX6_plans_0 rfl (lv_at hl 0 rfl) ?_
  refine lv_iconst (v := nI 0) hx hb dX6_plans_1 (by decide) ?_
  refine m_p11 X hH dX6_plans_2 (fun H locs hH => ?_)
  refine lv_aload_n hx hb dX6_plans_5 rfl (lv_at hl 0 rfl) ?_
  refine lv_iload_n hx hb dX6_plans_6 rfl (lv_at hl 1 rfl) ?_
  refine lv_iload_n hx hb dX6_plans_7 rfl (lv_at hl 2 rfl) ?_
  refine m_Mi (c_X6_presses hE hR hw) X hH (lw_V q1637 q1639 qs40 q72 q1640) hdv_X6_presses ⟨Nat.le_of_ble_eq_true rfl, Nat.le_of_ble_eq_true rfl⟩ ⟨Nat.le_refl _, Nat.le_refl _⟩ rfl hl.1 rfl (Nat.le_of_ble_eq_true rfl) dX6_plans_8 (fun r w H locs hq hH => ?_)
  obtain ⟨g6, hg6, rfl, rfl⟩ := hq
  refine lv_iconst (v := (-1)) hx hb dX6_plans_11 (by decide) ?_
  refine lv_icmp_ne (tgt := 17) hx hb dX6_plans_12 (by decide) (fun c0 => ?_) (fun c0 => ?_)
  · have hne : pr f1 wN mk ≠ 100 := fun z => c0 (prI_iff.mpr z)
    have hpl := pr_le hR hne
    refine lv_iconst (v := nI 0) hx hb dX6_plans_17 (by decide) ?_
    refine lv_istore_n (lv' := [(3, .int (nI 0)), (0, .ref (a 0)), (1, .int (nI wN)), (2, .int mk)]) hx hb dX6_plans_18 rfl hl (by decide) rfl (fun ls hl => ?_)
    have lp : ∀ (fu : Nat) (iN : Nat) (f7v : Nat → Int32), iN ≤ pr f1 wN mk → (∀ i, i < iN → f7v i = nI (plP f1 wN mk i)) → pr f1 wN mk + 1 - iN < fu → ∀ (H : Heap) (locs : List Loc), HH G sT (mw G a x4 x5 x7 x8 (nI iN) x15 f1 f2 f3 f4 f5 g6 f7v f8 f9 f10 f11 h ++ wr) H locs → ∀ ls : Array Slot, lv_has ls 9 [(0, .ref (a 0)), (1, .int (nI wN)), (2, .int mk), (3, .int (nI (posF f1 wN mk iN)))] → W pR l eV (Rm 5 0 0) sT mI ([.ref (a 0), .int (nI wN), .int mk] : List Value).toArray below meth cd H locs 0 0 QQ (F0 mI 19 ls []) := by
      intro fu
      induction fu with
      | zero => intro iN f7v hi h7 hm; exact absurd hm (Nat.not_lt_zero _)
      | succ fu ih_lp =>
        intro iN f7v hi h7 hm H locs hH ls hl
        obtain ⟨hp1, hp2⟩ := plan_inv hR hne iN hi
        refine lv_iload_n hx hb dX6_plans_19 rfl (lv_at hl 3 rfl) ?_
        refine lv_aload_n hx hb dX6_plans_20 rfl (lv_at hl 0 rfl) ?_
        refine m_g0 X hH.mp dX6_plans_21 ?_
        refine lv_iload_n hx hb dX6_plans_24 rfl (lv_at hl 1 rfl) ?_
        refine m_S (c_X6_wordAt hE) X hH.2 (lw_S q1562 q1563 q72 q1564) hds_X6_wordAt ⟨Nat.le_of_ble_eq_true rfl, Nat.le_of_ble_eq_true rfl⟩ ⟨Nat.le_refl _, Nat.le_refl _⟩ rfl hl.1 rfl (Nat.le_of_ble_eq_true rfl) dX6_plans_25 ?_
        refine m_ld1 X hH.mp (by omega) dX6_plans_28 ?_
        refine n_top (y := nI (wL f1 wN)) (hR.wl hw) ?_
        refine n_icmp_ge (tgt := 203) hx hb (by omega) (by omega) dX6_plans_29 (by decide) (fun c1 => ?_) (fun c1 => ?_)
        · have hiN : iN = pr f1 wN mk := by rw [lf_end c1] at hp2; omega
          refine lv_iconst (v := nI 1) hx hb dX6_plans_203 (by decide) ?_
          refine n_top (y := bI (decide (pr f1 wN mk ≠ 100))) (bI_t (by simp [hne])) ?_
          exact ret _ _ _ _ _ _ _ _ hH (⟨g6, f7v, hg6, fun i hi => h7 i (by unfold pmN at hi; rw [if_neg hne] at hi; omega), rfl, by unfold pmN; rw [if_neg hne, hiN]⟩) (bI_nar _) (Nat.le_refl _) (Nat.le_refl _) dX6_plans_204
        · have hlt : iN < pr f1 wN mk := by rcases Nat.lt_or_ge iN (pr f1 wN mk) with q | q; exact q; exact absurd (posF_end hR hne) (by rw [show pr f1 wN mk = iN by omega]; omega)
          obtain ⟨hk1, hk2⟩ := plP_ok hR hne hlt
          have hk3 := (fstP_spec (P := okP f1 wN mk (posF f1 wN mk iN)) 22).2.1
          have hk4 : pP f1 wN mk (posF f1 wN mk iN) = plP f1 wN mk iN := rfl
          have hk5 : ∀ q, q < plP f1 wN mk iN → okP f1 wN mk (posF f1 wN mk iN) q = false := hk3
          obtain ⟨hk6, hk7⟩ := okP_le hk2
          refine lv_iconst (v := nI 0) hx hb dX6_plans_32 (by decide) ?_
          refine lv_istore (lv' := [(4, .int (nI 0)), (0, .ref (a 0)), (1, .int (nI wN)), (2, .int mk), (3, .int (nI (posF f1 wN mk iN)))]) hx hb dX6_plans_33 hl (by decide) rfl (fun ls hl => ?_)
          refine lv_iconst (v := nI 0) hx hb dX6_plans_35 (by decide) ?_
          refine lv_istore (lv' := [(5, .int (nI 0)), (4, .int (nI 0)), (0, .ref (a 0)), (1, .int (nI wN)), (2, .int mk), (3, .int (nI (posF f1 wN mk iN)))]) hx hb dX6_plans_36 hl (by decide) rfl (fun ls hl => ?_)
          have hl : lv_has ls 9 [(5, .int (bI false)), (4, .int (nI 0)), (0, .ref (a 0)), (1, .int (nI wN)), (2, .int mk), (3, .int (nI (posF f1 wN mk iN)))] := by rw [← (show (nI 0 : Int32) = bI false from rfl)]; exact hl
          have lq : ∀ (fu : Nat) (pN : Nat) (fB : Bool), (fB = false ∧ pN ≤ plP f1 wN mk iN) ∨ (fB = true ∧ pN = plP f1 wN mk iN + 1) → plP f1 wN mk iN + 2 - pN < fu → ∀ (H : Heap) (locs : List Loc), HH G sT (mw G a x4 x5 x7 x8 (nI iN) x15 f1 f2 f3 f4 f5 g6 f7v f8 f9 f10 f11 h ++ wr) H locs → ∀ ls : Array Slot, lv_has ls 9 [(0, .ref (a 0)), (1, .int (nI wN)), (2, .int mk), (3, .int (nI (posF f1 wN mk iN))), (4, .int (nI pN)), (5, .int (bI fB))] → W pR l eV (Rm 5 0 0) sT mI ([.ref (a 0), .int (nI wN), .int mk] : List Value).toArray below meth cd H locs 0 0 QQ (F0 mI 38 ls []) := by
            intro fu
            induction fu with
            | zero => intro pN fB hc hm; exact absurd hm (Nat.not_lt_zero _)
            | succ fu ih_lq =>
              intro pN fB hc hm H locs hH ls hl
              refine lv_iload hx hb dX6_plans_38 (lv_at hl 5 rfl) ?_
              refine b_if_ne (tgt := 160) hx hb dX6_plans_40 (by decide) (fun c2 => ?_) (fun c2 => ?_)
              · have hpN : pN = plP f1 wN mk iN + 1 := by rcases hc with ⟨q, _⟩ | ⟨_, q⟩; exact absurd (q.symm.trans c2) (by decide); exact q
                subst hpN
                refine lv_aload_n hx hb dX6_plans_160 rfl (lv_at hl 0 rfl) ?_
                refine m_g10 X hH.mp dX6_plans_161 ?_
                refine lv_aload_n hx hb dX6_plans_164 rfl (lv_at hl 0 rfl) ?_
                refine m_g11 X hH.mp dX6_plans_165 ?_
                refine lv_iload hx hb dX6_plans_168 (lv_at hl 4 rfl) ?_
                refine lv_iconst (v := nI 1) hx hb dX6_plans_170 (by decide) ?_
                refine n_isub hx hb (by omega) dX6_plans_171 ?_
                refine n_top (y := nI (plP f1 wN mk iN)) (by rw [Nat.add_sub_cancel]) ?_
                have hL := hR.sl1 (s := plP f1 wN mk iN / 2) (by omega)
                refine m_st7 X hH (by omega) dX6_plans_172 (fun f7_1 H locs ef7_1 hH => ?_)
                refine lv_iload_n hx hb dX6_plans_173 rfl (lv_at hl 3 rfl) ?_
                refine lv_aload_n hx hb dX6_plans_174 rfl (lv_at hl 0 rfl) ?_
                refine m_g0 X hH.mp dX6_plans_175 ?_
                refine lv_iload hx hb dX6_plans_178 (lv_at hl 4 rfl) ?_
                refine lv_iconst (v := nI 1) hx hb dX6_plans_180 (by decide) ?_
                refine n_isub hx hb (by omega) dX6_plans_181 ?_
                refine n_top (y := nI (plP f1 wN mk iN)) (by rw [Nat.add_sub_cancel]) ?_
                refine lv_iconst (v := nI 2) hx hb dX6_plans_182 (by decide) ?_
                refine n_idiv hx hb (by omega) (by omega) (by omega) dX6_plans_183 ?_
                refine m_S (c_X6_stampAt hE) X hH.2 (lw_S q1551 q1552 q72 q1553) hds_X6_stampAt ⟨Nat.le_of_ble_eq_true rfl, Nat.le_of_ble_eq_true rfl⟩ ⟨Nat.le_refl _, Nat.le_refl _⟩ rfl hl.1 rfl (Nat.le_of_ble_eq_true rfl) dX6_plans_184 ?_
                refine m_ld1 X hH.mp (by omega) dX6_plans_187 ?_
                refine n_top (y := nI (sL f1 (plP f1 wN mk iN / 2))) (hR.sl (by omega)) ?_
                refine n_iadd hx hb dX6_plans_188 ?_
                refine lv_istore_n (lv' := [(3, .int (nI ((posF f1 wN mk iN) + (sL f1 (plP f1 wN mk iN / 2))))), (0, .ref (a 0)), (1, .int (nI wN)), (2, .int mk), (4, .int (nI (plP f1 wN mk iN + 1))), (5, .int (bI fB))]) hx hb dX6_plans_189 rfl hl (by decide) rfl (fun ls hl => ?_)
                refine lv_aload_n hx hb dX6_plans_190 rfl (lv_at hl 1 rfl) ?_
                refine lv_dup hx hb dX6_plans_191 rfl ?_
                refine m_g11 X hH.mp dX6_plans_192 ?_
                refine lv_iconst (v := nI 1) hx hb dX6_plans_195 (by decide) ?_
                refine n_iadd hx hb dX6_plans_196 ?_
                refine m_p11 X hH dX6_plans_197 (fun H locs hH => ?_)
                refine lv_goto (tgt := 19) hx hb dX6_plans_200 (by decide) ?_
                exact ih_lp (iN + 1) f7_1 (by omega) (fun i hi => by rcases Nat.lt_or_ge i iN with q | q; exact (by rw [ef7_1, pk_un (by omega)]; exact h7 i q); exact (by rw [show i = iN by omega, ef7_1, pk_us])) (by omega) _ _ hH ls (lv_sub hl [1, 2, 3, 0] rfl)
              · have hpN : pN ≤ plP f1 wN mk iN := by rcases hc with ⟨_, q⟩ | ⟨q, _⟩; exact q; exact absurd (q.symm.trans c2) (by decide)
                have hs2 : pN / 2 < nS f1 := by omega
                have hL := hR.sl1 hs2
                refine lv_iload hx hb dX6_plans_43 (lv_at hl 4 rfl) ?_
                refine lv_iconst (v := nI 2) hx hb dX6_plans_45 (by decide) ?_
                refine n_idiv hx hb (by omega) (by omega) (by omega) dX6_plans_46 ?_
                refine lv_istore (lv' := [(6, .int (nI (pN / 2))), (0, .ref (a 0)), (1, .int (nI wN)), (2, .int mk), (3, .int (nI (posF f1 wN mk iN))), (4, .int (nI pN)), (5, .int (bI fB))]) hx hb dX6_plans_47 hl (by decide) rfl (fun ls hl => ?_)
                refine lv_iload hx hb dX6_plans_49 (lv_at hl 5 rfl) ?_
                refine lv_iconst (v := nI 2) hx hb dX6_plans_51 (by decide) ?_
                refine n_irem hx hb (by omega) (by omega) (by omega) dX6_plans_52 ?_
                refine lv_iconst (v := nI 1) hx hb dX6_plans_53 (by decide) ?_
                have j62 : W pR l eV (Rm 5 0 0) sT mI ([.ref (a 0), .int (nI wN), .int mk] : List Value).toArray below meth cd H locs 0 0 QQ (F0 mI 62 ls [.int (bI (decide (pN % 2 = 1)))]) := by
                  refine lv_istore (lv' := [(7, .int (bI (decide (pN % 2 = 1)))), (6, .int (nI (pN / 2))), (0, .ref (a 0)), (1, .int (nI wN)), (2, .int mk), (3, .int (nI (posF f1 wN mk iN))), (4, .int (nI pN)), (5, .int (bI fB))]) hx hb dX6_plans_62 hl (by decide) rfl (fun ls hl => ?_)
                  refine lv_iload_n hx hb dX6_plans_64 rfl (lv_at hl 5 rfl) ?_
                  refine lv_aload_n hx hb dX6_plans_65 rfl (lv_at hl 2 rfl) ?_
                  refine m_g0 X hH.mp dX6_plans_66 ?_
                  refine lv_iload hx hb dX6_plans_69 (lv_at hl 1 rfl) ?_
                  refine m_S (c_X6_stampAt hE) X hH.2 (lw_S q1551 q1552 q72 q1553) hds_X6_stampAt ⟨Nat.le_of_ble_eq_true rfl, Nat.le_of_ble_eq_true rfl⟩ ⟨Nat.le_refl _, Nat.le_refl _⟩ rfl hl.1 rfl (Nat.le_of_ble_eq_true rfl) dX6_plans_71 ?_
                  refine m_ld1 X hH.mp (by omega) dX6_plans_74 ?_
                  refine n_top (y := nI (sL f1 (pN / 2))) (hR.sl hs2) ?_
                  refine n_iadd hx hb dX6_plans_75 ?_
                  refine lv_istore (lv' := [(8, .int (nI ((posF f1 wN mk iN) + (sL f1 (pN / 2))))), (7, .int (bI (decide (pN % 2 = 1)))), (6, .int (nI (pN / 2))), (0, .ref (a 0)), (1, .int (nI wN)), (2, .int mk), (3, .int (nI (posF f1 wN mk iN))), (4, .int (nI pN)), (5, .int (bI fB))]) hx hb dX6_plans_76 hl (by decide) rfl (fun ls hl => ?_)
                  have j152 : W pR l eV (Rm 5 0 0) sT mI ([.ref (a 0), .int (nI wN), .int mk] : List Value).toArray below meth cd H locs 0 0 QQ (F0 mI 152 ls [.int (bI (okP f1 wN mk (posF f1 wN mk iN) pN))]) := by
                    refine lv_istore (lv' := [(5, .int (bI (okP f1 wN mk (posF f1 wN mk iN) pN))), (8, .int (nI ((posF f1 wN mk iN) + (sL f1 (pN / 2))))), (7, .int (bI (decide (pN % 2 = 1)))), (6, .int (nI (pN / 2))), (0, .ref (a 0)), (1, .int (nI wN)), (2, .int mk), (3, .int (nI (posF f1 wN mk iN))), (4, .int (nI pN))]) hx hb dX6_plans_152 hl (by decide) rfl (fun ls hl => ?_)
                    refine lv_iinc (v := nI (pN + 1)) (lv' := [(4, .int (nI (pN + 1))), (5, .int (bI (okP f1 wN mk (posF f1 wN mk iN) pN))), (8, .int (nI ((posF f1 wN mk iN) + (sL f1 (pN / 2))))), (7, .int (bI (decide (pN % 2 = 1)))), (6, .int (nI (pN / 2))), (0, .ref (a 0)), (1, .int (nI wN)), (2, .int mk), (3, .int (nI (posF f1 wN mk iN)))]) hx hb dX6_plans_154 hl (k := 8) rfl (nI_add _ 1) (by decide) rfl (fun ls hl => ?_)
                    refine lv_goto (tgt := 38) hx hb dX6_plans_157 (by decide) ?_
                    exact ih_lq (pN + 1) (okP f1 wN mk (posF f1 wN mk iN) pN)  (by cases e9 : okP f1 wN mk (posF f1 wN mk iN) pN with | true => exact Or.inr ⟨rfl, by rcases Nat.lt_or_ge pN (plP f1 wN mk iN) with q | q; exact absurd (hk5 pN q) (by rw [e9]; decide); omega⟩ | false => exact Or.inl ⟨rfl, by rcases Nat.lt_or_ge pN (plP f1 wN mk iN) with q | q; exact q; exact absurd hk2 (by rw [show plP f1 wN mk iN = pN by omega, e9]; decide)⟩) (by omega) _ _ hH ls (lv_sub hl [5, 6, 7, 8, 0, 1] rfl)
                  refine lv_iload_n hx hb dX6_plans_78 rfl (lv_at hl 5 rfl) ?_
                  refine lv_iload hx hb dX6_plans_79 (lv_at hl 2 rfl) ?_
                  refine lv_ishr hx hb dX6_plans_81 ?_
                  refine lv_iconst (v := nI 1) hx hb dX6_plans_82 (by decide) ?_
                  refine lv_iand hx hb dX6_plans_83 ?_
                  refine lv_iconst (v := nI 1) hx hb dX6_plans_84 (by decide) ?_
                  refine lv_icmp_ne (tgt := 151) hx hb dX6_plans_85 (by decide) (fun c3 => ?_) (fun c3 => ?_)
                  · refine lv_iconst (v := nI 0) hx hb dX6_plans_151 (by decide) ?_
                    refine n_top (y := bI (okP f1 wN mk (posF f1 wN mk iN) pN)) (bI_f (by unfold okP; simp [show bitB mk (pN / 2) = false from decide_eq_false c3])) ?_
                    exact j152
                  · have hb3 : bitB mk (pN / 2) = true := decide_eq_true c3
                    refine lv_iload hx hb dX6_plans_88 (lv_at hl 0 rfl) ?_
                    refine lv_aload_n hx hb dX6_plans_90 rfl (lv_at hl 3 rfl) ?_
                    refine m_g0 X hH.mp dX6_plans_91 ?_
                    refine lv_iload_n hx hb dX6_plans_94 rfl (lv_at hl 4 rfl) ?_
                    refine m_S (c_X6_wordAt hE) X hH.2 (lw_S q1562 q1563 q72 q1564) hds_X6_wordAt ⟨Nat.le_of_ble_eq_true rfl, Nat.le_of_ble_eq_true rfl⟩ ⟨Nat.le_refl _, Nat.le_refl _⟩ rfl hl.1 rfl (Nat.le_of_ble_eq_true rfl) dX6_plans_95 ?_
                    refine m_ld1 X hH.mp (by omega) dX6_plans_98 ?_
                    refine n_top (y := nI (wL f1 wN)) (hR.wl hw) ?_
                    refine n_icmp_gt (tgt := 151) hx hb (by omega) (by omega) dX6_plans_99 (by decide) (fun c4 => ?_) (fun c4 => ?_)
                    · refine lv_iconst (v := nI 0) hx hb dX6_plans_151 (by decide) ?_
                      refine n_top (y := bI (okP f1 wN mk (posF f1 wN mk iN) pN)) (bI_f (by unfold okP; simp [Nat.not_le.mpr c4])) ?_
                      exact j152
                    · have hB1 := lf_le (R := f1) (w := wN) (m := mk) (k := posF f1 wN mk iN + sL f1 (pN / 2))
                      have hB2 := lf_pos hR (m := mk) c1
                      refine lv_aload_n hx hb dX6_plans_102 rfl (lv_at hl 3 rfl) ?_
                      refine m_g9 X hH.mp dX6_plans_103 ?_
                      refine lv_iload hx hb dX6_plans_106 (lv_at hl 0 rfl) ?_
                      refine m_ld6 X hH.mp (by omega) dX6_plans_108 ?_
                      refine n_top (y := nI (lf f1 wN mk (posF f1 wN mk iN + sL f1 (pN / 2)))) (hg6 _ c4) ?_
                      refine lv_aload_n hx hb dX6_plans_109 rfl (lv_at hl 3 rfl) ?_
                      refine m_g9 X hH.mp dX6_plans_110 ?_
                      refine lv_iload_n hx hb dX6_plans_113 rfl (lv_at hl 6 rfl) ?_
                      refine m_ld6 X hH.mp (by omega) dX6_plans_114 ?_
                      refine n_top (y := nI (lf f1 wN mk (posF f1 wN mk iN))) (hg6 _ hp1) ?_
                      refine lv_iconst (v := nI 1) hx hb dX6_plans_115 (by decide) ?_
                      refine n_isub hx hb (by omega) dX6_plans_116 ?_
                      refine n_icmp_ne (tgt := 151) hx hb (by omega) (by omega) dX6_plans_117 (by decide) (fun c5 => ?_) (fun c5 => ?_)
                      · refine lv_iconst (v := nI 0) hx hb dX6_plans_151 (by decide) ?_
                        refine n_top (y := bI (okP f1 wN mk (posF f1 wN mk iN) pN)) (bI_f (by unfold okP; simp [show ¬ lf f1 wN mk (posF f1 wN mk iN + sL f1 (pN / 2)) + 1 = lf f1 wN mk (posF f1 wN mk iN) by omega])) ?_
                        exact j152
                      · have h5 : lf f1 wN mk (posF f1 wN mk iN + sL f1 (pN / 2)) + 1 = lf f1 wN mk (posF f1 wN mk iN) := by omega
                        refine lv_iload hx hb dX6_plans_120 (lv_at hl 1 rfl) ?_
                        refine b_if_eq (tgt := 134) hx hb dX6_plans_122 (by decide) (fun c6 => ?_) (fun c6 => ?_)
                        · refine lv_aload_n hx hb dX6_plans_134 rfl (lv_at hl 3 rfl) ?_
                          refine lv_iload_n hx hb dX6_plans_135 rfl (lv_at hl 4 rfl) ?_
                          refine lv_iload_n hx hb dX6_plans_136 rfl (lv_at hl 6 rfl) ?_
                          refine lv_iload hx hb dX6_plans_137 (lv_at hl 2 rfl) ?_
                          refine lv_iload hx hb dX6_plans_139 (lv_at hl 1 rfl) ?_
                          refine m_R (c_X6_fits (tB := decide (pN % 2 = 1)) hE hR hw hs2 (by omega)) X hH.2 hH.mp (lw_V q1641 q1643 qs41 q72 q1644) hdv_X6_fits ⟨Nat.le_of_ble_eq_true rfl, Nat.le_of_ble_eq_true rfl⟩ ⟨Nat.le_refl _, Nat.le_refl _⟩ rfl hl.1 rfl (Nat.le_of_ble_eq_true rfl) dX6_plans_141 ?_
                          refine b_if_eq (tgt := 151) hx hb dX6_plans_144 (by decide) (fun c8 => ?_) (fun c8 => ?_)
                          · refine lv_iconst (v := nI 0) hx hb dX6_plans_151 (by decide) ?_
                            refine n_top (y := bI (okP f1 wN mk (posF f1 wN mk iN) pN)) (bI_f (by unfold okP; simp [c8])) ?_
                            exact j152
                          · refine lv_iconst (v := nI 1) hx hb dX6_plans_147 (by decide) ?_
                            refine lv_goto (tgt := 152) hx hb dX6_plans_148 (by decide) ?_
                            refine n_top (y := bI (okP f1 wN mk (posF f1 wN mk iN) pN)) (bI_t (by unfold okP; rw [hb3, decide_eq_true c4, decide_eq_true h5, c8, c6, Bool.not_false, Bool.true_or]; rfl)) ?_
                            exact j152
                        · refine lv_aload_n hx hb dX6_plans_125 rfl (lv_at hl 3 rfl) ?_
                          refine lv_iload hx hb dX6_plans_126 (lv_at hl 2 rfl) ?_
                          refine m_R (c_X6_counts hE hR hs2) X hH.2 hH.mp (lw_V q1652 q1654 qs43 q72 q1655) hdv_X6_counts ⟨Nat.le_of_ble_eq_true rfl, Nat.le_of_ble_eq_true rfl⟩ ⟨Nat.le_refl _, Nat.le_refl _⟩ rfl hl.1 rfl (Nat.le_of_ble_eq_true rfl) dX6_plans_128 ?_
                          refine b_if_eq (tgt := 151) hx hb dX6_plans_131 (by decide) (fun c7 => ?_) (fun c7 => ?_)
                          · refine lv_iconst (v := nI 0) hx hb dX6_plans_151 (by decide) ?_
                            refine n_top (y := bI (okP f1 wN mk (posF f1 wN mk iN) pN)) (bI_f (by unfold okP; simp [show pN % 2 = 1 from of_decide_eq_true c6, c7])) ?_
                            exact j152
                          · refine lv_aload_n hx hb dX6_plans_134 rfl (lv_at hl 3 rfl) ?_
                            refine lv_iload_n hx hb dX6_plans_135 rfl (lv_at hl 4 rfl) ?_
                            refine lv_iload_n hx hb dX6_plans_136 rfl (lv_at hl 6 rfl) ?_
                            refine lv_iload hx hb dX6_plans_137 (lv_at hl 2 rfl) ?_
                            refine lv_iload hx hb dX6_plans_139 (lv_at hl 1 rfl) ?_
                            refine m_R (c_X6_fits (tB := decide (pN % 2 = 1)) hE hR hw hs2 (by omega)) X hH.2 hH.mp (lw_V q1641 q1643 qs41 q72 q1644) hdv_X6_fits ⟨Nat.le_of_ble_eq_true rfl, Nat.le_of_ble_eq_true rfl⟩ ⟨Nat.le_refl _, Nat.le_refl _⟩ rfl hl.1 rfl (Nat.le_of_ble_eq_true rfl) dX6_plans_141 ?_
                            refine b_if_eq (tgt := 151) hx hb dX6_plans_144 (by decide) (fun c8 => ?_) (fun c8 => ?_)
                            · refine lv_iconst (v := nI 0) hx hb dX6_plans_151 (by decide) ?_
                              refine n_top (y := bI (okP f1 wN mk (posF f1 wN mk iN) pN)) (bI_f (by unfold okP; simp [c8])) ?_
                              exact j152
                            · refine lv_iconst (v := nI 1) hx hb dX6_plans_147 (by decide) ?_
                              refine lv_goto (tgt := 152) hx hb dX6_plans_148 (by decide) ?_
                              refine n_top (y := bI (okP f1 wN mk (posF f1 wN mk iN) pN)) (bI_t (by unfold okP; rw [hb3, decide_eq_true c4, decide_eq_true h5, c8, c6, c7]; rfl)) ?_
                              exact j152
                refine n_icmp_ne (tgt := 61) hx hb (by omega) (by omega) dX6_plans_54 (by decide) (fun c9 => ?_) (fun c9 => ?_)
                · refine lv_iconst (v := nI 0) hx hb dX6_plans_61 (by decide) ?_
                  refine n_top (y := bI (decide (pN % 2 = 1))) (bI_f (decide_eq_false c9)) ?_
                  exact j62
                · refine lv_iconst (v := nI 1) hx hb dX6_plans_57 (by decide) ?_
                  refine lv_goto (tgt := 62) hx hb dX6_plans_58 (by decide) ?_
                  refine n_top (y := bI (decide (pN % 2 = 1))) (bI_t (decide_eq_true c9)) ?_
                  exact j62
          exact lq _ 0 false  (Or.inl ⟨rfl, Nat.zero_le _⟩) (Nat.lt_succ_self _) _ _ hH ls (lv_sub hl [2, 3, 4, 5, 1, 0] rfl)
    exact lp _ 0 f7 (Nat.zero_le _) (fun i hi => absurd hi (Nat.not_lt_zero i)) (Nat.lt_succ_self _) _ _ hH ls (lv_sub hl [1, 2, 3, 0] rfl)
  · refine lv_iconst (v := nI 0) hx hb dX6_plans_15 (by decide) ?_
    refine n_top (y := bI (decide (pr f1 wN mk ≠ 100))) (bI_f (by simp [prI_iff.mp c0])) ?_
    exact ret _ _ _ _ _ _ _ _ hH (⟨g6, f7, hg6, fun i hi => absurd hi (by unfold pmN; rw [if_pos (prI_iff.mp c0)]; exact Nat.not_lt_zero i), rfl, by unfold pmN; rw [if_pos (prI_iff.mp c0)]⟩) (bI_nar _) (Nat.le_refl _) (Nat.le_refl _) dX6_plans_16
end
