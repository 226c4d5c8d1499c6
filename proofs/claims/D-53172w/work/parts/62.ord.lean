/-! ORDERS, plainly: the component's search (by cleanings as they are, pruned ahead of a word) finds what the model's does -/
theorem prs_6n {R : Nat → Int32} {s c : Nat} {cl : Int32} (h : R 6 = nI c) : ∃ d, d ≤ 1 ∧ prsR R s cl 6 = nI (c + d) := by
  rw [prs_6]
  split
  · split
    · exact ⟨1, Nat.le_refl _, by rw [h, nI_add]⟩
    · exact ⟨0, by omega, by rw [h, nI_add]⟩
  · exact ⟨0, by omega, h⟩
theorem car_6n {R : Nat → Int32} {pl : Nat → Nat} {c : Nat} {cl : Int32} (h : R 6 = nI c) : ∀ n, ∃ d, d ≤ n ∧ carR R pl cl n 6 = nI (c + d) := by
  intro n
  induction n with
  | zero => exact ⟨0, Nat.le_refl _, h⟩
  | succ n ih =>
    obtain ⟨d, h1, h2⟩ := ih
    obtain ⟨e, h3, h4⟩ := prs_6n (s := pl n / 2) (cl := cl) h2
    exact ⟨d + e, by omega, by rw [show c + (d + e) = c + d + e by omega]; exact h4⟩
theorem wro_6n {R : Nat → Int32} (hR : ROk R) {w c : Nat} (hw : w < nW R) (h : R 6 = nI c) : ∃ d, d ≤ 12 ∧ wroR R w 6 = nI (c + d) := by
  obtain ⟨d, h1, h2⟩ := car_6n (pl := plP R w (frM R)) (cl := R (97 + 14 * w + 1)) h (pmN R w (frM R))
  have := pmN_le hR (w := w) (m := frM R)
  have := hR.wl1 hw
  exact ⟨d, by omega, h2⟩
def btB (R : Nat → Int32) (acc : Acc) : Bool := decide (acc.1 = -1) || decide (R 6 < acc.1)
def cST (p : Nat) (rec : (Nat → Int32) → (Nat → Nat) → Acc → Acc) (R : Nat → Int32) (tr : Nat → Nat) (w : Nat) (acc : Acc) : Acc :=
  if btB R acc && (allB p (fun k => decide (tr k ≠ w)) && wrB R w (frM R)) then rec (wroR R w) (va_up tr p w) acc else acc
def cFD (n p : Nat) (rec : (Nat → Int32) → (Nat → Nat) → Acc → Acc) (R : Nat → Int32) (tr : Nat → Nat) : Nat → Acc → Acc
  | 0, acc => acc
  | j + 1, acc => cFD n p rec R tr j (cST p rec R tr (n - (j + 1)) acc)
/-- the component's search: d words are still to come -/
def cSR (n : Nat) : Nat → (Nat → Int32) → (Nat → Nat) → Acc → Acc
  | 0, R, tr, acc => if btB R acc then (R 6, tr) else acc
  | d + 1, R, tr, acc => cFD n (n - (d + 1)) (cSR n d) R tr n acc
/-- the model's least, as it is -/
def absA (had : Nat) (acc : Acc) : Acc := (if acc.1 = -1 then -1 else acc.1 + nI had, acc.2)
def okA (acc : Acc) : Prop := acc.1 = -1 ∨ ∃ a, acc.1 = nI a ∧ a < 2 ^ 29
def lsB (had : Int32) (x : Int32) (acc : Acc) : Bool := decide (acc.1 = -1) || decide (x - had < acc.1)
theorem nI_m1 {a : Nat} (h : a < 2 ^ 31) : nI a ≠ -1 := fun q => nI_pos h (by rw [q]; decide)
theorem ls_bt {R : Nat → Int32} {had c : Nat} {acc : Acc} (h : R 6 = nI c) (hc : c < 2 ^ 29) (hh : had ≤ c) (ha : okA acc) : btB R (absA had acc) = lsB (nI had) (R 6) acc := by
  unfold btB lsB absA
  rcases ha with ha | ⟨a, ha, hl⟩
  · rw [ha, if_pos rfl]; simp
  · have h1 := nI_m1 (a := a) (by omega)
    have h2 : nI a + nI had = nI (a + had) := nI_add a had
    have h3 : nI c - nI had = nI (c - had) := pk_sub hh
    rw [ha, if_neg h1, h2, h, h3, decide_eq_false h1, decide_eq_false (nI_m1 (by omega)), Bool.false_or, Bool.false_or]
    refine decide_eq_decide.mpr ?_
    rw [nI_ltI (by omega) (by omega), nI_ltI (by omega) (by omega)]
    omega
theorem ls_mono {had c d : Nat} {acc : Acc} (hc : c + d < 2 ^ 29) (hh : had ≤ c) (ha : okA acc) (h : lsB (nI had) (nI c) acc = false) : lsB (nI had) (nI (c + d)) acc = false := by
  unfold lsB at *
  rw [Bool.or_eq_false_iff, decide_eq_false_iff_not, decide_eq_false_iff_not] at *
  obtain ⟨h1, h2⟩ := h
  refine ⟨h1, ?_⟩
  rcases ha with ha | ⟨a, ha, hl⟩
  · exact absurd ha h1
  · rw [ha, show nI (c + d) - nI had = nI (c + d - had) from pk_sub (by omega), nI_ltI (by omega) (by omega)]
    rw [ha, show nI c - nI had = nI (c - had) from pk_sub hh, nI_ltI (by omega) (by omega)] at h2
    omega
def sX (n : Nat) (had : Int32) (d : Nat) (R : Nat → Int32) (tr : Nat → Nat) (acc : Acc) : Acc := if d = 0 then (if lsB had (R 6) acc then (R 6 - had, tr) else acc) else srD n had d R tr acc
theorem stepW_eq {n d w : Nat} {had : Int32} {R : Nat → Int32} {tr : Nat → Nat} {acc : Acc} (hd : d + 1 ≤ n) (hu : (allB (n - (d + 1)) (fun k => decide (tr k ≠ w)) && wrB R w (frM R)) = true) (hl : lsB had (wroR R w 6) acc = true) : stepW n had (n - (d + 1)) (srD n had d) R tr w acc = sX n had d (wroR R w) (va_up tr (n - (d + 1)) w) acc := by
  unfold stepW sX
  rw [hu, show (decide (acc.1 = -1) || decide (wroR R w 6 - had < acc.1)) = true from hl, Bool.true_and, if_pos rfl]
  by_cases c : d = 0
  · subst c
    rw [if_pos (by omega), if_pos rfl, hl, if_pos rfl]
  · rw [if_neg (by omega), if_neg c]
theorem stepW_no {n p w : Nat} {had : Int32} {rec : (Nat → Int32) → (Nat → Nat) → Acc → Acc} {R : Nat → Int32} {tr : Nat → Nat} {acc : Acc} (h : (allB p (fun k => decide (tr k ≠ w)) && wrB R w (frM R)) = false ∨ lsB had (wroR R w 6) acc = false) : stepW n had p rec R tr w acc = acc := by
  unfold stepW
  rcases h with h | h
  · rw [h, Bool.false_and, if_neg Bool.false_ne_true]
  · rw [show (decide (acc.1 = -1) || decide (wroR R w 6 - had < acc.1)) = false from h, Bool.and_false, if_neg Bool.false_ne_true]
theorem sX_no {n d c had : Nat} {R : Nat → Int32} {tr : Nat → Nat} {acc : Acc} (hR : ROk R) (hn : nW R = n) (h6 : R 6 = nI c) (hh : had ≤ c) (hc : c + 12 < 2 ^ 29) (ha : okA acc) (hd : d ≤ n) (h : lsB (nI had) (R 6) acc = false) : sX n (nI had) d R tr acc = acc := by
  unfold sX
  cases d with
  | zero => rw [if_pos rfl, h, if_neg Bool.false_ne_true]
  | succ d =>
    rw [if_neg (by omega)]
    show foldT n (nI had) (n - (d + 1)) (srD n (nI had) d) R tr n acc = acc
    have : ∀ j, j ≤ n → foldT n (nI had) (n - (d + 1)) (srD n (nI had) d) R tr j acc = acc := by
      intro j
      induction j with
      | zero => intro _; rfl
      | succ j ih =>
        intro hj
        obtain ⟨e, h1, h2⟩ := wro_6n hR (w := n - (j + 1)) (by omega) h6
        rw [foldT, stepW_no (Or.inr (by rw [h2]; exact ls_mono (by omega) hh ha (by rw [← h6]; exact h))), ih (by omega)]
    exact this n (Nat.le_refl _)
theorem cSR_eq {n had : Nat} : ∀ d, d ≤ n → ∀ (R : Nat → Int32) (tr : Nat → Nat) (acc : Acc) (c : Nat), ROk R → nW R = n → R 6 = nI c → had ≤ c → c + 12 * (d + 1) < 2 ^ 29 → okA acc →
    okA (sX n (nI had) d R tr acc) ∧ cSR n d R tr (absA had acc) = absA had (sX n (nI had) d R tr acc) := by
  intro d
  induction d with
  | zero =>
    intro _ R tr acc c hR hn h6 hh hc ha
    have e := ls_bt h6 (by omega) hh ha
    unfold sX cSR
    rw [if_pos rfl, e]
    cases lsB (nI had) (R 6) acc with
    | false => rw [if_neg Bool.false_ne_true, if_neg Bool.false_ne_true]; exact ⟨ha, rfl⟩
    | true =>
      rw [if_pos rfl, if_pos rfl]
      have h3 : R 6 - nI had = nI (c - had) := by rw [h6]; exact pk_sub hh
      refine ⟨Or.inr ⟨c - had, h3, by omega⟩, ?_⟩
      unfold absA
      rw [h3, if_neg (nI_m1 (by omega)), nI_add, Nat.sub_add_cancel hh, h6]
  | succ d ih =>
    intro hd R tr acc c hR hn h6 hh hc ha
    unfold sX
    rw [if_neg (by omega)]
    show okA (foldT n (nI had) (n - (d + 1)) (srD n (nI had) d) R tr n acc) ∧ cFD n (n - (d + 1)) (cSR n d) R tr n (absA had acc) = absA had (foldT n (nI had) (n - (d + 1)) (srD n (nI had) d) R tr n acc)
    have main : ∀ j, j ≤ n → ∀ acc, okA acc → okA (foldT n (nI had) (n - (d + 1)) (srD n (nI had) d) R tr j acc) ∧ cFD n (n - (d + 1)) (cSR n d) R tr j (absA had acc) = absA had (foldT n (nI had) (n - (d + 1)) (srD n (nI had) d) R tr j acc) := by
      intro j
      induction j with
      | zero => intro _ acc ha; exact ⟨ha, rfl⟩
      | succ j ihj =>
        intro hj acc ha
        rw [foldT, cFD]
        have st : okA (stepW n (nI had) (n - (d + 1)) (srD n (nI had) d) R tr (n - (j + 1)) acc) ∧ cST (n - (d + 1)) (cSR n d) R tr (n - (j + 1)) (absA had acc) = absA had (stepW n (nI had) (n - (d + 1)) (srD n (nI had) d) R tr (n - (j + 1)) acc) := by
          unfold cST
          rw [ls_bt h6 (by omega) hh ha]
          cases hu : (allB (n - (d + 1)) (fun k => decide (tr k ≠ n - (j + 1))) && wrB R (n - (j + 1)) (frM R)) with
          | false => rw [stepW_no (Or.inl hu), Bool.and_false, if_neg Bool.false_ne_true]; exact ⟨ha, rfl⟩
          | true =>
            obtain ⟨e, h1, h2⟩ := wro_6n hR (w := n - (j + 1)) (by omega) h6
            have hR' : ROk (wroR R (n - (j + 1))) := wroR_ok hR
            have hn' : nW (wroR R (n - (j + 1))) = n := by rw [← hn]; exact rn_congr (wroR_st hR (Or.inl (by decide)))
            have I := ih (by omega) (wroR R (n - (j + 1))) (va_up tr (n - (d + 1)) (n - (j + 1))) acc (c + e) hR' hn' h2 (by omega) (by omega) ha
            have hsx : stepW n (nI had) (n - (d + 1)) (srD n (nI had) d) R tr (n - (j + 1)) acc = sX n (nI had) d (wroR R (n - (j + 1))) (va_up tr (n - (d + 1)) (n - (j + 1))) acc := by
              cases hl : lsB (nI had) (wroR R (n - (j + 1)) 6) acc with
              | true => exact stepW_eq hd hu hl
              | false => rw [stepW_no (Or.inr hl), sX_no hR' hn' h2 (by omega) (by omega) ha (by omega) hl]
            rw [hsx]
            cases hb : lsB (nI had) (R 6) acc with
            | true => rw [Bool.true_and, if_pos rfl]; exact I
            | false =>
              have hl : lsB (nI had) (wroR R (n - (j + 1)) 6) acc = false := by rw [h2]; exact ls_mono (by omega) hh ha (by rw [← h6]; exact hb)
              rw [sX_no hR' hn' h2 (by omega) (by omega) ha (by omega) hl, Bool.false_and, if_neg Bool.false_ne_true]
              exact ⟨ha, rfl⟩
        rw [st.2]
        exact ihj (by omega) _ st.1
    exact main n (Nat.le_refl _) acc ha
/-- the search as a whole -/
theorem ord_eq {R : Nat → Int32} {c : Nat} (hR : ROk R) (h6 : R 6 = nI c) (hc : c < 2 ^ 28) : okA (ordA R) ∧ (cSR (nW R) (nW R) R (fun _ => 0) (-1, fun _ => 0)).1 = (absA c (ordA R)).1 ∧ ∀ k, k < nW R → (cSR (nW R) (nW R) R (fun _ => 0) (-1, fun _ => 0)).2 k = (ordA R).2 k := by
  have hw := hR.w1
  have h := cSR_eq (n := nW R) (had := c) (nW R) (Nat.le_refl _) R (fun _ => 0) (-1, fun _ => 0) c hR rfl h6 (Nat.le_refl _) (by omega) (Or.inl rfl)
  have e0 : absA c ((-1 : Int32), fun _ => 0) = (-1, fun _ => 0) := rfl
  rw [e0] at h
  by_cases q : nW R = 0
  · refine ⟨Or.inr ⟨0, by unfold ordA; rw [if_pos q]; rfl, by decide⟩, ?_, fun k hk => by omega⟩
    rw [h.2]
    unfold sX ordA
    rw [if_pos q, if_pos q]
    show (absA c (R 6 - nI c, fun _ => 0)).1 = (absA c ((0 : Int32), fun _ => 0)).1
    rw [h6, show nI c - nI c = nI (c - c) from pk_sub (Nat.le_refl _), Nat.sub_self]
    rfl
  · have e1 : sX (nW R) (nI c) (nW R) R (fun _ => 0) (-1, fun _ => 0) = ordA R := by
      unfold sX ordA
      rw [if_neg q, if_neg q, h6]
    rw [e1] at h
    exact ⟨h.1, by rw [h.2], fun k _ => by rw [h.2]; rfl⟩
