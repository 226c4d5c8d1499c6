/-! INKS, plainly: what the arrays of a component's Inks say of a row -/
def InkR (R g1 g2 g3 : Nat → Int32) : Prop := (∀ s, s < nS R → g1 s = R (7 + 9 * s + 6) ∧ g2 s = R (7 + 9 * s + 7) ∧ g3 s = R (7 + 9 * s + 8)) ∧ ∀ s, nS R ≤ s → s < 10 → g1 s = -1 ∧ g2 s = nI 0 ∧ g3 s = nI 0
def inkW (G : GG) (aI i1 i2 i3 : Nat) (R g1 g2 g3 : Nat → Int32) : va_W := [oC aI 3 [.ref i1, .ref i2, .ref i3, .int (R 4), .int (R 5), .int (R 6)], iC G i1 10 g1, iC G i2 10 g2, iC G i3 10 g3]
/-- the inks at aI say what the row says -/
def Ink (G : GG) (ws : va_W) (aI : Nat) (R : Nat → Int32) : Prop := ∃ i1 i2 i3 g1 g2 g3, (∀ q ∈ inkW G aI i1 i2 i3 R g1 g2 g3, q ∈ ws) ∧ InkR R g1 g2 g3
theorem Ink.mono {G : GG} {ws ws' : va_W} {aI : Nat} {R : Nat → Int32} (h : Ink G ws aI R) (hs : ∀ q ∈ ws, q ∈ ws') : Ink G ws' aI R := by
  obtain ⟨i1, i2, i3, g1, g2, g3, h1, h2⟩ := h
  exact ⟨i1, i2, i3, g1, g2, g3, fun q hq => hs q (h1 q hq), h2⟩
def cAB (R : Nat → Int32) (s : Nat) (cl : Int32) : Bool := decide (R (7 + 9 * s + 6) ≠ cl) || decide (R (7 + 9 * s + 7) = nI 0)
theorem prs_t {R : Nat → Int32} {s : Nat} {cl : Int32} (h : cAB R s cl = true) : prsR R s cl = prsB (prsA R (7 + 9 * s) cl (decide (R (7 + 9 * s + 6) ≠ cl))) (7 + 9 * s) := by
  unfold prsR
  rw [show (decide (R (7 + 9 * s + 6) ≠ cl) || decide (R (7 + 9 * s + 7) = nI 0)) = true from h, if_pos rfl]
theorem prs_f {R : Nat → Int32} {s : Nat} {cl : Int32} (h : cAB R s cl = false) : prsR R s cl = prsB R (7 + 9 * s) := by
  unfold prsR
  rw [show (decide (R (7 + 9 * s + 6) ≠ cl) || decide (R (7 + 9 * s + 7) = nI 0)) = false from h, if_neg Bool.false_ne_true]
theorem prsB_at {B : Nat → Int32} {t k : Nat} : prsB B t k = if k = 4 then (upd (upd B (t + 7) (B (t + 7) - nI 1)) (t + 8) (upd B (t + 7) (B (t + 7) - nI 1) (t + 8) + nI 1)) 4 + nI 1 else if k = t + 8 then upd B (t + 7) (B (t + 7) - nI 1) (t + 8) + nI 1 else if k = t + 7 then B (t + 7) - nI 1 else B k := rfl
theorem prsB_4 {B : Nat → Int32} {t : Nat} (h : 7 ≤ t) : prsB B t 4 = B 4 + nI 1 := by
  rw [prsB_at, if_pos rfl, pk_un (by omega), pk_un (by omega)]
theorem prsB_8 {B : Nat → Int32} {t : Nat} (h : 7 ≤ t) : prsB B t (t + 8) = B (t + 8) + nI 1 := by
  rw [prsB_at, if_neg (by omega), if_pos rfl, pk_un (by omega)]
theorem prsB_7 {B : Nat → Int32} {t : Nat} (h : 7 ≤ t) : prsB B t (t + 7) = B (t + 7) - nI 1 := by
  rw [prsB_at, if_neg (by omega), if_neg (by omega), if_pos rfl]
theorem prsB_o {B : Nat → Int32} {t k : Nat} (h1 : k ≠ 4) (h2 : k ≠ t + 8) (h3 : k ≠ t + 7) : prsB B t k = B k := by
  rw [prsB_at, if_neg h1, if_neg h2, if_neg h3]
theorem prsA_at {R : Nat → Int32} {t k : Nat} {cl : Int32} {o : Bool} : prsA R t cl o k = if k = t + 7 then upd (upd (upd R 5 (R 5 + nI 1)) 6 (upd R 5 (R 5 + nI 1) 6 + (if o && decide (upd R 5 (R 5 + nI 1) (t + 6) ≠ -1) then nI 1 else nI 0))) (t + 6) cl 3 else if k = t + 6 then cl else if k = 6 then upd R 5 (R 5 + nI 1) 6 + (if o && decide (upd R 5 (R 5 + nI 1) (t + 6) ≠ -1) then nI 1 else nI 0) else if k = 5 then R 5 + nI 1 else R k := rfl
theorem prsA_7 {R : Nat → Int32} {t : Nat} {cl : Int32} {o : Bool} (h : 7 ≤ t) : prsA R t cl o (t + 7) = R 3 := by
  rw [prsA_at, if_pos rfl, pk_un (by omega), pk_un (by omega), pk_un (by omega)]
theorem prsA_6' {R : Nat → Int32} {t : Nat} {cl : Int32} {o : Bool} : prsA R t cl o (t + 6) = cl := by
  rw [prsA_at, if_neg (by omega), if_pos rfl]
theorem prsA_6 {R : Nat → Int32} {t : Nat} {cl : Int32} {o : Bool} (h : 7 ≤ t) : prsA R t cl o 6 = R 6 + (if o && decide (R (t + 6) ≠ -1) then nI 1 else nI 0) := by
  rw [prsA_at, if_neg (by omega), if_neg (by omega), if_pos rfl, pk_un (by omega), pk_un (by omega)]
theorem prsA_5 {R : Nat → Int32} {t : Nat} {cl : Int32} {o : Bool} (h : 7 ≤ t) : prsA R t cl o 5 = R 5 + nI 1 := by
  rw [prsA_at, if_neg (by omega), if_neg (by omega), if_neg (by omega), if_pos rfl]
theorem prsA_o {R : Nat → Int32} {t k : Nat} {cl : Int32} {o : Bool} (h1 : k ≠ t + 7) (h2 : k ≠ t + 6) (h3 : k ≠ 6) (h4 : k ≠ 5) : prsA R t cl o k = R k := by
  rw [prsA_at, if_neg h1, if_neg h2, if_neg h3, if_neg h4]
theorem prs_nS {R : Nat → Int32} {s : Nat} {cl : Int32} : nS (prsR R s cl) = nS R := by
  refine rn_congr ?_
  cases c : cAB R s cl with
  | true => rw [prs_t c, prsB_o (by omega) (by omega) (by omega), prsA_o (by omega) (by omega) (by omega) (by omega)]
  | false => rw [prs_f c, prsB_o (by omega) (by omega) (by omega)]
/-- the arrays behind a press -/
theorem InkR.prs {R g1 g2 g3 : Nat → Int32} {s : Nat} {cl : Int32} (h : InkR R g1 g2 g3) (hs : s < nS R) : InkR (prsR R s cl) (if cAB R s cl then upd g1 s cl else g1) (upd g2 s ((if cAB R s cl then R 3 else g2 s) - nI 1)) (upd g3 s (g3 s + nI 1)) := by
  refine ⟨fun s' hs' => ?_, fun s' h1 h2 => ?_⟩
  · rw [prs_nS] at hs'
    obtain ⟨e1, e2, e3⟩ := h.1 s' hs'
    by_cases q : s' = s
    · subst q
      rw [pk_us, pk_us, e2, e3]
      cases c : cAB R s' cl with
      | true =>
        rw [prs_t c, prsB_o (k := 7 + 9 * s' + 6) (by omega) (by omega) (by omega), prsA_6', prsB_7 (by omega), prsA_7 (by omega), prsB_8 (by omega), prsA_o (by omega) (by omega) (by omega) (by omega), if_pos rfl, pk_us, if_pos rfl]
        exact ⟨rfl, rfl, rfl⟩
      | false =>
        rw [prs_f c, prsB_o (k := 7 + 9 * s' + 6) (by omega) (by omega) (by omega), prsB_7 (by omega), prsB_8 (by omega), if_neg Bool.false_ne_true, if_neg Bool.false_ne_true]
        exact ⟨e1, rfl, rfl⟩
    · rw [pk_un q, pk_un q, e2, e3]
      cases c : cAB R s cl with
      | true =>
        rw [prs_t c, prsB_o (by omega) (by omega) (by omega), prsB_o (by omega) (by omega) (by omega), prsB_o (by omega) (by omega) (by omega), prsA_o (by omega) (by omega) (by omega) (by omega), prsA_o (by omega) (by omega) (by omega) (by omega), prsA_o (by omega) (by omega) (by omega) (by omega), if_pos rfl, pk_un q]
        exact ⟨e1, rfl, rfl⟩
      | false =>
        rw [prs_f c, prsB_o (by omega) (by omega) (by omega), prsB_o (by omega) (by omega) (by omega), prsB_o (by omega) (by omega) (by omega), if_neg Bool.false_ne_true]
        exact ⟨e1, rfl, rfl⟩
  · rw [prs_nS] at h1
    obtain ⟨e1, e2, e3⟩ := h.2 s' h1 h2
    rw [pk_un (by omega), pk_un (by omega)]
    refine ⟨?_, e2, e3⟩
    split
    · rw [pk_un (by omega)]; exact e1
    · exact e1
theorem prs_4 {R : Nat → Int32} {s : Nat} {cl : Int32} : prsR R s cl 4 = R 4 + nI 1 := by
  cases c : cAB R s cl with
  | true => rw [prs_t c, prsB_4 (by omega), prsA_o (by omega) (by omega) (by omega) (by omega)]
  | false => rw [prs_f c, prsB_4 (by omega)]
theorem prs_5 {R : Nat → Int32} {s : Nat} {cl : Int32} : prsR R s cl 5 = if cAB R s cl then R 5 + nI 1 else R 5 := by
  cases c : cAB R s cl with
  | true => rw [prs_t c, prsB_o (by omega) (by omega) (by omega), prsA_5 (by omega), if_pos rfl]
  | false => rw [prs_f c, prsB_o (by omega) (by omega) (by omega), if_neg Bool.false_ne_true]
theorem prs_6 {R : Nat → Int32} {s : Nat} {cl : Int32} : prsR R s cl 6 = if cAB R s cl then R 6 + (if decide (R (7 + 9 * s + 6) ≠ cl) && decide (R (7 + 9 * s + 6) ≠ -1) then nI 1 else nI 0) else R 6 := by
  cases c : cAB R s cl with
  | true => rw [prs_t c, prsB_o (by omega) (by omega) (by omega), prsA_6 (by omega), if_pos rfl]
  | false => rw [prs_f c, prsB_o (by omega) (by omega) (by omega), if_neg Bool.false_ne_true]
theorem prs_st {R : Nat → Int32} {s k : Nat} {cl : Int32} (hs : s < 10) (h : stI k) : prsR R s cl k = R k := by
  have hk : k ≠ 4 ∧ k ≠ 5 ∧ k ≠ 6 ∧ k ≠ 7 + 9 * s + 6 ∧ k ≠ 7 + 9 * s + 7 ∧ k ≠ 7 + 9 * s + 8 := by
    rcases h with h | ⟨s', j, hj, rfl⟩ | h <;> omega
  cases c : cAB R s cl with
  | true => rw [prs_t c, prsB_o (by omega) (by omega) (by omega), prsA_o (by omega) (by omega) (by omega) (by omega)]
  | false => rw [prs_f c, prsB_o (by omega) (by omega) (by omega)]
