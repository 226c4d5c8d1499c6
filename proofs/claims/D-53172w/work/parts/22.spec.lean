/-! SPEC: a row of 195 numbers (the model's 'now') and what it says: how many stamps and words, their letters, what can be pressed where, plans -/
def allB : Nat → (Nat → Bool) → Bool
  | 0, _ => true
  | n + 1, p => allB n p && p n
theorem allB_iff {n : Nat} {p : Nat → Bool} : allB n p = true ↔ ∀ k, k < n → p k = true := by
  induction n with
  | zero => exact ⟨fun _ k h => absurd h (Nat.not_lt_zero k), fun _ => rfl⟩
  | succ n ih =>
    rw [allB, Bool.and_eq_true, ih]
    constructor
    · rintro ⟨h1, h2⟩ k hk
      rcases Nat.lt_or_ge k n with q | q
      · exact h1 k q
      · have : k = n := by omega
        rw [this]; exact h2
    · intro h
      exact ⟨fun k hk => h k (by omega), h n (by omega)⟩
theorem allB_t {n : Nat} {p : Nat → Bool} (h : allB n p = true) {k : Nat} (hk : k < n) : p k = true := allB_iff.mp h k hk
theorem allB_f {n : Nat} {p : Nat → Bool} {k : Nat} (hk : k < n) (h : p k = false) : allB n p = false := by
  cases e : allB n p with
  | false => rfl
  | true => rw [allB_t e hk] at h; cases h
theorem allB_le {n j : Nat} {p : Nat → Bool} (hj : j ≤ n) (h : allB j p = false) : allB n p = false := by
  cases e : allB n p with
  | false => rfl
  | true => rw [allB_iff.mpr (fun k hk => allB_t e (show k < n by omega))] at h; cases h
theorem allB_congr {n : Nat} {p q : Nat → Bool} (h : ∀ k, k < n → p k = q k) : allB n p = allB n q := by
  induction n with
  | zero => rfl
  | succ n ih => rw [allB, allB, ih (fun k hk => h k (by omega)), h n (by omega)]
/-- what a letter is when it is turned -/
def tlN (k : Nat) : Int32 := match k with
  | 1 => 16 | 16 => 1 | 3 => 15 | 15 => 3 | 12 => 22 | 22 => 12 | 13 => 20 | 20 => 13 | 11 => 11 | 14 => 14 | 18 => 18 | 23 => 23 | 25 => 25 | _ => -1
def rn (R : Nat → Int32) (i : Nat) : Nat := (R i).toNatClampNeg
def isN (R : Nat → Int32) (i b : Nat) : Prop := R i = nI (rn R i) ∧ rn R i < b
def nS (R : Nat → Int32) : Nat := rn R 0
def nW (R : Nat → Int32) : Nat := rn R 1
def sL (R : Nat → Int32) (s : Nat) : Nat := rn R (7 + 9 * s)
def wL (R : Nat → Int32) (w : Nat) : Nat := rn R (97 + 14 * w)
def sC (R : Nat → Int32) (s k : Nat) : Nat := rn R (7 + 9 * s + 1 + k)
def wC (R : Nat → Int32) (w k : Nat) : Nat := rn R (97 + 14 * w + 2 + k)
def sOk (R : Nat → Int32) (s : Nat) : Prop := isN R (7 + 9 * s) 6 ∧ 0 < sL R s ∧ ∀ k, k < sL R s → isN R (7 + 9 * s + 1 + k) 26
def wOk (R : Nat → Int32) (w : Nat) : Prop := isN R (97 + 14 * w) 13 ∧ 0 < wL R w ∧ (∀ k, k < wL R w → isN R (97 + 14 * w + 2 + k) 26) ∧ isN R (97 + 14 * w + 1) 4
def ROk (R : Nat → Int32) : Prop := isN R 0 11 ∧ isN R 1 8 ∧ (∀ s, s < nS R → sOk R s) ∧ (∀ w, w < nW R → wOk R w) ∧ (isN R 2 201 ∧ 0 < rn R 2) ∧ (isN R 3 21 ∧ 0 < rn R 3)
theorem ROk.s0 {R : Nat → Int32} (h : ROk R) : R 0 = nI (nS R) := h.1.1
theorem ROk.s1 {R : Nat → Int32} (h : ROk R) : nS R ≤ 10 := Nat.le_of_lt_succ h.1.2
theorem ROk.w0 {R : Nat → Int32} (h : ROk R) : R 1 = nI (nW R) := h.2.1.1
theorem ROk.w1 {R : Nat → Int32} (h : ROk R) : nW R ≤ 7 := Nat.le_of_lt_succ h.2.1.2
theorem ROk.sl {R : Nat → Int32} (h : ROk R) {s : Nat} (hs : s < nS R) : R (7 + 9 * s) = nI (sL R s) := (h.2.2.1 s hs).1.1
theorem ROk.sl1 {R : Nat → Int32} (h : ROk R) {s : Nat} (hs : s < nS R) : 0 < sL R s ∧ sL R s ≤ 5 := ⟨(h.2.2.1 s hs).2.1, Nat.le_of_lt_succ (h.2.2.1 s hs).1.2⟩
theorem ROk.sc {R : Nat → Int32} (h : ROk R) {s k : Nat} (hs : s < nS R) (hk : k < sL R s) : R (7 + 9 * s + 1 + k) = nI (sC R s k) := ((h.2.2.1 s hs).2.2 k hk).1
theorem ROk.sc1 {R : Nat → Int32} (h : ROk R) {s k : Nat} (hs : s < nS R) (hk : k < sL R s) : sC R s k < 26 := ((h.2.2.1 s hs).2.2 k hk).2
theorem ROk.wl {R : Nat → Int32} (h : ROk R) {w : Nat} (hw : w < nW R) : R (97 + 14 * w) = nI (wL R w) := (h.2.2.2.1 w hw).1.1
theorem ROk.wl1 {R : Nat → Int32} (h : ROk R) {w : Nat} (hw : w < nW R) : 0 < wL R w ∧ wL R w ≤ 12 := ⟨(h.2.2.2.1 w hw).2.1, Nat.le_of_lt_succ (h.2.2.2.1 w hw).1.2⟩
theorem ROk.wc {R : Nat → Int32} (h : ROk R) {w k : Nat} (hw : w < nW R) (hk : k < wL R w) : R (97 + 14 * w + 2 + k) = nI (wC R w k) := ((h.2.2.2.1 w hw).2.2.1 k hk).1
theorem ROk.wc1 {R : Nat → Int32} (h : ROk R) {w k : Nat} (hw : w < nW R) (hk : k < wL R w) : wC R w k < 26 := ((h.2.2.2.1 w hw).2.2.1 k hk).2
/-- a letter of a print -/
def pC (R : Nat → Int32) (s k : Nat) (t : Bool) : Int32 := if t then tlN (sC R s (sL R s - 1 - k)) else R (7 + 9 * s + 1 + k)
def canT (R : Nat → Int32) (s : Nat) : Bool := allB (sL R s) (fun k => decide (tlN (sC R s k) ≠ -1))
def samB (R : Nat → Int32) (s : Nat) : Bool := allB (sL R s) (fun k => decide (pC R s k true = pC R s k false))
def cntB (R : Nat → Int32) (s : Nat) : Bool := canT R s && !samB R s
def fitB (R : Nat → Int32) (w f s : Nat) (t : Bool) : Bool := decide (f + sL R s ≤ wL R w) && allB (sL R s) (fun k => decide (pC R s k t = R (97 + 14 * w + 2 + f + k)))
def anyB (R : Nat → Int32) (w f s : Nat) : Bool := fitB R w f s false || (cntB R s && fitB R w f s true)
def wornB (R : Nat → Int32) (s : Nat) : Bool := decide (R 2 ≤ R (7 + 9 * s + 8))
def frI (R : Nat → Int32) : Nat → Int32
  | 0 => nI 0
  | s + 1 => frI R s ||| (if wornB R s then nI 0 else nI 1 <<< (nI s &&& 31))
def frM (R : Nat → Int32) : Int32 := frI R (nS R)
def bitB (m : Int32) (s : Nat) : Bool := decide ((m >>> (nI s &&& 31)) &&& nI 1 = nI 1)
/-- of a word from place f on: the fewest presses, the first s stamps tried -/
def bst (R : Nat → Int32) (w : Nat) (m : Int32) (L : Nat → Nat) (f : Nat) : Nat → Nat
  | 0 => 100
  | s + 1 => if bitB m s && anyB R w f s && decide (L (f + sL R s) + 1 < bst R w m L f s) then L (f + sL R s) + 1 else bst R w m L f s
/-- the fewest presses from each place on, the last j places done -/
def lst (R : Nat → Int32) (w : Nat) (m : Int32) : Nat → Nat → Nat
  | 0 => fun _ => 0
  | j + 1 => fun k => if k + (j + 1) = wL R w then bst R w m (lst R w m j) k (nS R) else lst R w m j k
def lf (R : Nat → Int32) (w : Nat) (m : Int32) (k : Nat) : Nat := lst R w m (wL R w) k
def pr (R : Nat → Int32) (w : Nat) (m : Int32) : Nat := lf R w m 0
def prI (R : Nat → Int32) (w : Nat) (m : Int32) : Int32 := if pr R w m = 100 then -1 else nI (pr R w m)
theorem anyB_le {R : Nat → Int32} {w f s : Nat} (h : anyB R w f s = true) : f + sL R s ≤ wL R w := by
  unfold anyB fitB at h
  rw [Bool.or_eq_true, Bool.and_eq_true, Bool.and_eq_true, Bool.and_eq_true, decide_eq_true_eq] at h
  rcases h with h | h
  · exact h.1
  · exact h.2.1
theorem bst_le {R : Nat → Int32} {w : Nat} {m : Int32} {L : Nat → Nat} {f : Nat} : ∀ s, bst R w m L f s ≤ 100 := by
  intro s
  induction s with
  | zero => exact Nat.le_refl _
  | succ s ih =>
    rw [bst]
    split
    · next h =>
      rw [Bool.and_eq_true, decide_eq_true_eq] at h
      omega
    · exact ih
theorem bst_congr {R : Nat → Int32} {w : Nat} {m : Int32} {L L' : Nat → Nat} {f : Nat} : ∀ s, (∀ q, q < s → anyB R w f q = true → L (f + sL R q) = L' (f + sL R q)) → bst R w m L f s = bst R w m L' f s := by
  intro s
  induction s with
  | zero => intro _; rfl
  | succ s ih =>
    intro h
    rw [bst, bst, ih (fun q hq => h q (by omega))]
    cases e : anyB R w f s with
    | false => simp
    | true => rw [h s (by omega) e]
theorem lst_s {R : Nat → Int32} {w : Nat} {m : Int32} {j k : Nat} : lst R w m (j + 1) k = if k + (j + 1) = wL R w then bst R w m (lst R w m j) k (nS R) else lst R w m j k := rfl
theorem lst_le {R : Nat → Int32} {w : Nat} {m : Int32} : ∀ j k, lst R w m j k ≤ 100 := by
  intro j
  induction j with
  | zero => intro k; exact Nat.zero_le _
  | succ j ih =>
    intro k
    rw [lst_s]
    split
    · exact bst_le _
    · exact ih k
/-- a place that is done stays -/
theorem lst_done {R : Nat → Int32} {w : Nat} {m : Int32} {j k : Nat} (h : wL R w ≤ k + j) : ∀ i, lst R w m (j + i) k = lst R w m j k := by
  intro i
  induction i with
  | zero => rfl
  | succ i ih =>
    show lst R w m (j + i + 1) k = _
    rw [lst_s, if_neg (by omega), ih]
theorem lst_lf {R : Nat → Int32} {w : Nat} {m : Int32} {j k : Nat} (hj : j ≤ wL R w) (h : wL R w ≤ k + j) : lst R w m j k = lf R w m k := by
  unfold lf
  have e := lst_done (m := m) h (wL R w - j)
  rw [show j + (wL R w - j) = wL R w by omega] at e
  exact e.symm
theorem lf_end {R : Nat → Int32} {w : Nat} {m : Int32} {k : Nat} (h : wL R w ≤ k) : lf R w m k = 0 := by
  have e := lst_lf (R := R) (w := w) (m := m) (j := 0) (k := k) (Nat.zero_le _) (by omega)
  rw [← e]
  rfl
/-- the equation of plans: the fewest presses from a place on, by those behind it -/
theorem lf_eq {R : Nat → Int32} (hR : ROk R) {w : Nat} {m : Int32} {k : Nat} (h : k < wL R w) : lf R w m k = bst R w m (lf R w m) k (nS R) := by
  obtain ⟨j, hj⟩ : ∃ j, k + (j + 1) = wL R w := ⟨wL R w - k - 1, by omega⟩
  rw [← lst_lf (R := R) (w := w) (m := m) (j := j + 1) (k := k) (by omega) (by omega), lst_s, if_pos hj]
  refine bst_congr _ (fun q hq ha => lst_lf (by omega) ?_)
  have := (hR.sl1 hq).1
  omega
theorem lf_le {R : Nat → Int32} {w : Nat} {m : Int32} {k : Nat} : lf R w m k ≤ 100 := lst_le _ _
