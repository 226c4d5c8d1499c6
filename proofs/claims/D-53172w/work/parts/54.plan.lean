/-! PLANS, plainly: bits; the presses one by one against stamps; what 'fits' says of a row -/
theorem sh_smod : ∀ s, s < 31 → ((nI s &&& 31).toBitVec.smod 32).toNat = s := by decide +kernel
theorem bit_get {m : Int32} {s : Nat} (h : s < 31) : bitB m s = m.toBitVec.getLsbD s := by
  have e : ((m >>> (nI s &&& 31)) &&& nI 1).toBitVec = BitVec.setWidth 32 (BitVec.ofBool (m.toBitVec.getLsbD s)) := by
    rw [Int32.toBitVec_and, Int32.toBitVec_shiftRight, show (nI 1).toBitVec = 1#32 from rfl, BitVec.and_one_eq_setWidth_ofBool_getLsbD]
    congr 2
    show (m.toBitVec.sshiftRight (((nI s &&& 31).toBitVec.smod 32).toNat)).getLsbD 0 = _
    rw [sh_smod s h, BitVec.getLsbD_sshiftRight]
    simp only [Nat.add_zero]
    rw [if_pos (by omega)]
    rfl
  unfold bitB
  cases c : m.toBitVec.getLsbD s with
  | true =>
    rw [c] at e
    exact decide_eq_true (Int32.toBitVec_inj.mp e)
  | false =>
    rw [c] at e
    exact decide_eq_false (fun q => by rw [q] at e; exact absurd e (by decide))
theorem bit_or {a b : Int32} {s : Nat} (h : s < 31) : bitB (a ||| b) s = (bitB a s || bitB b s) := by
  rw [bit_get h, bit_get h, bit_get h, Int32.toBitVec_or, BitVec.getLsbD_or]
theorem bit_and {a b : Int32} {s : Nat} (h : s < 31) : bitB (a &&& b) s = (bitB a s && bitB b s) := by
  rw [bit_get h, bit_get h, bit_get h, Int32.toBitVec_and, BitVec.getLsbD_and]
theorem bit_one : ∀ p, p < 22 → ∀ q, q < 22 → bitB (nI 1 <<< (nI p &&& 31)) q = decide (q = p) := by decide +kernel
theorem bit_fg : ∀ s, s < 11 → ∀ q, q < 22 → bitB ((nI 3 <<< (nI (2 * s) &&& 31)) ^^^ (-1)) q = decide (q / 2 ≠ s) := by decide +kernel
theorem bit_0 : ∀ q, q < 22 → bitB (nI 0) q = false := by decide +kernel
/-- whether a press of the stamps below j fits at a place of a word -/
def pB (R : Nat → Int32) (j w k p : Nat) : Bool := decide (p / 2 < j) && ((!decide (p % 2 = 1) || cntB R (p / 2)) && fitB R w k (p / 2) (decide (p % 2 = 1)))
def PlF (R : Nat → Int32) (j : Nat) (F L : Nat → Int32) : Prop := (∀ w, w < nW R → ∀ k, k < wL R w → ∀ p, p < 22 → bitB (F (w * 12 + k)) p = pB R j w k p) ∧ ∀ s, s < j → L (2 * s) = nI (sL R s) ∧ (cntB R s = true → L (2 * s + 1) = nI (sL R s))
theorem PlF.len {R F L : Nat → Int32} {j w k p : Nat} (h : PlF R j F L) (hp : pB R j w k p = true) : L p = nI (sL R (p / 2)) := by
  unfold pB at hp
  rw [Bool.and_eq_true, Bool.and_eq_true, decide_eq_true_eq] at hp
  obtain ⟨h1, h2, -⟩ := hp
  obtain ⟨e1, e2⟩ := h.2 _ h1
  rcases Nat.mod_two_eq_zero_or_one p with q | q
  · rw [show p = 2 * (p / 2) by omega, e1, show 2 * (p / 2) / 2 = p / 2 by omega]
  · rw [q] at h2
    simp only [decide_true, Bool.not_true, Bool.false_or] at h2
    have := e2 h2
    rw [show 2 * (p / 2) + 1 = p by omega] at this
    exact this
theorem pB_fit {R : Nat → Int32} {j w k p : Nat} (h : pB R j w k p = true) : p / 2 < j ∧ k + sL R (p / 2) ≤ wL R w := by
  unfold pB fitB at h
  rw [Bool.and_eq_true, Bool.and_eq_true, Bool.and_eq_true, decide_eq_true_eq, decide_eq_true_eq] at h
  exact ⟨h.1, h.2.2.1⟩
/-- the fewest presses, the first p presses tried -/
def bsp (R : Nat → Int32) (w : Nat) (m : Int32) (L : Nat → Nat) (f : Nat) : Nat → Nat
  | 0 => 100
  | p + 1 => if bitB m (p / 2) && pB R (nS R) w f p then min (bsp R w m L f p) (min 100 (L (f + sL R (p / 2)) + 1)) else bsp R w m L f p
theorem bsp_le {R : Nat → Int32} {w : Nat} {m : Int32} {L : Nat → Nat} {f : Nat} : ∀ p, bsp R w m L f p ≤ 100 := by
  intro p
  induction p with
  | zero => exact Nat.le_refl _
  | succ p ih =>
    rw [bsp]
    split
    · exact Nat.le_trans (Nat.min_le_left _ _) ih
    · exact ih
theorem bsp_bst {R : Nat → Int32} {w : Nat} {m : Int32} {L : Nat → Nat} {f : Nat} : ∀ s, s ≤ nS R → bsp R w m L f (2 * s) = bst R w m L f s := by
  intro s
  induction s with
  | zero => intro _; rfl
  | succ s ih =>
    intro hs
    have ih := ih (by omega)
    have hb := bst_le (R := R) (w := w) (m := m) (L := L) (f := f) s
    rw [show 2 * (s + 1) = 2 * s + 1 + 1 by omega, bsp, bsp, bst, show (2 * s + 1) / 2 = s by omega, show 2 * s / 2 = s by omega, ih]
    have p0 : pB R (nS R) w f (2 * s) = fitB R w f s false := by
      unfold pB
      rw [show 2 * s / 2 = s by omega, show 2 * s % 2 = 0 by omega, decide_eq_true (show s < nS R by omega)]
      simp
    have p1 : pB R (nS R) w f (2 * s + 1) = (cntB R s && fitB R w f s true) := by
      unfold pB
      rw [show (2 * s + 1) / 2 = s by omega, show (2 * s + 1) % 2 = 1 by omega, decide_eq_true (show s < nS R by omega)]
      simp
    rw [p0, p1]
    unfold anyB
    cases bitB m s <;> cases fitB R w f s false <;> cases (cntB R s && fitB R w f s true) <;> simp only [Bool.false_and, Bool.true_and, Bool.and_false, Bool.and_true, Bool.or_false, Bool.or_true, Bool.false_or, Bool.true_or, if_true, if_false, Bool.false_eq_true, decide_eq_true_eq] <;> (try split) <;> omega
theorem bsp_end {R : Nat → Int32} (hS : nS R ≤ 10) {w : Nat} {m : Int32} {L : Nat → Nat} {f : Nat} : bsp R w m L f 22 = bst R w m L f (nS R) := by
  rw [← bsp_bst (nS R) (Nat.le_refl _)]
  have : ∀ i, bsp R w m L f (2 * nS R + i) = bsp R w m L f (2 * nS R) := by
    intro i
    induction i with
    | zero => rfl
    | succ i ih =>
      rw [show 2 * nS R + (i + 1) = 2 * nS R + i + 1 by omega, bsp, show pB R (nS R) w f (2 * nS R + i) = false from by unfold pB; rw [decide_eq_false (by omega)]; rfl, Bool.and_false, if_neg Bool.false_ne_true, ih]
  have h := this (22 - 2 * nS R)
  rw [show 2 * nS R + (22 - 2 * nS R) = 22 by omega] at h
  exact h
theorem bsp_cg {R : Nat → Int32} {w : Nat} {m : Int32} {L L' : Nat → Nat} {f : Nat} : ∀ p, (∀ q, q < p → pB R (nS R) w f q = true → L (f + sL R (q / 2)) = L' (f + sL R (q / 2))) → bsp R w m L f p = bsp R w m L' f p := by
  intro p
  induction p with
  | zero => intro _; rfl
  | succ p ih =>
    intro h
    rw [bsp, bsp, ih (fun q hq => h q (by omega))]
    cases e : pB R (nS R) w f p with
    | false => simp
    | true => rw [h p (by omega) e]
theorem min_nI {x y : Nat} (hx : x < 2 ^ 31) (hy : y < 2 ^ 31) : (if nI y < nI x then nI y else nI x) = nI (min x y) := by
  rcases Nat.lt_or_ge y x with q | q
  · rw [if_pos (nI_lt q (by omega)), Nat.min_eq_right (by omega)]
  · rw [if_neg (nI_nlt q (by omega)), Nat.min_eq_left q]
