/-! FITS, plainly: the marks of a stamp's two prints -/
theorem wc_n {R : Nat → Int32} (hR : ROk R) {w k j : Nat} (hw : w < nW R) (h : k + j < wL R w) : R (97 + 14 * w + 2 + k + j) = nI (wC R w (k + j)) := by
  rw [show 97 + 14 * w + 2 + k + j = 97 + 14 * w + 2 + (k + j) by omega]
  exact hR.wc hw h
theorem sw_fit {R : Nat → Int32} (hR : ROk R) {w k s : Nat} (hw : w < nW R) {b : Bool} {t : Nat → Nat} (ht : ∀ j, j < sL R s → ∀ x, x < 26 → (97 + x = t j ↔ pC R s j b = nI x)) : swW R t (sL R s) w k = fitB R w k s b := by
  unfold swW swB fitB
  by_cases c : k + sL R s ≤ wL R w
  · rw [decide_eq_true c]
    congr 1
    refine allB_congr (fun j hj => ?_)
    have h1 := hR.wc1 hw (show k + j < wL R w by omega)
    rw [wc_n hR hw (by omega)]
    exact decide_eq_decide.mpr (ht j hj _ h1)
  · rw [decide_eq_false c]; rfl
theorem sw_f {R : Nat → Int32} (hR : ROk R) {w k s : Nat} (hw : w < nW R) (hs : s < nS R) : swW R (fun j => 97 + sC R s j) (sL R s) w k = fitB R w k s false := by
  refine sw_fit hR hw (fun j hj x hx => ?_)
  show 97 + x = 97 + sC R s j ↔ R (7 + 9 * s + 1 + j) = nI x
  have h1 := hR.sc1 hs hj
  rw [hR.sc hs hj, nI_eq (by omega) (by omega)]
  omega
theorem tl_ok {R : Nat → Int32} {s j : Nat} (hc : canT R s = true) (hj : j < sL R s) : tlN (sC R s j) ≠ -1 := of_decide_eq_true (allB_t hc hj)
theorem sw_t {R : Nat → Int32} (hR : ROk R) {w k s : Nat} (hw : w < nW R) (hs : s < nS R) (hc : canT R s = true) : swW R (fun j => tuC (97 + sC R s (sL R s - 1 - j))) (sL R s) w k = fitB R w k s true := by
  refine sw_fit hR hw (fun j hj x hx => ?_)
  show 97 + x = tuC (97 + sC R s (sL R s - 1 - j)) ↔ tlN (sC R s (sL R s - 1 - j)) = nI x
  obtain ⟨y, hy, e1, e2⟩ := tuC_j _ (hR.sc1 hs (show sL R s - 1 - j < sL R s by omega)) (tl_ok hc (by omega))
  rw [e1, e2, nI_eq (by omega) (by omega)]
  omega
theorem eq_sam {R : Nat → Int32} (hR : ROk R) {s : Nat} (hs : s < nS R) (hc : canT R s = true) : eqS (sL R s) (sL R s) (fun j => tuC (97 + sC R s (sL R s - 1 - j))) (fun j => 97 + sC R s j) = samB R s := by
  unfold eqS samB
  rw [decide_eq_true rfl, Bool.true_and]
  refine allB_congr (fun j hj => ?_)
  show decide (tuC (97 + sC R s (sL R s - 1 - j)) = 97 + sC R s j) = decide (tlN (sC R s (sL R s - 1 - j)) = R (7 + 9 * s + 1 + j))
  obtain ⟨y, hy, e1, e2⟩ := tuC_j _ (hR.sc1 hs (show sL R s - 1 - j < sL R s by omega)) (tl_ok hc (by omega))
  have h1 := hR.sc1 hs hj
  rw [e1, e2, hR.sc hs hj]
  refine decide_eq_decide.mpr ?_
  rw [nI_eq (by omega) (by omega)]
  omega
theorem bit_mk {R F : Nat → Int32} {t : Nat → Nat} {n p w k q : Nat} (hp : p < 22) (hq : q < 22) : bitB (mkV R F t n p w k) q = (bitB (F (w * 12 + k)) q || (swW R t n w k && decide (q = p))) := by
  unfold mkV
  rw [bit_or (by omega)]
  cases swW R t n w k with
  | true => rw [if_pos rfl, bit_one p hp q hq, Bool.true_and]
  | false => rw [if_neg Bool.false_ne_true, bit_0 q hq, Bool.false_and]
theorem pB_s {R : Nat → Int32} {j w k p : Nat} : pB R (j + 1) w k p = (pB R j w k p || (decide (p = 2 * j) && fitB R w k j false) || (decide (p = 2 * j + 1) && (cntB R j && fitB R w k j true))) := by
  unfold pB
  by_cases c : p / 2 < j
  · rw [decide_eq_true c, decide_eq_true (show p / 2 < j + 1 by omega), decide_eq_false (show ¬ p = 2 * j by omega), decide_eq_false (show ¬ p = 2 * j + 1 by omega)]
    simp
  · rw [decide_eq_false c]
    by_cases c1 : p = 2 * j
    · subst c1
      rw [decide_eq_true (show 2 * j / 2 < j + 1 by omega), decide_eq_false (show ¬ 2 * j = 2 * j + 1 by omega), show 2 * j / 2 = j by omega, show 2 * j % 2 = 0 by omega]
      simp
    · by_cases c2 : p = 2 * j + 1
      · subst c2
        rw [decide_eq_true (show (2 * j + 1) / 2 < j + 1 by omega), decide_eq_false (show ¬ 2 * j + 1 = 2 * j by omega), show (2 * j + 1) / 2 = j by omega, show (2 * j + 1) % 2 = 1 by omega]
        simp
      · rw [decide_eq_false (show ¬ p / 2 < j + 1 by omega), decide_eq_false c1, decide_eq_false c2]
        simp
/-- one more stamp, that is no other turned -/
theorem PlF.one {R F F1 L : Nat → Int32} (hR : ROk R) {j : Nat} (hj : j < nS R) (h : PlF R j F L) (hc : cntB R j = false) (h1 : ∀ w k, w < nW R → k < wL R w → F1 (w * 12 + k) = mkV R F (fun i => 97 + sC R j i) (sL R j) (2 * j) w k) : PlF R (j + 1) F1 (upd L (2 * j) (nI (sL R j))) := by
  have hS := hR.s1
  refine ⟨fun w hw k hk p hp => ?_, fun s hs => ?_⟩
  · rw [h1 w k hw hk, bit_mk (by omega) hp, h.1 w hw k hk p hp, sw_f hR hw hj, pB_s, hc]
    simp [Bool.and_comm]
  · by_cases q : s = j
    · subst q; rw [pk_us]; exact ⟨rfl, fun x => by rw [hc] at x; cases x⟩
    · rw [pk_un (by omega), pk_un (by omega)]; exact h.2 s (by omega)
theorem PlF.two {R F F1 F2 L : Nat → Int32} (hR : ROk R) {j : Nat} (hj : j < nS R) (h : PlF R j F L) (hc : cntB R j = true) (h1 : ∀ w k, w < nW R → k < wL R w → F1 (w * 12 + k) = mkV R F (fun i => 97 + sC R j i) (sL R j) (2 * j) w k) (h2 : ∀ w k, w < nW R → k < wL R w → F2 (w * 12 + k) = mkV R F1 (fun i => tuC (97 + sC R j (sL R j - 1 - i))) (sL R j) (2 * j + 1) w k) : PlF R (j + 1) F2 (upd (upd L (2 * j) (nI (sL R j))) (2 * j + 1) (nI (sL R j))) := by
  have hS := hR.s1
  have hT : canT R j = true := by unfold cntB at hc; rw [Bool.and_eq_true] at hc; exact hc.1
  refine ⟨fun w hw k hk p hp => ?_, fun s hs => ?_⟩
  · rw [h2 w k hw hk, bit_mk (by omega) hp, h1 w k hw hk, bit_mk (by omega) hp, h.1 w hw k hk p hp, sw_f hR hw hj, sw_t hR hw hj hT, pB_s, hc]
    simp [Bool.and_comm]
  · by_cases q : s = j
    · subst q; rw [pk_un (by omega), pk_us, pk_us]; exact ⟨rfl, fun _ => rfl⟩
    · rw [pk_un (by omega), pk_un (by omega), pk_un (by omega), pk_un (by omega)]; exact h.2 s (by omega)
theorem PlF.zero {R F L : Nat → Int32} (hR : ROk R) (h : ∀ k, k < 84 → F k = nI 0) : PlF R 0 F L := by
  refine ⟨fun w hw k hk p hp => ?_, fun s hs => absurd hs (Nat.not_lt_zero _)⟩
  have h1 := hR.w1
  have h2 := hR.wl1 hw
  rw [h _ (by omega), bit_0 p hp]
  unfold pB
  rw [decide_eq_false (Nat.not_lt_zero _), Bool.false_and]
