/-! REPRESENTATION: stamps, words and states of the component, by a row -/
def tuC (c : Nat) : Nat := match c with
  | 98 => 113 | 113 => 98 | 100 => 112 | 112 => 100 | 109 => 119 | 119 => 109 | 110 => 117 | 117 => 110 | 108 => 108 | 111 => 111 | 115 => 115 | 120 => 120 | 122 => 122 | _ => 0
theorem tuC_all : ∀ k, k < 26 → tuC (97 + k) < 128 ∧ (tuC (97 + k) = 0 ↔ tlN k = -1) ∧ (tlN k ≠ -1 → nI (tuC (97 + k)) - nI 97 = tlN k) := by decide +kernel
theorem tuC_j : ∀ k, k < 26 → tlN k ≠ -1 → ∃ j, j < 26 ∧ tuC (97 + k) = 97 + j ∧ tlN k = nI j := by decide +kernel
def tnB (t : Nat → Nat) (n : Nat) : Bool := allB n (fun j => decide (tuC (t (n - 1 - j)) ≠ 0))
section REP
variable {G : GG} {sa : Nat → Nat} {ws ws' : va_W} {R R' : Nat → Int32} {a s w aI : Nat}
def StampAt (G : GG) (ws : va_W) (a : Nat) (R : Nat → Int32) (s : Nat) : Prop := ∃ aS o, oC a 8 [.ref aS, va_rf o] ∈ ws ∧ Str G ws aS (fun k => 97 + sC R s k) (sL R s) ∧ (canT R s = false → o = none) ∧ (canT R s = true → ∃ t, o = some t ∧ t ≠ aS ∧ Str G ws t (fun k => tuC (97 + sC R s (sL R s - 1 - k))) (sL R s))
def WordAt (G : GG) (ws : va_W) (a : Nat) (R : Nat → Int32) (w : Nat) : Prop := ∃ aS, oC a 9 [.ref aS, .int (R (97 + 14 * w + 1))] ∈ ws ∧ Str G ws aS (fun k => 97 + wC R w k) (wL R w)
/-- a state but for its inks -/
def StB (G : GG) (sa : Nat → Nat) (ws : va_W) (a aI : Nat) (R : Nat → Int32) : Prop := ∃ aP aW eP eW, oC a 2 [.ref aP, .ref aW, .int (R 2), .int (R 3), .ref aI] ∈ ws ∧ Lst G sa ws aP (nS R) eP ∧ Lst G sa ws aW (nW R) eW ∧ (∀ s, s < nS R → StampAt G ws (eP s) R s) ∧ ∀ w, w < nW R → WordAt G ws (eW w) R w
theorem StampAt.mono (h : StampAt G ws a R s) (hs : ∀ q ∈ ws, q ∈ ws') : StampAt G ws' a R s := by
  obtain ⟨aS, o, h1, h2, h3, h4⟩ := h
  exact ⟨aS, o, hs _ h1, h2.mono hs, h3, fun q => by obtain ⟨t, e1, e2, e3⟩ := h4 q; exact ⟨t, e1, e2, e3.mono hs⟩⟩
theorem WordAt.mono (h : WordAt G ws a R w) (hs : ∀ q ∈ ws, q ∈ ws') : WordAt G ws' a R w := by
  obtain ⟨aS, h1, h2⟩ := h
  exact ⟨aS, hs _ h1, h2.mono hs⟩
theorem StB.mono (h : StB G sa ws a aI R) (hs : ∀ q ∈ ws, q ∈ ws') : StB G sa ws' a aI R := by
  obtain ⟨aP, aW, eP, eW, h1, h2, h3, h4, h5⟩ := h
  exact ⟨aP, aW, eP, eW, hs _ h1, h2.mono hs, h3.mono hs, fun s q => (h4 s q).mono hs, fun w q => (h5 w q).mono hs⟩
theorem allB_cg {n n' : Nat} {p q : Nat → Bool} (e : n = n') (h : ∀ k, k < n → p k = q k) : allB n p = allB n' q := by subst e; exact allB_congr h
/-- a stamp by another row, at another place -/
theorem StampAt.congr {s' : Nat} (h : StampAt G ws a R s) (e0 : sL R' s' = sL R s) (e : ∀ k, k < sL R s → sC R' s' k = sC R s k) : StampAt G ws a R' s' := by
  obtain ⟨aS, o, h1, h2, h3, h4⟩ := h
  have ec : canT R' s' = canT R s := allB_cg e0 (fun k hk => by rw [e k (by omega)])
  refine ⟨aS, o, h1, by rw [e0]; exact h2.congr (fun k hk => by rw [e k hk]), fun q => h3 (by rw [← ec]; exact q), fun q => ?_⟩
  obtain ⟨t, x1, x2, x3⟩ := h4 (by rw [← ec]; exact q)
  exact ⟨t, x1, x2, by rw [e0]; exact x3.congr (fun k hk => by rw [e _ (by omega)])⟩
theorem WordAt.congr {w' : Nat} (h : WordAt G ws a R w) (ec : R' (97 + 14 * w' + 1) = R (97 + 14 * w + 1)) (e0 : wL R' w' = wL R w) (e : ∀ k, k < wL R w → wC R' w' k = wC R w k) : WordAt G ws a R' w' := by
  obtain ⟨aS, h1, h2⟩ := h
  exact ⟨aS, by rw [ec]; exact h1, by rw [e0]; exact h2.congr (fun k hk => by rw [e k hk])⟩
/-- a state by a row that differs in its inks at most -/
theorem StB.congr (hR : ROk R) (h : StB G sa ws a aI R) (e : ∀ k, stI k → R' k = R k) : StB G sa ws a aI R' := by
  obtain ⟨aP, aW, eP, eW, h1, h2, h3, h4, h5⟩ := h
  have e0 : nS R' = nS R := rn_congr (e 0 (Or.inl (by decide)))
  have e1 : nW R' = nW R := rn_congr (e 1 (Or.inl (by decide)))
  refine ⟨aP, aW, eP, eW, by rw [e 2 (Or.inl (by decide)), e 3 (Or.inl (by decide))]; exact h1, by rw [e0]; exact h2, by rw [e1]; exact h3, fun s q => ?_, fun w q => ?_⟩
  · rw [e0] at q
    have hl := (hR.sl1 q).2
    exact (h4 s q).congr (rn_congr (e _ (Or.inr (Or.inl ⟨s, 0, by decide, rfl⟩)))) (fun k hk => rn_congr (e _ (Or.inr (Or.inl ⟨s, 1 + k, by omega, by omega⟩))))
  · rw [e1] at q
    exact (h5 w q).congr (e _ (Or.inr (Or.inr (by omega)))) (rn_congr (e _ (Or.inr (Or.inr (by omega))))) (fun k hk => rn_congr (e _ (Or.inr (Or.inr (by omega)))))
end REP
/-- cells of two parts of a world are apart -/
theorem HH.ne {G : GG} {s : State} {X Y : va_W} {H : Heap} {locs : List Loc} {p q : Nat × va_E} (h : HH G s (X ++ Y) H locs) (hp : p ∈ X) (hq : q ∈ Y) : p.1 ≠ q.1 := by
  obtain ⟨a1, -⟩ := va_D.iff.mp h.1.2
  rw [List.map_append] at a1
  exact (List.nodup_append.mp a1).2.2 _ (List.mem_map_of_mem hp) _ (List.mem_map_of_mem hq)
