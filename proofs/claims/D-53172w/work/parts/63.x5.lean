/-! COMPONENT 10: orders -/
section C15
variable {l : Launch} {G : GG} {E : State → Prop} {sa : Nat → Nat} {ws wr : va_W}
abbrev CnT : Type := Int32 × Int32 × Int32 × (Nat → Int32) × (Nat → Int32) × (Nat → Int32)
/-- inks with any contents -/
def inkC (G : GG) (a i1 i2 i3 : Nat) (C : CnT) : va_W := [oC a 3 [.ref i1, .ref i2, .ref i3, .int C.1, .int C.2.1, .int C.2.2.1], iC G i1 10 C.2.2.2.1, iC G i2 10 C.2.2.2.2.1, iC G i3 10 C.2.2.2.2.2]
/-- the inks of n levels from f on -/
def lvW (G : GG) (A : Nat → Nat × Nat × Nat × Nat) (C : Nat → CnT) : Nat → Nat → va_W
  | _, 0 => []
  | f, n + 1 => inkC G (A f).1 (A f).2.1 (A f).2.2.1 (A f).2.2.2 (C f) ++ lvW G A C (f + 1) n
theorem lvW_cg {G : GG} {A : Nat → Nat × Nat × Nat × Nat} {C C' : Nat → CnT} : ∀ n f, (∀ k, f ≤ k → C' k = C k) → lvW G A C' f n = lvW G A C f n := by
  intro n
  induction n with
  | zero => intro f _; rfl
  | succ n ih => intro f h; rw [lvW, lvW, h f (Nat.le_refl _), ih (f + 1) (fun k hk => h k (by omega))]
theorem PlF.congr {R R' F L : Nat → Int32} (hR : ROk R) (h : PlF R (nS R) F L) (e : ∀ k, stI k → R' k = R k) : PlF R' (nS R') F L := by
  have e0 : nS R' = nS R := rn_congr (e 0 (Or.inl (by decide)))
  have e1 : nW R' = nW R := rn_congr (e 1 (Or.inl (by decide)))
  have es : ∀ s, sL R' s = sL R s := fun s => rn_congr (e _ (Or.inr (Or.inl ⟨s, 0, by decide, rfl⟩)))
  have ec : ∀ s k, k < 5 → sC R' s k = sC R s k := fun s k hk => rn_congr (e _ (Or.inr (Or.inl ⟨s, 1 + k, by omega, by omega⟩)))
  have er : ∀ s k, k < 5 → R' (7 + 9 * s + 1 + k) = R (7 + 9 * s + 1 + k) := fun s k hk => e _ (Or.inr (Or.inl ⟨s, 1 + k, by omega, by omega⟩))
  have ew : ∀ w, wL R' w = wL R w := fun w => rn_congr (e _ (Or.inr (Or.inr (by omega))))
  have ep : ∀ s, s < nS R → ∀ k, k < sL R s → ∀ t, pC R' s k t = pC R s k t := by
    intro s hs k hk t
    have := (hR.sl1 hs).2
    unfold pC
    rw [es, ec _ _ (by omega), er _ _ (by omega)]
  have et : ∀ s, s < nS R → canT R' s = canT R s := by
    intro s hs
    have := (hR.sl1 hs).2
    exact allB_cg (es s) (fun k hk => by rw [es] at hk; rw [ec _ _ (by omega)])
  have em : ∀ s, s < nS R → cntB R' s = cntB R s := by
    intro s hs
    unfold cntB
    rw [et s hs, show samB R' s = samB R s from allB_cg (es s) (fun k hk => by rw [es] at hk; rw [ep s hs k hk, ep s hs k hk])]
  have ef : ∀ w f s t, s < nS R → fitB R' w f s t = fitB R w f s t := by
    intro w f s t hs
    unfold fitB
    rw [es, ew]
    congr 1
    exact allB_congr (fun k hk => by rw [ep s hs k hk, e _ (Or.inr (Or.inr (by omega)))])
  have eb : ∀ w k p, pB R' (nS R') w k p = pB R (nS R) w k p := by
    intro w k p
    unfold pB
    rw [e0]
    by_cases c : p / 2 < nS R
    · rw [em _ c, ef _ _ _ _ c]
    · rw [decide_eq_false c, Bool.false_and, Bool.false_and]
  refine ⟨fun w hw k hk p hp => ?_, fun s hs => ?_⟩
  · rw [e1] at hw; rw [ew] at hk; rw [eb]; exact h.1 w hw k hk p hp
  · rw [e0] at hs; rw [es, em s hs]; exact h.2 s hs
variable {aS aI oN pN lv od be f1 f2 f3 f4 dN : Nat} {R F L M P O B : Nat → Int32} {z st : Int32} {A : Nat → Nat × Nat × Nat × Nat} {C : Nat → CnT} {tr : Nat → Nat} {acc : Acc} {fl : Nat → Option Nat}
theorem hdv_X5_goes : yX5_goes.cls = RX5 ∧ yX5_goes.cls ≠ "java/lang/invoke/MethodHandle" ∧ yX5_goes.cls ≠ "java/lang/invoke/VarHandle" ∧ (parseMethodDescriptor yX5_goes.desc).map (fun d => d.parameters.length) = some 3 := by decide +kernel
theorem c_X5_goes_0 (hE : EnvOK G E) (hJ : EnvJ G E sa) (hR : ROk R) (hB : StB G sa wr aS aI R) (hI : Ink G wr (A dN).1 R) (hlv : kC G lv 8 fl ∈ wr) (hfl : ∀ j, j < 8 → fl j = some (A j).1) (hn : nW R = dN + 0) (hPl : PlF R (nS R) F L) (hO : ∀ k, k < dN → O k = nI (tr k)) (hBe : acc.1 ≠ -1 → ∀ k, k < nW R → B k = nI (acc.2 k)) (hset : ∀ w, w < nW R → bitB st w = !allB dN (fun k => decide (tr k ≠ w))) : MU vV l G E yX5_goes cX5_goes 7 none 7 0 0 [.ref oN, .ref aS, .int (nI dN), .int st] ([oC oN 5 [.ref pN, .ref lv, .ref od, .ref be, .int acc.1], iC G od 7 O, iC G be 7 B, oC pN 4 [.ref aS, .ref f1, .ref f2, .ref f3, .ref f4, .int z], iC G f1 84 F, iC G f2 22 L, iC G f3 13 M, iC G f4 12 P] ++ (lvW G A C (dN + 1) 0 ++ wr)) (fun _ w => ∃ B' O' M' P' z' C', (∀ k, k < dN → O' k = nI (tr k)) ∧ ((cSR (nW R) 0 R tr acc).1 ≠ -1 → ∀ k, k < nW R → B' k = nI ((cSR (nW R) 0 R tr acc).2 k)) ∧ w = [oC oN 5 [.ref pN, .ref lv, .ref od, .ref be, .int ((cSR (nW R) 0 R tr acc).1)], iC G od 7 O', iC G be 7 B', oC pN 4 [.ref aS, .ref f1, .ref f2, .ref f3, .ref f4, .int z'], iC G f1 84 F, iC G f2 22 L, iC G f3 13 M', iC G f4 12 P'] ++ (lvW G A C' (dN + 1) 0 ++ wr)) := by
  refine MUv hE (by decide) (Nat.le_of_ble_eq_true rfl) (fun pR eV sT mI below meth cd QQ ls X hH hl ret => ?_)
  obtain ⟨⟨hx, hb, hml, hown, hts⟩, ⟨hr, hlk⟩, -, -, -⟩ := id X
  have hJs := X.J hJ
  have hl : lv_has ls 7 [(0, .ref oN), (1, .ref aS), (2, .int (nI dN)), (3, .int st)] := hl
  refine wgen (H := sT.heap) (locs := []) hH (fun H locs hH => ?_)
  have hw7 := hR.w1
  have hdn : dN < 8 := by omega
  obtain ⟨aP, aW, eP, eW, mS, LP, LW, SP, SW⟩ := id hB
  obtain ⟨mcP, dP, oP, lP, -, -⟩ := id LP
  obtain ⟨mcW, dW, oW, lW, -, -⟩ := id LW
  obtain ⟨j1, j2, j3, e1, e2, e3, mK, hKj⟩ := id hI
  have hH : HH G sT ([oC oN 5 [.ref pN, .ref lv, .ref od, .ref be, .int acc.1], iC G od 7 O, iC G be 7 B, oC pN 4 [.ref aS, .ref f1, .ref f2, .ref f3, .ref f4, .int z], iC G f1 84 F, iC G f2 22 L, iC G f3 13 M, iC G f4 12 P] ++ (lvW G A C (dN + 1) 0 ++ wr)) H locs := hH
  refine lv_aload_n hx hb dX5_goes_0 rfl (lv_at hl 0 rfl) ?_
  refine x_get X hH.1.1 in_X5 (mem_k 0 rfl) rfl 1 (by decide) q260 (fun _ h => h) rfl dX5_goes_1 ?_
  refine lv_iload_n hx hb dX5_goes_4 rfl (lv_at hl 2 rfl) ?_
  refine x_aald X hH.1.1 (mem_r (mem_r hlv)) (t0 := 3) rfl (by omega) (by decide) dX5_goes_5 ?_
  refine x_rf (y := (A dN).1) (hfl dN hdn) ?_
  refine x_getN X hH.1.1 in_X3 (mem_r (mem_r (mK _ (mem_k (ws := inkW G (A dN).1 j1 j2 j3 R e1 e2 e3) 0 rfl)))) rfl 5 (by decide) (hJs.nw q160 rfl) (fun _ h => h) rfl dX5_goes_6 ?_
  refine lv_istore (lv' := [(4, .int (R 6)), (0, .ref oN), (1, .ref aS), (2, .int (nI dN)), (3, .int st)]) hx hb dX5_goes_9 hl (by decide) rfl (fun ls hl => ?_)
  refine lv_iload_n hx hb dX5_goes_11 rfl (lv_at hl 3 rfl) ?_
  refine lv_aload_n hx hb dX5_goes_12 rfl (lv_at hl 2 rfl) ?_
  refine x_getN X hH.1.1 in_X2 (mem_r (mem_r mS)) rfl 1 (by decide) (hJs.nw q180 rfl) (fun _ h => h) rfl dX5_goes_13 ?_
  refine x_RV (l_size hE (LW.mono (fun _ h => mem_r (mem_r h)))) X hH.2 hH.1.1 (x_rc X hH.1.1 (mem_r (mem_r (lW _ List.mem_cons_self))) rfl) (lw_V q1156 q349 q350 q66 q351) hdv_J2_size ⟨Nat.le_of_ble_eq_true rfl, Nat.le_of_ble_eq_true rfl⟩ rfl hl.1 rfl (Nat.le_of_ble_eq_true rfl) ⟨(Nat.le_of_ble_eq_true rfl), (Nat.le_of_ble_eq_true rfl)⟩ dX5_goes_16 ?_
  refine n_top (y := nI dN) (by rw [hn]; rfl) ?_
  refine n_icmp_ne (tgt := 61) hx hb (by omega) (by omega) dX5_goes_19 (by decide) (fun c1 => absurd rfl c1) (fun c1 => ?_)
  refine lv_aload_n hx hb dX5_goes_22 rfl (lv_at hl 1 rfl) ?_
  refine x_get X hH.1.1 in_X5 (mem_k 0 rfl) rfl 4 (by decide) q264 (fun _ h => h) rfl dX5_goes_23 ?_
  refine lv_iconst (v := (-1)) hx hb dX5_goes_26 (by decide) ?_
  refine lv_icmp_eq (tgt := 39) hx hb dX5_goes_27 (by decide) (fun c2 => ?_) (fun c2 => ?_)
  · have hbt : btB R acc = true := by unfold btB; rw [decide_eq_true c2, Bool.true_or]
    have hac : cSR (nW R) 0 R tr acc = (R 6, tr) := by unfold cSR; rw [if_pos hbt]
    refine lv_aload_n hx hb dX5_goes_39 rfl (lv_at hl 1 rfl) ?_
    refine lv_iload hx hb dX5_goes_40 (lv_at hl 0 rfl) ?_
    refine x_put X hH in_X5 tyX5 tyX5_ok nmX5 0 rfl rfl 4 (by decide) q264 (fun _ h => h) rfl (ty := .int) (by decide +kernel) rfl rfl (Nat.le_of_ble_eq_true rfl) dX5_goes_42 (fun H locs hH => ?_)
    have hH : HH G sT ([oC oN 5 [.ref pN, .ref lv, .ref od, .ref be, .int (R 6)], iC G od 7 O, iC G be 7 B, oC pN 4 [.ref aS, .ref f1, .ref f2, .ref f3, .ref f4, .int z], iC G f1 84 F, iC G f2 22 L, iC G f3 13 M, iC G f4 12 P] ++ (lvW G A C (dN + 1) 0 ++ wr)) H locs := hH
    refine lv_aload_n hx hb dX5_goes_45 rfl (lv_at hl 1 rfl) ?_
    refine x_get X hH.1.1 in_X5 (mem_k 0 rfl) rfl 2 (by decide) q261 (fun _ h => h) rfl dX5_goes_46 ?_
    refine lv_iconst (v := nI 0) hx hb dX5_goes_49 (by decide) ?_
    refine lv_aload_n hx hb dX5_goes_50 rfl (lv_at hl 1 rfl) ?_
    refine x_get X hH.1.1 in_X5 (mem_k 0 rfl) rfl 3 (by decide) q262 (fun _ h => h) rfl dX5_goes_51 ?_
    refine lv_iconst (v := nI 0) hx hb dX5_goes_54 (by decide) ?_
    refine lv_bipush (v := nI 7) hx hb dX5_goes_55 (by decide) ?_
    refine x_copyi X hl.1 q1157 q508 q507 q87 hH 2 (mem_k 1 rfl) rfl (by omega) (by omega) (by decide) (by decide) (Nat.le_of_ble_eq_true rfl) (Nat.le_of_ble_eq_true rfl) dX5_goes_57 (fun H locs hH => ?_)
    have hH : HH G sT ([oC oN 5 [.ref pN, .ref lv, .ref od, .ref be, .int (R 6)], iC G od 7 O, iC G be 7 (va_cpy O B 0 0 7), oC pN 4 [.ref aS, .ref f1, .ref f2, .ref f3, .ref f4, .int z], iC G f1 84 F, iC G f2 22 L, iC G f3 13 M, iC G f4 12 P] ++ (lvW G A C (dN + 1) 0 ++ wr)) H locs := hH
    exact ret _ _ _ _ _ _ _ hH (⟨va_cpy O B 0 0 7, O, M, P, z, C, hO, fun _ k hk => by rw [hac]; have := cpyAt (f := O) (g := B) (sp := 0) (dp := 0) (show k < 7 by omega); rw [Nat.zero_add] at this; rw [this]; exact hO k (by omega), by rw [hac]⟩) (Nat.le_of_ble_eq_true rfl) (Nat.le_of_ble_eq_true rfl) dX5_goes_60
  · refine lv_iload hx hb dX5_goes_30 (lv_at hl 0 rfl) ?_
    refine lv_aload_n hx hb dX5_goes_32 rfl (lv_at hl 1 rfl) ?_
    refine x_get X hH.1.1 in_X5 (mem_k 0 rfl) rfl 4 (by decide) q264 (fun _ h => h) rfl dX5_goes_33 ?_
    refine lv_icmp_ge (tgt := 60) hx hb dX5_goes_36 (by decide) (fun c3 => ?_) (fun c3 => ?_)
    · have hbt : btB R acc = false := by unfold btB; rw [decide_eq_false c2, decide_eq_false (Int32.not_lt.mpr c3)]; rfl
      have hac : cSR (nW R) 0 R tr acc = acc := by unfold cSR; rw [hbt, if_neg Bool.false_ne_true]
      exact ret _ _ _ _ _ _ _ hH (⟨B, O, M, P, z, C, hO, by rw [hac]; exact hBe, by rw [hac]⟩) (Nat.le_of_ble_eq_true rfl) (Nat.le_of_ble_eq_true rfl) dX5_goes_60
    · have hbt : btB R acc = true := by unfold btB; rw [decide_eq_true (Int32.not_le.mp c3), Bool.or_true]
      have hac : cSR (nW R) 0 R tr acc = (R 6, tr) := by unfold cSR; rw [if_pos hbt]
      refine lv_aload_n hx hb dX5_goes_39 rfl (lv_at hl 1 rfl) ?_
      refine lv_iload hx hb dX5_goes_40 (lv_at hl 0 rfl) ?_
      refine x_put X hH in_X5 tyX5 tyX5_ok nmX5 0 rfl rfl 4 (by decide) q264 (fun _ h => h) rfl (ty := .int) (by decide +kernel) rfl rfl (Nat.le_of_ble_eq_true rfl) dX5_goes_42 (fun H locs hH => ?_)
      have hH : HH G sT ([oC oN 5 [.ref pN, .ref lv, .ref od, .ref be, .int (R 6)], iC G od 7 O, iC G be 7 B, oC pN 4 [.ref aS, .ref f1, .ref f2, .ref f3, .ref f4, .int z], iC G f1 84 F, iC G f2 22 L, iC G f3 13 M, iC G f4 12 P] ++ (lvW G A C (dN + 1) 0 ++ wr)) H locs := hH
      refine lv_aload_n hx hb dX5_goes_45 rfl (lv_at hl 1 rfl) ?_
      refine x_get X hH.1.1 in_X5 (mem_k 0 rfl) rfl 2 (by decide) q261 (fun _ h => h) rfl dX5_goes_46 ?_
      refine lv_iconst (v := nI 0) hx hb dX5_goes_49 (by decide) ?_
      refine lv_aload_n hx hb dX5_goes_50 rfl (lv_at hl 1 rfl) ?_
      refine x_get X hH.1.1 in_X5 (mem_k 0 rfl) rfl 3 (by decide) q262 (fun _ h => h) rfl dX5_goes_51 ?_
      refine lv_iconst (v := nI 0) hx hb dX5_goes_54 (by decide) ?_
      refine lv_bipush (v := nI 7) hx hb dX5_goes_55 (by decide) ?_
      refine x_copyi X hl.1 q1157 q508 q507 q87 hH 2 (mem_k 1 rfl) rfl (by omega) (by omega) (by decide) (by decide) (Nat.le_of_ble_eq_true rfl) (Nat.le_of_ble_eq_true rfl) dX5_goes_57 (fun H locs hH => ?_)
      have hH : HH G sT ([oC oN 5 [.ref pN, .ref lv, .ref od, .ref be, .int (R 6)], iC G od 7 O, iC G be 7 (va_cpy O B 0 0 7), oC pN 4 [.ref aS, .ref f1, .ref f2, .ref f3, .ref f4, .int z], iC G f1 84 F, iC G f2 22 L, iC G f3 13 M, iC G f4 12 P] ++ (lvW G A C (dN + 1) 0 ++ wr)) H locs := hH
      exact ret _ _ _ _ _ _ _ hH (⟨va_cpy O B 0 0 7, O, M, P, z, C, hO, fun _ k hk => by rw [hac]; have := cpyAt (f := O) (g := B) (sp := 0) (dp := 0) (show k < 7 by omega); rw [Nat.zero_add] at this; rw [this]; exact hO k (by omega), by rw [hac]⟩) (Nat.le_of_ble_eq_true rfl) (Nat.le_of_ble_eq_true rfl) dX5_goes_60
end C15
