/-! COMPONENT 9: a word written -/
section C14
variable {l : Launch} {G : GG} {E : State → Prop} {sa : Nat → Nat} {ws wr : va_W}
variable {aS aJ pN f1 f2 f3 f4 i1 i2 i3 wN kN : Nat} {R P g1 g2 g3 : Nat → Int32}
theorem hdv_X4_write : yX4_write.cls = RX4 ∧ yX4_write.cls ≠ "java/lang/invoke/MethodHandle" ∧ yX4_write.cls ≠ "java/lang/invoke/VarHandle" ∧ (parseMethodDescriptor yX4_write.desc).map (fun d => d.parameters.length) = some 2 := by decide +kernel
theorem c_X4_write (hE : EnvOK G E) (hJ : EnvJ G E sa) (hR : ROk R) (hW : StWd G sa wr aS R) (m0 : oC pN 4 [.ref aS, .ref f1, .ref f2, .ref f3, .ref f4, .int (nI (pmN R wN (frM R)))] ∈ wr) (m4 : iC G f4 12 P ∈ wr) (hPv : ∀ x, x < pmN R wN (frM R) → P x = nI (plP R wN (frM R) x)) (hK : InkR R g1 g2 g3) (hw : wN < nW R) : MU vI l G E yX4_write cX4_write 4 (some .int) 4 0 0 [.ref pN, .int (nI wN), .ref aJ] ([oC aJ 3 [.ref i1, .ref i2, .ref i3, .int (R 4), .int (R 5), .int (R 6)], iC G i1 10 g1, iC G i2 10 g2, iC G i3 10 g3] ++ wr) (fun r w => r = nI (pmN R wN (frM R)) ∧ ∃ h1 h2 h3, InkR (wroR R wN) h1 h2 h3 ∧ w = inkW G aJ i1 i2 i3 (wroR R wN) h1 h2 h3 ++ wr) := by
  refine MUi hE (by decide) (Nat.le_of_ble_eq_true rfl) (fun pR eV sT mI below meth cd QQ ls X hH hl ret => ?_)
  obtain ⟨⟨hx, hb, hml, hown, hts⟩, ⟨hr, hlk⟩, -, -, -⟩ := id X
  have hJs := X.J hJ
  have hl : lv_has ls 4 [(0, .ref pN), (1, .int (nI wN)), (2, .ref aJ)] := hl
  refine wgen (H := sT.heap) (locs := []) hH (fun H locs hH => ?_)
  obtain ⟨aP, aW, aI, eW, mS, LW, SW⟩ := id (hW)
  obtain ⟨mcW, dW, oW, lW, -, -⟩ := id LW
  obtain ⟨aST, mT, hsT⟩ := id (SW wN hw)
  obtain ⟨qT, fT, xT, zT, yT, -⟩ := id hsT
  have hS := hR.s1
  have hw7 := hR.w1
  have hn := pmN_le hR (w := wN) (m := frM R)
  have hw2 := hR.wl1 hw
  refine lv_iconst (v := nI 0) hx hb dX4_write_0 (by decide) ?_
  refine lv_istore_n (lv' := [(3, .int (nI 0)), (0, .ref pN), (1, .int (nI wN)), (2, .ref aJ)]) hx hb dX4_write_1 rfl hl (by decide) rfl (fun ls hl => ?_)
  have lp : ∀ (fu : Nat) (kN : Nat) (h1 : Nat → Int32) (h2 : Nat → Int32) (h3 : Nat → Int32), (kN ≤ pmN R wN (frM R)) → (InkR (carR R (plP R wN (frM R)) (R (97 + 14 * wN + 1)) kN) h1 h2 h3) → pmN R wN (frM R) - kN < fu → ∀ (H : Heap) (locs : List Loc), HH G sT ([oC aJ 3 [.ref i1, .ref i2, .ref i3, .int ((carR R (plP R wN (frM R)) (R (97 + 14 * wN + 1)) kN) 4), .int ((carR R (plP R wN (frM R)) (R (97 + 14 * wN + 1)) kN) 5), .int ((carR R (plP R wN (frM R)) (R (97 + 14 * wN + 1)) kN) 6)], iC G i1 10 h1, iC G i2 10 h2, iC G i3 10 h3] ++ wr) H locs → ∀ ls : Array Slot, lv_has ls 4 [(0, .ref pN), (1, .int (nI wN)), (2, .ref aJ), (3, .int (nI kN))] → W pR l eV (Rm 4 0 0) sT mI ([.ref pN, .int (nI wN), .ref aJ] : List Value).toArray below meth cd H locs 0 0 QQ (F0 mI 2 ls []) := by
    intro fu
    induction fu with
    | zero => intro kN h1 h2 h3 hk hKv hm; exact absurd hm (Nat.not_lt_zero _)
    | succ fu ih_lp =>
      intro kN h1 h2 h3 hk hKv hm H locs hH ls hl
      refine lv_iload_n hx hb dX4_write_2 rfl (lv_at hl 3 rfl) ?_
      refine lv_aload_n hx hb dX4_write_3 rfl (lv_at hl 0 rfl) ?_
      refine x_get X hH.1.1 in_X4 (mem_r m0) rfl 5 (by decide) q233 (fun _ h => h) rfl dX4_write_4 ?_
      refine n_icmp_ge (tgt := 52) hx hb (by omega) (by omega) dX4_write_7 (by decide) (fun c1 => ?_) (fun c1 => ?_)
      · refine lv_aload_n hx hb dX4_write_52 rfl (lv_at hl 0 rfl) ?_
        refine x_get X hH.1.1 in_X4 (mem_r m0) rfl 5 (by decide) q233 (fun _ h => h) rfl dX4_write_53 ?_
        exact ret _ _ _ _ _ _ _ _ hH (⟨rfl, h1, h2, h3, by unfold wroR; rw [show pmN R wN (frM R) = kN by omega]; exact hKv, by unfold wroR; rw [show pmN R wN (frM R) = kN by omega]; rfl⟩) (Nat.le_of_ble_eq_true rfl) (Nat.le_of_ble_eq_true rfl) dX4_write_56
      · have hpk := plP_lt hR c1
        have hst : ∀ k, stI k → (carR R (plP R wN (frM R)) (R (97 + 14 * wN + 1)) kN) k = R k := fun k hk => carR_st _ (fun i hi => by have := plP_lt hR (show i < pmN R wN (frM R) by omega); omega) k hk
        have hnS : nS (carR R (plP R wN (frM R)) (R (97 + 14 * wN + 1)) kN) = nS R := rn_congr (hst 0 (Or.inl (by decide)))
        refine lv_aload_n hx hb dX4_write_10 rfl (lv_at hl 2 rfl) ?_
        refine lv_aload_n hx hb dX4_write_11 rfl (lv_at hl 0 rfl) ?_
        refine x_get X hH.1.1 in_X4 (mem_r m0) rfl 4 (by decide) q231 (fun _ h => h) rfl dX4_write_12 ?_
        refine lv_iload_n hx hb dX4_write_15 rfl (lv_at hl 3 rfl) ?_
        refine x_iald X hH.1.1 (mem_r m4) (by omega) (by decide) dX4_write_16 ?_
        refine n_top (y := nI (plP R wN (frM R) kN)) (hPv kN c1) ?_
        refine lv_iconst (v := nI 2) hx hb dX4_write_17 (by decide) ?_
        refine n_idiv hx hb (by omega) (by omega) (by omega) dX4_write_18 ?_
        refine lv_aload_n hx hb dX4_write_19 rfl (lv_at hl 0 rfl) ?_
        refine x_get X hH.1.1 in_X4 (mem_r m0) rfl 0 (by decide) q227 (fun _ h => h) rfl dX4_write_20 ?_
        refine x_getN X hH.1.1 in_X2 (mem_r mS) rfl 1 (by decide) (hJs.nw q181 rfl) (fun _ h => h) rfl dX4_write_23 ?_
        refine lv_iload_n hx hb dX4_write_26 rfl (lv_at hl 1 rfl) ?_
        refine x_RV (l_get hE (LW.mono (fun _ h => mem_r h)) hw) X hH.2 hH.1.1 (x_rc X hH.1.1 (mem_r (lW _ List.mem_cons_self)) rfl) (lw_V q956 q889 q890 q66 q891) hdv_J2_get ⟨Nat.le_of_ble_eq_true rfl, Nat.le_of_ble_eq_true rfl⟩ rfl hl.1 rfl (Nat.le_of_ble_eq_true rfl) ⟨(Nat.le_of_ble_eq_true rfl), (Nat.le_of_ble_eq_true rfl)⟩ dX4_write_27 ?_
        refine x_castS X hH.1.1 (mem_r mT) rfl q967 dX4_write_30 ?_
        refine x_getN X hH.1.1 in_X10 (mem_r mT) rfl 1 (by decide) (hJs.nw q819 rfl) (fun _ h => h) rfl dX4_write_33 ?_
        refine lv_aload_n hx hb dX4_write_36 rfl (lv_at hl 0 rfl) ?_
        refine x_get X hH.1.1 in_X4 (mem_r m0) rfl 0 (by decide) q227 (fun _ h => h) rfl dX4_write_37 ?_
        refine x_getN X hH.1.1 in_X2 (mem_r mS) rfl 3 (by decide) (hJs.nw q187 rfl) (fun _ h => h) rfl dX4_write_40 ?_
        refine n_top (y := (carR R (plP R wN (frM R)) (R (97 + 14 * wN + 1)) kN) 3) ((hst 3 (Or.inl (by decide))).symm) ?_
        refine x_MVv (c_X3_press (wr := wr) hE hKv (by rw [hnS]; exact hS) (by rw [hnS]; omega)) X hH (x_rc X hH.1.1 (mem_k 0 rfl) rfl) (lw_V q1115 q1116 q1117 q67 q1118) hdv_X3_press ⟨Nat.le_of_ble_eq_true rfl, Nat.le_of_ble_eq_true rfl⟩ rfl hl.1 rfl (Nat.le_of_ble_eq_true rfl) ⟨(Nat.le_of_ble_eq_true rfl), (Nat.le_of_ble_eq_true rfl)⟩ dX4_write_43 (fun w H locs hq hH => ?_)
        obtain ⟨h1', h2', h3', hK', rfl⟩ := hq
        have hH : HH G sT ([oC aJ 3 [.ref i1, .ref i2, .ref i3, .int ((carR R (plP R wN (frM R)) (R (97 + 14 * wN + 1)) (kN + 1)) 4), .int ((carR R (plP R wN (frM R)) (R (97 + 14 * wN + 1)) (kN + 1)) 5), .int ((carR R (plP R wN (frM R)) (R (97 + 14 * wN + 1)) (kN + 1)) 6)], iC G i1 10 h1', iC G i2 10 h2', iC G i3 10 h3'] ++ wr) H locs := hH
        refine lv_iinc (v := nI (kN + 1)) (lv' := [(3, .int (nI (kN + 1))), (0, .ref pN), (1, .int (nI wN)), (2, .ref aJ)]) hx hb dX4_write_46 hl (k := 3) rfl (nI_add _ 1) (by decide) rfl (fun ls hl => ?_)
        refine lv_goto (tgt := 2) hx hb dX4_write_49 (by decide) ?_
        exact ih_lp (kN + 1) h1' h2' h3'  (by omega) (hK') (by omega) _ _ hH ls (lv_sub hl [1, 2, 3, 0] rfl)
  exact lp _ 0 g1 g2 g3  (Nat.zero_le _) (hK) (Nat.lt_succ_self _) _ _ hH ls (lv_sub hl [1, 2, 3, 0] rfl)
end C14
