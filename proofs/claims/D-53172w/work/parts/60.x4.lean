/-! COMPONENT 8: whether a word is possible -/
section C13
variable {l : Launch} {G : GG} {E : State → Prop} {sa : Nat → Nat} {ws wr : va_W}
variable {a b n n2 aS aI aJ pN f1 f2 f3 f4 wN kN sN mN jN : Nat} {R F L M P : Nat → Int32} {z mk : Int32} {pl : Nat → Nat}
def usp (pl : Nat → Nat) (s : Nat) : Nat → Nat
  | 0 => 0
  | i + 1 => usp pl s i + (if pl i / 2 = s then 1 else 0)
theorem usp_N {w s : Nat} : ∀ i, usN R w mk s i = usp (plP R w mk) s i := by
  intro i
  induction i with
  | zero => rfl
  | succ i ih => rw [usN, usp, ih]
theorem usp_le {s : Nat} : ∀ i, usp pl s i ≤ i := by
  intro i
  induction i with
  | zero => exact Nat.le_refl _
  | succ i ih => rw [usp]; split <;> omega
theorem usp_pos {s k : Nat} : ∀ i, k < i → pl k / 2 = s → 0 < usp pl s i := by
  intro i
  induction i with
  | zero => intro h; exact absurd h (Nat.not_lt_zero _)
  | succ i ih =>
    intro h e
    rw [usp]
    by_cases q : k = i
    · subst q; rw [if_pos e]; omega
    · have := ih (by omega) e; omega
theorem usp_wit {s : Nat} : ∀ i, 0 < usp pl s i → ∃ k, k < i ∧ pl k / 2 = s := by
  intro i
  induction i with
  | zero => intro h; exact absurd h (Nat.lt_irrefl _)
  | succ i ih =>
    intro h
    rw [usp] at h
    by_cases q : pl i / 2 = s
    · exact ⟨i, by omega, q⟩
    · rw [if_neg q] at h
      obtain ⟨k, h1, h2⟩ := ih (by omega)
      exact ⟨k, by omega, h2⟩
def witB (R : Nat → Int32) (pl : Nat → Nat) (n : Nat) (j : Nat) : Bool := allB j (fun k => decide (R (7 + 9 * (pl k / 2) + 8) + nI (usp pl (pl k / 2) n) ≤ R 2))
theorem wit_s {R : Nat → Int32} {pl : Nat → Nat} {n k : Nat} {b : Bool} (h : decide (R (7 + 9 * (pl k / 2) + 8) + nI (usp pl (pl k / 2) n) ≤ R 2) = b) : (witB R pl n k && b) = witB R pl n (k + 1) := by rw [← h]; rfl
theorem add_self0 {x y : Int32} (h : x + y = x) : y = 0 := by
  have e : y = x + y - x := by rw [Int32.add_comm x y, Int32.add_sub_cancel]
  rw [e, h, Int32.sub_self]
theorem wit_us {w : Nat} (hR : ROk R) (hw : w < nW R) : witB R (plP R w mk) (pmN R w mk) (pmN R w mk) = allB (nS R) (usB R w mk) := by
  have hn := pmN_le hR (w := w) (m := mk)
  have hw2 := hR.wl1 hw
  rw [Bool.eq_iff_iff]
  unfold witB
  rw [allB_iff, allB_iff]
  constructor
  · intro h s hs
    unfold usB
    rw [usp_N]
    rcases Nat.eq_zero_or_pos (usp (plP R w mk) s (pmN R w mk)) with q | q
    · rw [q, i_add0, Bool.or_eq_true]
      exact Or.inr (decide_eq_true rfl)
    · obtain ⟨k, h1, h2⟩ := usp_wit _ q
      have := h k h1
      rw [h2] at this
      rw [this]; rfl
  · intro h k hk
    have hk2 := plP_lt hR hk
    have := h (plP R w mk k / 2) (by omega)
    unfold usB at this
    rw [usp_N, Bool.or_eq_true] at this
    rcases this with this | this
    · exact this
    · have h0 := add_self0 (of_decide_eq_true this)
      have h1 := usp_pos (pl := plP R w mk) (pmN R w mk) hk rfl
      have h2 := usp_le (pl := plP R w mk) (s := plP R w mk k / 2) (pmN R w mk)
      have := nI_eq0 (by omega) h0
      omega
theorem hdv_X4_isWithin : yX4_isWithin.cls = RX4 ∧ yX4_isWithin.cls ≠ "java/lang/invoke/MethodHandle" ∧ yX4_isWithin.cls ≠ "java/lang/invoke/VarHandle" ∧ (parseMethodDescriptor yX4_isWithin.desc).map (fun d => d.parameters.length) = some 1 := by decide +kernel
theorem c_X4_isWithin (hE : EnvOK G E) (hJ : EnvJ G E sa) (m0 : oC pN 4 [.ref aS, .ref f1, .ref f2, .ref f3, .ref f4, .int (nI n)] ∈ ws) (m4 : iC G f4 12 P ∈ ws) (hW : StWd G sa ws aS R) (hJ2 : Ink G ws aJ R) (hn : n ≤ 12) (hPv : ∀ x, x < n → P x = nI (pl x)) (hpl : ∀ x, x < n → pl x < 2 * nS R) (hS : nS R ≤ 10) : RO l G E yX4_isWithin cX4_isWithin 6 .boolean 1 [.ref pN, .ref aJ] (va_P G.1 cls (ws)) (.int (bI (witB R pl n n))) := by
  refine ROz hE (by decide) (Nat.le_of_ble_eq_true rfl) (bI_nar _) (fun pR eV sT mI below meth cd QQ ls X hP hl ret => ?_)
  obtain ⟨⟨hx, hb, hml, hown, hts⟩, ⟨hr, hlk⟩, -, -, -⟩ := id X
  have hJs := X.J hJ
  have hl : lv_has ls 6 [(0, .ref pN), (1, .ref aJ)] := hl
  obtain ⟨aP, aW, aI, eW, mS, LW, SW⟩ := id (hW)
  obtain ⟨mcW, dW, oW, lW, -, -⟩ := id LW
  obtain ⟨i1, i2, i3, g1, g2, g3, mK, hK⟩ := id hJ2
  refine lv_iconst (v := nI 1) hx hb dX4_isWithin_0 (by decide) ?_
  refine lv_istore_n (lv' := [(2, .int (nI 1)), (0, .ref pN), (1, .ref aJ)]) hx hb dX4_isWithin_1 rfl hl (by decide) rfl (fun ls hl => ?_)
  refine lv_iconst (v := nI 0) hx hb dX4_isWithin_2 (by decide) ?_
  refine lv_istore_n (lv' := [(3, .int (nI 0)), (2, .int (nI 1)), (0, .ref pN), (1, .ref aJ)]) hx hb dX4_isWithin_3 rfl hl (by decide) rfl (fun ls hl => ?_)
  have hl : lv_has ls 6 [(3, .int (nI 0)), (2, .int (bI (witB R pl n 0))), (0, .ref pN), (1, .ref aJ)] := by rw [← (show (nI 1 : Int32) = bI (witB R pl n 0) from rfl)]; exact hl
  have lp : ∀ (fu : Nat) (kN : Nat), (kN ≤ n) → n - kN < fu → ∀ ls : Array Slot, lv_has ls 6 [(0, .ref pN), (1, .ref aJ), (2, .int (bI (witB R pl n kN))), (3, .int (nI kN))] → W pR l eV (Rm 1 0 0) sT mI ([.ref pN, .ref aJ] : List Value).toArray below meth cd sT.heap [] 0 0 QQ (F0 mI 4 ls []) := by
    intro fu
    induction fu with
    | zero => intro kN hk hm; exact absurd hm (Nat.not_lt_zero _)
    | succ fu ih_lp =>
      intro kN hk hm  ls hl
      refine lv_iload_n hx hb dX4_isWithin_4 rfl (lv_at hl 3 rfl) ?_
      refine lv_aload_n hx hb dX4_isWithin_5 rfl (lv_at hl 0 rfl) ?_
      refine x_get X hP in_X4 m0 rfl 5 (by decide) q233 (fun _ h => h) rfl dX4_isWithin_6 ?_
      refine n_icmp_ge (tgt := 103) hx hb (by omega) (by omega) dX4_isWithin_9 (by decide) (fun c1 => ?_) (fun c1 => ?_)
      · refine lv_iload_n hx hb dX4_isWithin_103 rfl (lv_at hl 2 rfl) ?_
        exact ret _ _ _ (by rw [show kN = n by omega]) dX4_isWithin_104
      · have hpk := hpl kN c1
        have hg := (hK.1 (pl kN / 2) (by omega)).2.2
        refine lv_iconst (v := nI 0) hx hb dX4_isWithin_12 (by decide) ?_
        refine lv_istore (lv' := [(4, .int (nI 0)), (0, .ref pN), (1, .ref aJ), (2, .int (bI (witB R pl n kN))), (3, .int (nI kN))]) hx hb dX4_isWithin_13 hl (by decide) rfl (fun ls hl => ?_)
        refine lv_iconst (v := nI 0) hx hb dX4_isWithin_15 (by decide) ?_
        refine lv_istore (lv' := [(5, .int (nI 0)), (4, .int (nI 0)), (0, .ref pN), (1, .ref aJ), (2, .int (bI (witB R pl n kN))), (3, .int (nI kN))]) hx hb dX4_isWithin_16 hl (by decide) rfl (fun ls hl => ?_)
        have hl : lv_has ls 6 [(5, .int (nI 0)), (4, .int (nI (usp pl (pl kN / 2) 0))), (0, .ref pN), (1, .ref aJ), (2, .int (bI (witB R pl n kN))), (3, .int (nI kN))] := by rw [← (show (nI 0 : Int32) = nI (usp pl (pl kN / 2) 0) from rfl)]; exact hl
        have lq : ∀ (fu : Nat) (jN : Nat), (jN ≤ n) → n - jN < fu → ∀ ls : Array Slot, lv_has ls 6 [(0, .ref pN), (1, .ref aJ), (2, .int (bI (witB R pl n kN))), (3, .int (nI kN)), (4, .int (nI (usp pl (pl kN / 2) jN))), (5, .int (nI jN))] → W pR l eV (Rm 1 0 0) sT mI ([.ref pN, .ref aJ] : List Value).toArray below meth cd sT.heap [] 0 0 QQ (F0 mI 18 ls []) := by
          intro fu
          induction fu with
          | zero => intro jN hj hm; exact absurd hm (Nat.not_lt_zero _)
          | succ fu ih_lq =>
            intro jN hj hm  ls hl
            refine lv_iload hx hb dX4_isWithin_18 (lv_at hl 5 rfl) ?_
            refine lv_aload_n hx hb dX4_isWithin_20 rfl (lv_at hl 0 rfl) ?_
            refine x_get X hP in_X4 m0 rfl 5 (by decide) q233 (fun _ h => h) rfl dX4_isWithin_21 ?_
            refine n_icmp_ge (tgt := 63) hx hb (by omega) (by omega) dX4_isWithin_24 (by decide) (fun c2 => ?_) (fun c2 => ?_)
            · have hju : jN = n := by omega
              refine lv_iload_n hx hb dX4_isWithin_63 rfl (lv_at hl 2 rfl) ?_
              refine lv_aload_n hx hb dX4_isWithin_64 rfl (lv_at hl 1 rfl) ?_
              refine x_getN X hP in_X3 (mK _ (mem_k (ws := inkW G aJ i1 i2 i3 R g1 g2 g3) 0 rfl)) rfl 2 (by decide) (hJs.nw q154 rfl) (fun _ h => h) rfl dX4_isWithin_65 ?_
              refine lv_aload_n hx hb dX4_isWithin_68 rfl (lv_at hl 0 rfl) ?_
              refine x_get X hP in_X4 m0 rfl 4 (by decide) q231 (fun _ h => h) rfl dX4_isWithin_69 ?_
              refine lv_iload_n hx hb dX4_isWithin_72 rfl (lv_at hl 3 rfl) ?_
              refine x_iald X hP m4 (by omega) (by decide) dX4_isWithin_73 ?_
              refine n_top (y := nI (pl kN)) (hPv kN c1) ?_
              refine lv_iconst (v := nI 2) hx hb dX4_isWithin_74 (by decide) ?_
              refine n_idiv hx hb (by omega) (by omega) (by omega) dX4_isWithin_75 ?_
              refine x_iald X hP (mK _ (mem_k (ws := inkW G aJ i1 i2 i3 R g1 g2 g3) 3 rfl)) (by omega) (by decide) dX4_isWithin_76 ?_
              refine n_top (y := R (7 + 9 * (pl kN / 2) + 8)) (hg) ?_
              refine lv_iload hx hb dX4_isWithin_77 (lv_at hl 4 rfl) ?_
              refine lv_iadd hx hb dX4_isWithin_79 ?_
              refine lv_aload_n hx hb dX4_isWithin_80 rfl (lv_at hl 0 rfl) ?_
              refine x_get X hP in_X4 m0 rfl 0 (by decide) q227 (fun _ h => h) rfl dX4_isWithin_81 ?_
              refine x_getN X hP in_X2 mS rfl 2 (by decide) (hJs.nw q184 rfl) (fun _ h => h) rfl dX4_isWithin_84 ?_
              refine lv_icmp_gt (tgt := 94) hx hb dX4_isWithin_87 (by decide) (fun c3 => ?_) (fun c3 => ?_)
              · refine lv_iconst (v := nI 0) hx hb dX4_isWithin_94 (by decide) ?_
                refine n_top (y := bI false) (rfl) ?_
                refine lv_iand hx hb dX4_isWithin_95 ?_
                refine n_top (y := bI (witB R pl n (kN + 1))) (by rw [bI_and, wit_s (decide_eq_false (by rw [← hju]; exact Int32.not_le.mpr c3))]) ?_
                refine lv_istore_n (lv' := [(2, .int (bI (witB R pl n (kN + 1)))), (0, .ref pN), (1, .ref aJ), (3, .int (nI kN)), (4, .int (nI (usp pl (pl kN / 2) jN))), (5, .int (nI jN))]) hx hb dX4_isWithin_96 rfl hl (by decide) rfl (fun ls hl => ?_)
                refine lv_iinc (v := nI (kN + 1)) (lv' := [(3, .int (nI (kN + 1))), (2, .int (bI (witB R pl n (kN + 1)))), (0, .ref pN), (1, .ref aJ), (4, .int (nI (usp pl (pl kN / 2) jN))), (5, .int (nI jN))]) hx hb dX4_isWithin_97 hl (k := 3) rfl (nI_add _ 1) (by decide) rfl (fun ls hl => ?_)
                refine lv_goto (tgt := 4) hx hb dX4_isWithin_100 (by decide) ?_
                exact ih_lp (kN + 1)  (by omega) (by omega) ls (lv_sub hl [2, 3, 1, 0] rfl)
              · refine lv_iconst (v := nI 1) hx hb dX4_isWithin_90 (by decide) ?_
                refine lv_goto (tgt := 95) hx hb dX4_isWithin_91 (by decide) ?_
                refine n_top (y := bI true) (rfl) ?_
                refine lv_iand hx hb dX4_isWithin_95 ?_
                refine n_top (y := bI (witB R pl n (kN + 1))) (by rw [bI_and, wit_s (decide_eq_true (by rw [← hju]; exact Int32.not_lt.mp c3))]) ?_
                refine lv_istore_n (lv' := [(2, .int (bI (witB R pl n (kN + 1)))), (0, .ref pN), (1, .ref aJ), (3, .int (nI kN)), (4, .int (nI (usp pl (pl kN / 2) jN))), (5, .int (nI jN))]) hx hb dX4_isWithin_96 rfl hl (by decide) rfl (fun ls hl => ?_)
                refine lv_iinc (v := nI (kN + 1)) (lv' := [(3, .int (nI (kN + 1))), (2, .int (bI (witB R pl n (kN + 1)))), (0, .ref pN), (1, .ref aJ), (4, .int (nI (usp pl (pl kN / 2) jN))), (5, .int (nI jN))]) hx hb dX4_isWithin_97 hl (k := 3) rfl (nI_add _ 1) (by decide) rfl (fun ls hl => ?_)
                refine lv_goto (tgt := 4) hx hb dX4_isWithin_100 (by decide) ?_
                exact ih_lp (kN + 1)  (by omega) (by omega) ls (lv_sub hl [2, 3, 1, 0] rfl)
            · have hpj := hpl jN c2
              have hul := usp_le (pl := pl) (s := pl kN / 2) jN
              refine lv_iload hx hb dX4_isWithin_27 (lv_at hl 4 rfl) ?_
              refine lv_aload_n hx hb dX4_isWithin_29 rfl (lv_at hl 0 rfl) ?_
              refine x_get X hP in_X4 m0 rfl 4 (by decide) q231 (fun _ h => h) rfl dX4_isWithin_30 ?_
              refine lv_iload hx hb dX4_isWithin_33 (lv_at hl 5 rfl) ?_
              refine x_iald X hP m4 (by omega) (by decide) dX4_isWithin_35 ?_
              refine n_top (y := nI (pl jN)) (hPv jN c2) ?_
              refine lv_iconst (v := nI 2) hx hb dX4_isWithin_36 (by decide) ?_
              refine n_idiv hx hb (by omega) (by omega) (by omega) dX4_isWithin_37 ?_
              refine lv_aload_n hx hb dX4_isWithin_38 rfl (lv_at hl 0 rfl) ?_
              refine x_get X hP in_X4 m0 rfl 4 (by decide) q231 (fun _ h => h) rfl dX4_isWithin_39 ?_
              refine lv_iload_n hx hb dX4_isWithin_42 rfl (lv_at hl 3 rfl) ?_
              refine x_iald X hP m4 (by omega) (by decide) dX4_isWithin_43 ?_
              refine n_top (y := nI (pl kN)) (hPv kN c1) ?_
              refine lv_iconst (v := nI 2) hx hb dX4_isWithin_44 (by decide) ?_
              refine n_idiv hx hb (by omega) (by omega) (by omega) dX4_isWithin_45 ?_
              refine n_icmp_ne (tgt := 53) hx hb (by omega) (by omega) dX4_isWithin_46 (by decide) (fun c3 => ?_) (fun c3 => ?_)
              · refine lv_iconst (v := nI 0) hx hb dX4_isWithin_53 (by decide) ?_
                refine n_iadd hx hb dX4_isWithin_54 ?_
                refine n_top (y := nI (usp pl (pl kN / 2) (jN + 1))) (by rw [usp, if_neg c3]) ?_
                refine lv_istore (lv' := [(4, .int (nI (usp pl (pl kN / 2) (jN + 1)))), (0, .ref pN), (1, .ref aJ), (2, .int (bI (witB R pl n kN))), (3, .int (nI kN)), (5, .int (nI jN))]) hx hb dX4_isWithin_55 hl (by decide) rfl (fun ls hl => ?_)
                refine lv_iinc (v := nI (jN + 1)) (lv' := [(5, .int (nI (jN + 1))), (4, .int (nI (usp pl (pl kN / 2) (jN + 1)))), (0, .ref pN), (1, .ref aJ), (2, .int (bI (witB R pl n kN))), (3, .int (nI kN))]) hx hb dX4_isWithin_57 hl (k := 5) rfl (nI_add _ 1) (by decide) rfl (fun ls hl => ?_)
                refine lv_goto (tgt := 18) hx hb dX4_isWithin_60 (by decide) ?_
                exact ih_lq (jN + 1)  (by omega) (by omega) ls (lv_sub hl [2, 3, 4, 5, 1, 0] rfl)
              · refine lv_iconst (v := nI 1) hx hb dX4_isWithin_49 (by decide) ?_
                refine lv_goto (tgt := 54) hx hb dX4_isWithin_50 (by decide) ?_
                refine n_iadd hx hb dX4_isWithin_54 ?_
                refine n_top (y := nI (usp pl (pl kN / 2) (jN + 1))) (by rw [usp, if_pos c3]) ?_
                refine lv_istore (lv' := [(4, .int (nI (usp pl (pl kN / 2) (jN + 1)))), (0, .ref pN), (1, .ref aJ), (2, .int (bI (witB R pl n kN))), (3, .int (nI kN)), (5, .int (nI jN))]) hx hb dX4_isWithin_55 hl (by decide) rfl (fun ls hl => ?_)
                refine lv_iinc (v := nI (jN + 1)) (lv' := [(5, .int (nI (jN + 1))), (4, .int (nI (usp pl (pl kN / 2) (jN + 1)))), (0, .ref pN), (1, .ref aJ), (2, .int (bI (witB R pl n kN))), (3, .int (nI kN))]) hx hb dX4_isWithin_57 hl (k := 5) rfl (nI_add _ 1) (by decide) rfl (fun ls hl => ?_)
                refine lv_goto (tgt := 18) hx hb dX4_isWithin_60 (by decide) ?_
                exact ih_lq (jN + 1)  (by omega) (by omega) ls (lv_sub hl [2, 3, 4, 5, 1, 0] rfl)
        exact lq _ 0  (Nat.zero_le _) (Nat.lt_succ_self _) ls (lv_sub hl [2, 3, 4, 5, 1, 0] rfl)
  exact lp _ 0  (Nat.zero_le _) (Nat.lt_succ_self _) ls (lv_sub hl [2, 3, 1, 0] rfl)
theorem hdv_X4_isPossible : yX4_isPossible.cls = RX4 ∧ yX4_isPossible.cls ≠ "java/lang/invoke/MethodHandle" ∧ yX4_isPossible.cls ≠ "java/lang/invoke/VarHandle" ∧ (parseMethodDescriptor yX4_isPossible.desc).map (fun d => d.parameters.length) = some 2 := by decide +kernel
theorem c_X4_isPossible (hE : EnvOK G E) (hJ : EnvJ G E sa) (hR : ROk R) (hB : StB G sa wr aS aI R) (hJ2 : Ink G wr aJ R) (hPl : PlF R (nS R) F L) (hw : wN < nW R) : MU vI l G E yX4_isPossible cX4_isPossible 3 (some .boolean) 6 0 0 [.ref pN, .int (nI wN), .ref aJ] ([oC pN 4 [.ref aS, .ref f1, .ref f2, .ref f3, .ref f4, .int z], iC G f1 84 F, iC G f2 22 L, iC G f3 13 M, iC G f4 12 P] ++ wr) (fun r w => ∃ M' P', (∀ x, x < pmN R wN (frM R) → P' x = nI (plP R wN (frM R) x)) ∧ r = bI (wrB R wN (frM R)) ∧ w = [oC pN 4 [.ref aS, .ref f1, .ref f2, .ref f3, .ref f4, .int (nI (pmN R wN (frM R)))], iC G f1 84 F, iC G f2 22 L, iC G f3 13 M', iC G f4 12 P'] ++ wr) := by
  refine MUz hE (by decide) (Nat.le_of_ble_eq_true rfl) (fun pR eV sT mI below meth cd QQ ls X hH hl ret => ?_)
  obtain ⟨⟨hx, hb, hml, hown, hts⟩, ⟨hr, hlk⟩, -, -, -⟩ := id X
  have hJs := X.J hJ
  have hl : lv_has ls 3 [(0, .ref pN), (1, .int (nI wN)), (2, .ref aJ)] := hl
  refine wgen (H := sT.heap) (locs := []) hH (fun H locs hH => ?_)
  obtain ⟨aP, aW, eP, eW, mS, LP, LW, SP, SW⟩ := id hB
  obtain ⟨mcP, dP, oP, lP, -, -⟩ := id LP
  obtain ⟨mcW, dW, oW, lW, -, -⟩ := id LW
  obtain ⟨i1, i2, i3, g1, g2, g3, mK, hK⟩ := id hJ2
  have hS := hR.s1
  refine lv_aload_n hx hb dX4_isPossible_0 rfl (lv_at hl 0 rfl) ?_
  refine lv_iload_n hx hb dX4_isPossible_1 rfl (lv_at hl 1 rfl) ?_
  refine lv_aload_n hx hb dX4_isPossible_2 rfl (lv_at hl 2 rfl) ?_
  refine lv_aload_n hx hb dX4_isPossible_3 rfl (lv_at hl 0 rfl) ?_
  refine x_get X hH.1.1 in_X4 (mem_k 0 rfl) rfl 0 (by decide) q227 (fun _ h => h) rfl dX4_isPossible_4 ?_
  refine x_getN X hH.1.1 in_X2 (mem_r mS) rfl 0 (by decide) (hJs.nw q177 rfl) (fun _ h => h) rfl dX4_isPossible_7 ?_
  refine x_RV (l_size hE (LP.mono (fun _ h => mem_r h))) X hH.2 hH.1.1 (x_rc X hH.1.1 (mem_r (lP _ List.mem_cons_self)) rfl) (lw_V q955 q349 q350 q66 q351) hdv_J2_size ⟨Nat.le_of_ble_eq_true rfl, Nat.le_of_ble_eq_true rfl⟩ rfl hl.1 rfl (Nat.le_of_ble_eq_true rfl) ⟨(Nat.le_of_ble_eq_true rfl), (Nat.le_of_ble_eq_true rfl)⟩ dX4_isPossible_10 ?_
  refine lv_aload_n hx hb dX4_isPossible_13 rfl (lv_at hl 0 rfl) ?_
  refine x_get X hH.1.1 in_X4 (mem_k 0 rfl) rfl 0 (by decide) q227 (fun _ h => h) rfl dX4_isPossible_14 ?_
  refine x_getN X hH.1.1 in_X2 (mem_r mS) rfl 2 (by decide) (hJs.nw q184 rfl) (fun _ h => h) rfl dX4_isPossible_17 ?_
  refine x_RV (c_X3_usable hE ((mem_r (mK _ (mem_k (ws := inkW G aJ i1 i2 i3 R g1 g2 g3) 0 rfl)))) ((mem_r (mK _ (mem_k (ws := inkW G aJ i1 i2 i3 R g1 g2 g3) 3 rfl)))) (fun s h => (hK.1 s h).2.2) hS) X hH.2 hH.1.1 (x_rc X hH.1.1 (mem_r (mK _ (mem_k (ws := inkW G aJ i1 i2 i3 R g1 g2 g3) 0 rfl))) rfl) (lw_V q1090 q1091 q1092 q67 q1093) hdv_X3_usable ⟨Nat.le_of_ble_eq_true rfl, Nat.le_of_ble_eq_true rfl⟩ rfl hl.1 rfl (Nat.le_of_ble_eq_true rfl) ⟨(Nat.le_of_ble_eq_true rfl), (Nat.le_of_ble_eq_true rfl)⟩ dX4_isPossible_20 ?_
  refine x_MVi (c_X4_lay hE hJ hR hB.wd hPl hw) X hH (x_rc X hH.1.1 (mem_k 0 rfl) rfl) (lw_V q1094 q1095 q1096 q70 q1097) hdv_X4_lay ⟨Nat.le_of_ble_eq_true rfl, Nat.le_of_ble_eq_true rfl⟩ rfl hl.1 rfl (Nat.le_of_ble_eq_true rfl) ⟨(Nat.le_of_ble_eq_true rfl), (Nat.le_of_ble_eq_true rfl)⟩ dX4_isPossible_23 (fun r w H locs hq hH => ?_)
  obtain ⟨M', P', hP', rfl, rfl⟩ := hq
  have hH : HH G sT ([oC pN 4 [.ref aS, .ref f1, .ref f2, .ref f3, .ref f4, .int (nI (pmN R wN (frM R)))], iC G f1 84 F, iC G f2 22 L, iC G f3 13 M', iC G f4 12 P'] ++ wr) H locs := hH
  refine b_if_eq (tgt := 41) hx hb dX4_isPossible_26 (by decide) (fun c1 => ?_) (fun c1 => ?_)
  · refine lv_iconst (v := nI 0) hx hb dX4_isPossible_41 (by decide) ?_
    exact ret _ _ _ _ _ _ _ _ hH (⟨M', P', hP', bI_f (by unfold wrB; rw [c1, Bool.false_and]), rfl⟩) (by decide) (Nat.le_of_ble_eq_true rfl) (Nat.le_of_ble_eq_true rfl) dX4_isPossible_42
  · have hn := pmN_le hR (w := wN) (m := frM R)
    have hw2 := hR.wl1 hw
    refine lv_aload_n hx hb dX4_isPossible_29 rfl (lv_at hl 0 rfl) ?_
    refine lv_aload_n hx hb dX4_isPossible_30 rfl (lv_at hl 2 rfl) ?_
    refine x_RV (c_X4_isWithin hE hJ (mem_k 0 rfl) (mem_k 4 rfl) (hB.wd.mono (fun _ h => mem_r h)) (hJ2.mono (fun _ h => mem_r h)) (by omega) hP' (fun x hx => plP_lt hR hx) hS) X hH.2 hH.1.1 (x_rc X hH.1.1 (mem_k 0 rfl) rfl) (lw_V q1107 q1109 qs14 q70 q1110) hdv_X4_isWithin ⟨Nat.le_of_ble_eq_true rfl, Nat.le_of_ble_eq_true rfl⟩ rfl hl.1 rfl (Nat.le_of_ble_eq_true rfl) ⟨(Nat.le_of_ble_eq_true rfl), (Nat.le_of_ble_eq_true rfl)⟩ dX4_isPossible_31 ?_
    refine n_top (y := bI (allB (nS R) (usB R wN (frM R)))) (by rw [wit_us hR hw]) ?_
    refine b_if_eq (tgt := 41) hx hb dX4_isPossible_34 (by decide) (fun c2 => ?_) (fun c2 => ?_)
    · refine lv_iconst (v := nI 0) hx hb dX4_isPossible_41 (by decide) ?_
      exact ret _ _ _ _ _ _ _ _ hH (⟨M', P', hP', bI_f (by unfold wrB; rw [c2, Bool.and_false]), rfl⟩) (by decide) (Nat.le_of_ble_eq_true rfl) (Nat.le_of_ble_eq_true rfl) dX4_isPossible_42
    · refine lv_iconst (v := nI 1) hx hb dX4_isPossible_37 (by decide) ?_
      refine lv_goto (tgt := 42) hx hb dX4_isPossible_38 (by decide) ?_
      exact ret _ _ _ _ _ _ _ _ hH (⟨M', P', hP', bI_t (by unfold wrB; rw [c1, c2]; rfl), rfl⟩) (by decide) (Nat.le_of_ble_eq_true rfl) (Nat.le_of_ble_eq_true rfl) dX4_isPossible_42
end C13
