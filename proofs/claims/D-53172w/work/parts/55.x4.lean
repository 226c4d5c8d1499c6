/-! COMPONENT 4: plans, what fits -/
section C9
variable {l : Launch} {G : GG} {E : State → Prop} {sa : Nat → Nat} {ws wr : va_W}
variable {a b n n2 aS pN f1 f2 f3 f4 wN kN sN mN : Nat} {t t2 : Nat → Nat} {R F L M P : Nat → Int32} {z mk : Int32}
theorem s_sw (hE : EnvOK G E) (hJ : EnvJ G E sa) {f : Nat} (h1 : Str G ws a t n) (h2 : Str G ws b t2 n2) (hL : n2 ≤ 7) (hf : f < 2 ^ 20) : RO l G E yJ12_startsWith cJ12_startsWith 8 .boolean 3 [.ref a, .ref b, .int (nI f)] (va_P G.1 cls ws) (.int (bI (swB n n2 t t2 f))) := by
  obtain ⟨q, g, x, z, a1, a2, a3, a4⟩ := h1
  obtain ⟨q', g', x', z', b1, b2, b3, b4⟩ := h2
  exact c_J12_startsWith hE hJ a1 a2 a3 a4 b1 b2 b3 b4 hL hf
theorem s_eq (hE : EnvOK G E) (hJ : EnvJ G E sa) (h1 : Str G ws a t n) (h2 : Str G ws b t2 n2) (hne : a ≠ b) : RO l G E yJ12_equals cJ12_equals 3 .boolean 2 [.ref a, .ref b] (va_P G.1 cls ws) (.int (bI (eqS n n2 t t2))) := by
  obtain ⟨q, g, x, z, a1, a2, a3, a4⟩ := h1
  obtain ⟨q', g', x', z', b1, b2, b3, b4⟩ := h2
  exact c_J12_equals hE hJ a1 a2 a3 a4 b1 b2 b3 b4 hne
/-- a state's words, and its limits -/
def StWd (G : GG) (sa : Nat → Nat) (ws : va_W) (a : Nat) (R : Nat → Int32) : Prop := ∃ aP aW aI, ∃ eW : Nat → Nat, oC a 2 [.ref aP, .ref aW, .int (R 2), .int (R 3), .ref aI] ∈ ws ∧ Lst G sa ws aW (nW R) eW ∧ ∀ w, w < nW R → WordAt G ws (eW w) R w
theorem StB.wd {a aI : Nat} (h : StB G sa ws a aI R) : StWd G sa ws a R := by
  obtain ⟨aP, aW, eP, eW, h1, h2, h3, h4, h5⟩ := h
  exact ⟨aP, aW, aI, eW, h1, h3, h5⟩
theorem StWd.mono {ws' : va_W} {a : Nat} (h : StWd G sa ws a R) (hs : ∀ q ∈ ws, q ∈ ws') : StWd G sa ws' a R := by
  obtain ⟨aP, aW, aI, eW, h1, h3, h5⟩ := h
  exact ⟨aP, aW, aI, eW, hs _ h1, h3.mono hs, fun w q => (h5 w q).mono hs⟩
theorem StWd.congr {R' : Nat → Int32} {a : Nat} (h : StWd G sa ws a R) (e : ∀ k, k = 1 ∨ k = 2 ∨ k = 3 ∨ 97 ≤ k → R' k = R k) : StWd G sa ws a R' := by
  obtain ⟨aP, aW, aI, eW, h1, h3, h5⟩ := h
  have e1 : nW R' = nW R := rn_congr (e 1 (by omega))
  refine ⟨aP, aW, aI, eW, by rw [e 2 (by omega), e 3 (by omega)]; exact h1, by rw [e1]; exact h3, fun w q => ?_⟩
  rw [e1] at q
  exact (h5 w q).congr (e _ (by omega)) (rn_congr (e _ (by omega))) (fun k hk => rn_congr (e _ (by omega)))
theorem hds_X4_init : yX4_init.cls ≠ "java/lang/invoke/MethodHandle" ∧ yX4_init.cls ≠ "java/lang/invoke/VarHandle" ∧ (parseMethodDescriptor yX4_init.desc).map (fun d => d.parameters.length) = some 0 := by decide +kernel
theorem c_X4_init (hE : EnvOK G E) : MU vV l G E yX4_init cX4_init 1 none 1 4 131 [.ref pN] ([oC pN 4 [.null, .null, .null, .null, .null, .int (nI 0)]] ++ wr) (fun _ w => ∃ f1 f2 f3 f4, w = [oC pN 4 [.null, .ref f1, .ref f2, .ref f3, .ref f4, .int (nI 0)], iC G f1 84 (fun _ => nI 0), iC G f2 22 (fun _ => nI 0), iC G f3 13 (fun _ => nI 0), iC G f4 12 (fun _ => nI 0)] ++ wr) := by
  refine MUc hE (by decide) (Nat.le_of_ble_eq_true rfl) (fun pR eV sT mI below meth cd QQ ls hin X hH hl ret => ?_)
  obtain ⟨⟨hx, hb, hml, hown, hts⟩, ⟨hr, hlk⟩, -, -, -⟩ := id X
  have hl : lv_has ls 1 [(0, .ref pN)] := hl
  refine wgen (H := sT.heap) (locs := []) hH (fun H locs hH => ?_)
  refine lv_aload_n hx hb dX4_init_0 rfl (lv_at hl 0 rfl) ?_
  refine x_obj X hl.1 q226 q105 q106 (Nat.le_of_ble_eq_true rfl) (Nat.le_of_ble_eq_true rfl) dX4_init_1 ?_
  refine lv_aload_n hx hb dX4_init_4 rfl (lv_at hl 0 rfl) ?_
  refine lv_bipush (v := nI 84) hx hb dX4_init_5 (by decide) ?_
  refine x_newi X hH (by decide) (Nat.le_of_ble_eq_true rfl) (Nat.le_of_ble_eq_true rfl) dX4_init_7 (fun f1 H hH => ?_)
  refine x_widen (k2 := 1) (n2 := 84) (Nat.le_of_ble_eq_true rfl) (Nat.le_of_ble_eq_true rfl) ?_
  have hH : HH G sT ([iC G f1 84 (fun _ => nI 0), oC pN 4 [.null, .null, .null, .null, .null, .int (nI 0)]] ++ wr) H locs := hH
  refine x_putF X hH in_X4 tyX4 tyX4_ok nmX4 1 rfl rfl 1 (by decide) q228 (fun _ h => h) rfl hin rfl (ty := .array (.int)) (by decide +kernel) rfl rfl (Nat.le_of_ble_eq_true rfl) dX4_init_9 (fun H locs hH => ?_)
  have hH : HH G sT ([iC G f1 84 (fun _ => nI 0), oC pN 4 [.null, .ref f1, .null, .null, .null, .int (nI 0)]] ++ wr) H locs := hH
  refine lv_aload_n hx hb dX4_init_12 rfl (lv_at hl 0 rfl) ?_
  refine lv_bipush (v := nI 22) hx hb dX4_init_13 (by decide) ?_
  refine x_newi X hH (by decide) (Nat.le_of_ble_eq_true rfl) (Nat.le_of_ble_eq_true rfl) dX4_init_15 (fun f2 H hH => ?_)
  refine x_widen (k2 := 2) (n2 := 106) (Nat.le_of_ble_eq_true rfl) (Nat.le_of_ble_eq_true rfl) ?_
  have hH : HH G sT ([iC G f2 22 (fun _ => nI 0), iC G f1 84 (fun _ => nI 0), oC pN 4 [.null, .ref f1, .null, .null, .null, .int (nI 0)]] ++ wr) H locs := hH
  refine x_putF X hH in_X4 tyX4 tyX4_ok nmX4 2 rfl rfl 2 (by decide) q229 (fun _ h => h) rfl hin rfl (ty := .array (.int)) (by decide +kernel) rfl rfl (Nat.le_of_ble_eq_true rfl) dX4_init_17 (fun H locs hH => ?_)
  have hH : HH G sT ([iC G f2 22 (fun _ => nI 0), iC G f1 84 (fun _ => nI 0), oC pN 4 [.null, .ref f1, .ref f2, .null, .null, .int (nI 0)]] ++ wr) H locs := hH
  refine lv_aload_n hx hb dX4_init_20 rfl (lv_at hl 0 rfl) ?_
  refine lv_bipush (v := nI 13) hx hb dX4_init_21 (by decide) ?_
  refine x_newi X hH (by decide) (Nat.le_of_ble_eq_true rfl) (Nat.le_of_ble_eq_true rfl) dX4_init_23 (fun f3 H hH => ?_)
  refine x_widen (k2 := 3) (n2 := 119) (Nat.le_of_ble_eq_true rfl) (Nat.le_of_ble_eq_true rfl) ?_
  have hH : HH G sT ([iC G f3 13 (fun _ => nI 0), iC G f2 22 (fun _ => nI 0), iC G f1 84 (fun _ => nI 0), oC pN 4 [.null, .ref f1, .ref f2, .null, .null, .int (nI 0)]] ++ wr) H locs := hH
  refine x_putF X hH in_X4 tyX4 tyX4_ok nmX4 3 rfl rfl 3 (by decide) q230 (fun _ h => h) rfl hin rfl (ty := .array (.int)) (by decide +kernel) rfl rfl (Nat.le_of_ble_eq_true rfl) dX4_init_25 (fun H locs hH => ?_)
  have hH : HH G sT ([iC G f3 13 (fun _ => nI 0), iC G f2 22 (fun _ => nI 0), iC G f1 84 (fun _ => nI 0), oC pN 4 [.null, .ref f1, .ref f2, .ref f3, .null, .int (nI 0)]] ++ wr) H locs := hH
  refine lv_aload_n hx hb dX4_init_28 rfl (lv_at hl 0 rfl) ?_
  refine lv_bipush (v := nI 12) hx hb dX4_init_29 (by decide) ?_
  refine x_newi X hH (by decide) (Nat.le_of_ble_eq_true rfl) (Nat.le_of_ble_eq_true rfl) dX4_init_31 (fun f4 H hH => ?_)
  refine x_widen (k2 := 4) (n2 := 131) (Nat.le_of_ble_eq_true rfl) (Nat.le_of_ble_eq_true rfl) ?_
  have hH : HH G sT ([iC G f4 12 (fun _ => nI 0), iC G f3 13 (fun _ => nI 0), iC G f2 22 (fun _ => nI 0), iC G f1 84 (fun _ => nI 0), oC pN 4 [.null, .ref f1, .ref f2, .ref f3, .null, .int (nI 0)]] ++ wr) H locs := hH
  refine x_putF X hH in_X4 tyX4 tyX4_ok nmX4 4 rfl rfl 4 (by decide) q231 (fun _ h => h) rfl hin rfl (ty := .array (.int)) (by decide +kernel) rfl rfl (Nat.le_of_ble_eq_true rfl) dX4_init_33 (fun H locs hH => ?_)
  have hH : HH G sT ([iC G f4 12 (fun _ => nI 0), iC G f3 13 (fun _ => nI 0), iC G f2 22 (fun _ => nI 0), iC G f1 84 (fun _ => nI 0), oC pN 4 [.null, .ref f1, .ref f2, .ref f3, .ref f4, .int (nI 0)]] ++ wr) H locs := hH
  have hH : HH G sT ([oC pN 4 [.null, .ref f1, .ref f2, .ref f3, .ref f4, .int (nI 0)], iC G f1 84 (fun _ => nI 0), iC G f2 22 (fun _ => nI 0), iC G f3 13 (fun _ => nI 0), iC G f4 12 (fun _ => nI 0)] ++ wr) H locs := HH.pickN hH 5 [4, 3, 2, 1, 0] rfl (by decide) rfl
  exact ret _ _ _ _ _ _ _ hH (⟨f1, f2, f3, f4, rfl⟩) (Nat.le_of_ble_eq_true rfl) (Nat.le_of_ble_eq_true rfl) dX4_init_36
theorem hdv_X4_mayPress : yX4_mayPress.cls = RX4 ∧ yX4_mayPress.cls ≠ "java/lang/invoke/MethodHandle" ∧ yX4_mayPress.cls ≠ "java/lang/invoke/VarHandle" ∧ (parseMethodDescriptor yX4_mayPress.desc).map (fun d => d.parameters.length) = some 4 := by decide +kernel
theorem c_X4_mayPress (hE : EnvOK G E) {st : Value} {x1 x2 x3 : Nat} (m0 : oC pN 4 [st, .ref f1, .ref x1, .ref x2, .ref x3, .int z] ∈ ws) (m1 : iC G f1 84 F ∈ ws) (hw : wN < 7) (hk : kN < 12) (hm : mN < 22) : RO l G E yX4_mayPress cX4_mayPress 5 .boolean 1 [.ref pN, .int (nI wN), .int (nI kN), .int (nI mN), .int mk] (va_P G.1 cls (ws)) (.int (bI (bitB mk (mN / 2) && bitB (F (wN * 12 + kN)) mN))) := by
  refine ROz hE (by decide) (Nat.le_of_ble_eq_true rfl) (bI_nar _) (fun pR eV sT mI below meth cd QQ ls X hP hl ret => ?_)
  obtain ⟨⟨hx, hb, hml, hown, hts⟩, ⟨hr, hlk⟩, -, -, -⟩ := id X
  have hl : lv_has ls 5 [(0, .ref pN), (1, .int (nI wN)), (2, .int (nI kN)), (3, .int (nI mN)), (4, .int mk)] := hl
  have hi : wN * 12 + kN < 84 := by omega
  have h22 : mN / 2 < 11 := by omega
  refine lv_iload hx hb dX4_mayPress_0 (lv_at hl 4 rfl) ?_
  refine lv_iload_n hx hb dX4_mayPress_2 rfl (lv_at hl 3 rfl) ?_
  refine lv_iconst (v := nI 2) hx hb dX4_mayPress_3 (by decide) ?_
  refine n_idiv hx hb (by omega) (by omega) (by omega) dX4_mayPress_4 ?_
  refine lv_ishr hx hb dX4_mayPress_5 ?_
  refine lv_iconst (v := nI 1) hx hb dX4_mayPress_6 (by decide) ?_
  refine lv_iand hx hb dX4_mayPress_7 ?_
  refine lv_iconst (v := nI 1) hx hb dX4_mayPress_8 (by decide) ?_
  refine lv_icmp_ne (tgt := 35) hx hb dX4_mayPress_9 (by decide) (fun c1 => ?_) (fun c1 => ?_)
  · refine lv_iconst (v := nI 0) hx hb dX4_mayPress_35 (by decide) ?_
    exact ret _ _ _ (bI_f (by rw [show bitB mk (mN / 2) = false from decide_eq_false c1]; rfl)) dX4_mayPress_36
  · refine lv_aload_n hx hb dX4_mayPress_12 rfl (lv_at hl 0 rfl) ?_
    refine x_get X hP in_X4 m0 rfl 1 (by decide) q228 (fun _ h => h) rfl dX4_mayPress_13 ?_
    refine lv_iload_n hx hb dX4_mayPress_16 rfl (lv_at hl 1 rfl) ?_
    refine lv_bipush (v := nI 12) hx hb dX4_mayPress_17 (by decide) ?_
    refine n_imul hx hb dX4_mayPress_19 ?_
    refine lv_iload_n hx hb dX4_mayPress_20 rfl (lv_at hl 2 rfl) ?_
    refine n_iadd hx hb dX4_mayPress_21 ?_
    refine x_iald X hP m1 (by omega) (by decide) dX4_mayPress_22 ?_
    refine lv_iload_n hx hb dX4_mayPress_23 rfl (lv_at hl 3 rfl) ?_
    refine lv_ishr hx hb dX4_mayPress_24 ?_
    refine lv_iconst (v := nI 1) hx hb dX4_mayPress_25 (by decide) ?_
    refine lv_iand hx hb dX4_mayPress_26 ?_
    refine lv_iconst (v := nI 1) hx hb dX4_mayPress_27 (by decide) ?_
    refine lv_icmp_ne (tgt := 35) hx hb dX4_mayPress_28 (by decide) (fun c2 => ?_) (fun c2 => ?_)
    · refine lv_iconst (v := nI 0) hx hb dX4_mayPress_35 (by decide) ?_
      exact ret _ _ _ (bI_f (by rw [show bitB (F (wN * 12 + kN)) mN = false from decide_eq_false c2, Bool.and_false])) dX4_mayPress_36
    · refine lv_iconst (v := nI 1) hx hb dX4_mayPress_31 (by decide) ?_
      refine lv_goto (tgt := 36) hx hb dX4_mayPress_32 (by decide) ?_
      exact ret _ _ _ (bI_t (by rw [show bitB mk (mN / 2) = true from decide_eq_true c1, show bitB (F (wN * 12 + kN)) mN = true from decide_eq_true c2]; rfl)) dX4_mayPress_36
theorem hdv_X4_forget : yX4_forget.cls = RX4 ∧ yX4_forget.cls ≠ "java/lang/invoke/MethodHandle" ∧ yX4_forget.cls ≠ "java/lang/invoke/VarHandle" ∧ (parseMethodDescriptor yX4_forget.desc).map (fun d => d.parameters.length) = some 1 := by decide +kernel
theorem c_X4_forget (hE : EnvOK G E) (hs : sN < 11) : MU vV l G E yX4_forget cX4_forget 3 none 1 0 0 [.ref pN, .int (nI sN)] ([oC pN 4 [.ref aS, .ref f1, .ref f2, .ref f3, .ref f4, .int z], iC G f1 84 F, iC G f2 22 L, iC G f3 13 M, iC G f4 12 P] ++ wr) (fun _ w => ∃ F', (∀ k, k < 84 → F' k = F k &&& ((nI 3 <<< (nI (2 * sN) &&& 31)) ^^^ (-1))) ∧ w = [oC pN 4 [.ref aS, .ref f1, .ref f2, .ref f3, .ref f4, .int z], iC G f1 84 F', iC G f2 22 L, iC G f3 13 M, iC G f4 12 P] ++ wr) := by
  refine MUv hE (by decide) (Nat.le_of_ble_eq_true rfl) (fun pR eV sT mI below meth cd QQ ls X hH hl ret => ?_)
  obtain ⟨⟨hx, hb, hml, hown, hts⟩, ⟨hr, hlk⟩, -, -, -⟩ := id X
  have hl : lv_has ls 3 [(0, .ref pN), (1, .int (nI sN))] := hl
  refine wgen (H := sT.heap) (locs := []) hH (fun H locs hH => ?_)
  refine lv_iconst (v := nI 0) hx hb dX4_forget_0 (by decide) ?_
  refine lv_istore_n (lv' := [(2, .int (nI 0)), (0, .ref pN), (1, .int (nI sN))]) hx hb dX4_forget_1 rfl hl (by decide) rfl (fun ls hl => ?_)
  have lp : ∀ (fu : Nat) (kN : Nat) (Fv : Nat → Int32), (kN ≤ 84) → (∀ k, k < 84 → Fv k = if k < kN then F k &&& ((nI 3 <<< (nI (2 * sN) &&& 31)) ^^^ (-1)) else F k) → 84 - kN < fu → ∀ (H : Heap) (locs : List Loc), HH G sT ([oC pN 4 [.ref aS, .ref f1, .ref f2, .ref f3, .ref f4, .int z], iC G f1 84 Fv, iC G f2 22 L, iC G f3 13 M, iC G f4 12 P] ++ wr) H locs → ∀ ls : Array Slot, lv_has ls 3 [(0, .ref pN), (1, .int (nI sN)), (2, .int (nI kN))] → W pR l eV (Rm 1 0 0) sT mI ([.ref pN, .int (nI sN)] : List Value).toArray below meth cd H locs 0 0 QQ (F0 mI 2 ls []) := by
    intro fu
    induction fu with
    | zero => intro kN Fv hk hF hm; exact absurd hm (Nat.not_lt_zero _)
    | succ fu ih_lp =>
      intro kN Fv hk hF hm H locs hH ls hl
      refine lv_iload_n hx hb dX4_forget_2 rfl (lv_at hl 2 rfl) ?_
      refine lv_aload_n hx hb dX4_forget_3 rfl (lv_at hl 0 rfl) ?_
      refine x_get X hH.1.1 in_X4 (mem_k 0 rfl) rfl 1 (by decide) q228 (fun _ h => h) rfl dX4_forget_4 ?_
      refine x_alen X hH.1.1 (mem_k 1 rfl) (t0 := 0) rfl dX4_forget_7 ?_
      refine n_icmp_ge (tgt := 33) hx hb (by omega) (by omega) dX4_forget_8 (by decide) (fun c1 => ?_) (fun c1 => ?_)
      · exact ret _ _ _ _ _ _ _ hH (⟨Fv, fun k hk => by rw [hF k hk, if_pos (by omega)], rfl⟩) (Nat.le_of_ble_eq_true rfl) (Nat.le_of_ble_eq_true rfl) dX4_forget_33
      · refine lv_aload_n hx hb dX4_forget_11 rfl (lv_at hl 0 rfl) ?_
        refine x_get X hH.1.1 in_X4 (mem_k 0 rfl) rfl 1 (by decide) q228 (fun _ h => h) rfl dX4_forget_12 ?_
        refine lv_iload_n hx hb dX4_forget_15 rfl (lv_at hl 2 rfl) ?_
        refine lv_dup2_11 hx hb dX4_forget_16 rfl rfl ?_
        refine x_iald X hH.1.1 (mem_k 1 rfl) (by omega) (by decide) dX4_forget_17 ?_
        refine lv_iconst (v := nI 3) hx hb dX4_forget_18 (by decide) ?_
        refine lv_iconst (v := nI 2) hx hb dX4_forget_19 (by decide) ?_
        refine lv_iload_n hx hb dX4_forget_20 rfl (lv_at hl 1 rfl) ?_
        refine n_imul hx hb dX4_forget_21 ?_
        refine lv_ishl hx hb dX4_forget_22 ?_
        refine lv_iconst (v := (-1)) hx hb dX4_forget_23 (by decide) ?_
        refine lv_ixor hx hb dX4_forget_24 ?_
        refine lv_iand hx hb dX4_forget_25 ?_
        refine x_iast X hH 1 rfl (by omega) (by decide) dX4_forget_26 (fun g_1 H locs eg_1 hH => ?_)
        have hH : HH G sT ([oC pN 4 [.ref aS, .ref f1, .ref f2, .ref f3, .ref f4, .int z], iC G f1 84 g_1, iC G f2 22 L, iC G f3 13 M, iC G f4 12 P] ++ wr) H locs := hH
        refine lv_iinc (v := nI (kN + 1)) (lv' := [(2, .int (nI (kN + 1))), (0, .ref pN), (1, .int (nI sN))]) hx hb dX4_forget_27 hl (k := 2) rfl (nI_add _ 1) (by decide) rfl (fun ls hl => ?_)
        refine lv_goto (tgt := 2) hx hb dX4_forget_30 (by decide) ?_
        exact ih_lp (kN + 1) g_1  (by omega) (fun k hk => by rw [eg_1]; by_cases q : k = kN; exact (by rw [q, pk_us, hF kN (by omega), if_neg (by omega), if_pos (by omega)]); exact (by rw [pk_un q, hF k hk]; by_cases c : k < kN; rw [if_pos c, if_pos (by omega)]; rw [if_neg c, if_neg (by omega)])) (by omega) _ _ hH ls (lv_sub hl [1, 2, 0] rfl)
  exact lp _ 0 F  (by omega) (fun k hk => by rw [if_neg (by omega)]) (Nat.lt_succ_self _) _ _ hH ls (lv_sub hl [1, 2, 0] rfl)
/-- a print at a place of a word -/
def swW (R : Nat → Int32) (t : Nat → Nat) (n w k : Nat) : Bool := swB (wL R w) n (fun j => 97 + wC R w j) t k
def mkV (R F : Nat → Int32) (t : Nat → Nat) (n p w k : Nat) : Int32 := F (w * 12 + k) ||| (if swW R t n w k then nI 1 <<< (nI p &&& 31) else nI 0)
theorem hdv_X4_mark : yX4_mark.cls = RX4 ∧ yX4_mark.cls ≠ "java/lang/invoke/MethodHandle" ∧ yX4_mark.cls ≠ "java/lang/invoke/VarHandle" ∧ (parseMethodDescriptor yX4_mark.desc).map (fun d => d.parameters.length) = some 2 := by decide +kernel
theorem c_X4_mark (hE : EnvOK G E) (hJ : EnvJ G E sa) {pN2 aT : Nat} (hR : ROk R) (hW : StWd G sa wr aS R) (hT : Str G wr aT t n) (hn7 : n ≤ 7) (hp : pN2 < 22) : MU vV l G E yX4_mark cX4_mark 6 none 4 0 0 [.ref pN, .int (nI pN2), .ref aT] ([oC pN 4 [.ref aS, .ref f1, .ref f2, .ref f3, .ref f4, .int z], iC G f1 84 F, iC G f2 22 L, iC G f3 13 M, iC G f4 12 P] ++ wr) (fun _ w => ∃ F', (∀ w k, w < nW R → k < wL R w → F' (w * 12 + k) = mkV R F t n pN2 w k) ∧ w = [oC pN 4 [.ref aS, .ref f1, .ref f2, .ref f3, .ref f4, .int z], iC G f1 84 F', iC G f2 22 (upd L pN2 (nI n)), iC G f3 13 M, iC G f4 12 P] ++ wr) := by
  refine MUv hE (by decide) (Nat.le_of_ble_eq_true rfl) (fun pR eV sT mI below meth cd QQ ls X hH hl ret => ?_)
  obtain ⟨⟨hx, hb, hml, hown, hts⟩, ⟨hr, hlk⟩, -, -, -⟩ := id X
  have hJs := X.J hJ
  have hl : lv_has ls 6 [(0, .ref pN), (1, .int (nI pN2)), (2, .ref aT)] := hl
  refine wgen (H := sT.heap) (locs := []) hH (fun H locs hH => ?_)
  obtain ⟨aP, aW, aI, eW, mS, LW, SW⟩ := id (hW)
  obtain ⟨mcW, dW, oW, lW, -, -⟩ := id LW
  have hw7 := hR.w1
  obtain ⟨qT, gT, xT, zT, yT, -⟩ := id hT
  refine lv_aload_n hx hb dX4_mark_0 rfl (lv_at hl 0 rfl) ?_
  refine x_get X hH.1.1 in_X4 (mem_k 0 rfl) rfl 2 (by decide) q229 (fun _ h => h) rfl dX4_mark_1 ?_
  refine lv_iload_n hx hb dX4_mark_4 rfl (lv_at hl 1 rfl) ?_
  refine lv_aload_n hx hb dX4_mark_5 rfl (lv_at hl 2 rfl) ?_
  refine x_RV (s_len hE hJ (hT.mono (fun _ h => mem_r h))) X hH.2 hH.1.1 (x_rc X hH.1.1 (mem_r yT) rfl) (lw_V q966 q654 q655 q83 q656) hdv_J12_length ⟨Nat.le_of_ble_eq_true rfl, Nat.le_of_ble_eq_true rfl⟩ rfl hl.1 rfl (Nat.le_of_ble_eq_true rfl) ⟨(Nat.le_of_ble_eq_true rfl), (Nat.le_of_ble_eq_true rfl)⟩ dX4_mark_6 ?_
  refine x_iast X hH 2 rfl (by omega) (by decide) dX4_mark_9 (fun g_1 H locs eg_1 hH => ?_)
  have hH : HH G sT ([oC pN 4 [.ref aS, .ref f1, .ref f2, .ref f3, .ref f4, .int z], iC G f1 84 F, iC G f2 22 g_1, iC G f3 13 M, iC G f4 12 P] ++ wr) H locs := hH
  refine lv_iconst (v := nI 0) hx hb dX4_mark_10 (by decide) ?_
  refine lv_istore_n (lv' := [(3, .int (nI 0)), (0, .ref pN), (1, .int (nI pN2)), (2, .ref aT)]) hx hb dX4_mark_11 rfl hl (by decide) rfl (fun ls hl => ?_)
  have lp : ∀ (fu : Nat) (wN : Nat) (Fv : Nat → Int32), (wN ≤ nW R) → (∀ w' k', w' < nW R → k' < wL R w' → Fv (w' * 12 + k') = if w' < wN ∨ (w' = wN ∧ k' < 0) then mkV R F t n pN2 w' k' else F (w' * 12 + k')) → nW R - wN < fu → ∀ (H : Heap) (locs : List Loc), HH G sT ([oC pN 4 [.ref aS, .ref f1, .ref f2, .ref f3, .ref f4, .int z], iC G f1 84 Fv, iC G f2 22 g_1, iC G f3 13 M, iC G f4 12 P] ++ wr) H locs → ∀ ls : Array Slot, lv_has ls 6 [(0, .ref pN), (1, .int (nI pN2)), (2, .ref aT), (3, .int (nI wN))] → W pR l eV (Rm 4 0 0) sT mI ([.ref pN, .int (nI pN2), .ref aT] : List Value).toArray below meth cd H locs 0 0 QQ (F0 mI 12 ls []) := by
    intro fu
    induction fu with
    | zero => intro wN Fv hk hF hm; exact absurd hm (Nat.not_lt_zero _)
    | succ fu ih_lp =>
      intro wN Fv hk hF hm H locs hH ls hl
      refine lv_iload_n hx hb dX4_mark_12 rfl (lv_at hl 3 rfl) ?_
      refine lv_aload_n hx hb dX4_mark_13 rfl (lv_at hl 0 rfl) ?_
      refine x_get X hH.1.1 in_X4 (mem_k 0 rfl) rfl 0 (by decide) q227 (fun _ h => h) rfl dX4_mark_14 ?_
      refine x_getN X hH.1.1 in_X2 (mem_r mS) rfl 1 (by decide) (hJs.nw q181 rfl) (fun _ h => h) rfl dX4_mark_17 ?_
      refine x_RV (l_size hE (LW.mono (fun _ h => mem_r h))) X hH.2 hH.1.1 (x_rc X hH.1.1 (mem_r (lW _ List.mem_cons_self)) rfl) (lw_V q955 q349 q350 q66 q351) hdv_J2_size ⟨Nat.le_of_ble_eq_true rfl, Nat.le_of_ble_eq_true rfl⟩ rfl hl.1 rfl (Nat.le_of_ble_eq_true rfl) ⟨(Nat.le_of_ble_eq_true rfl), (Nat.le_of_ble_eq_true rfl)⟩ dX4_mark_20 ?_
      refine n_icmp_ge (tgt := 103) hx hb (by omega) (by omega) dX4_mark_23 (by decide) (fun c1 => ?_) (fun c1 => ?_)
      · exact ret _ _ _ _ _ _ _ hH (⟨Fv, fun w k h1 h2 => by rw [hF w k h1 h2, if_pos (by omega)], by rw [eg_1]⟩) (Nat.le_of_ble_eq_true rfl) (Nat.le_of_ble_eq_true rfl) dX4_mark_103
      · have hM := hR.wl1 c1
        obtain ⟨aST, mT, hsT⟩ := id (SW wN c1)
        obtain ⟨qT, fT, xT, zT, yT, -⟩ := id hsT
        refine lv_aload_n hx hb dX4_mark_26 rfl (lv_at hl 0 rfl) ?_
        refine x_get X hH.1.1 in_X4 (mem_k 0 rfl) rfl 0 (by decide) q227 (fun _ h => h) rfl dX4_mark_27 ?_
        refine x_getN X hH.1.1 in_X2 (mem_r mS) rfl 1 (by decide) (hJs.nw q181 rfl) (fun _ h => h) rfl dX4_mark_30 ?_
        refine lv_iload_n hx hb dX4_mark_33 rfl (lv_at hl 3 rfl) ?_
        refine x_RV (l_get hE (LW.mono (fun _ h => mem_r h)) c1) X hH.2 hH.1.1 (x_rc X hH.1.1 (mem_r (lW _ List.mem_cons_self)) rfl) (lw_V q956 q889 q890 q66 q891) hdv_J2_get ⟨Nat.le_of_ble_eq_true rfl, Nat.le_of_ble_eq_true rfl⟩ rfl hl.1 rfl (Nat.le_of_ble_eq_true rfl) ⟨(Nat.le_of_ble_eq_true rfl), (Nat.le_of_ble_eq_true rfl)⟩ dX4_mark_34 ?_
        refine x_castS X hH.1.1 (mem_r mT) rfl q967 dX4_mark_37 ?_
        refine x_getN X hH.1.1 in_X10 (mem_r mT) rfl 0 (by decide) (hJs.nw q816 rfl) (fun _ h => h) rfl dX4_mark_40 ?_
        refine lv_astore (lv' := [(4, .ref aST), (0, .ref pN), (1, .int (nI pN2)), (2, .ref aT), (3, .int (nI wN))]) hx hb dX4_mark_43 hl (by decide) rfl (fun ls hl => ?_)
        refine lv_iconst (v := nI 0) hx hb dX4_mark_45 (by decide) ?_
        refine lv_istore (lv' := [(5, .int (nI 0)), (4, .ref aST), (0, .ref pN), (1, .int (nI pN2)), (2, .ref aT), (3, .int (nI wN))]) hx hb dX4_mark_46 hl (by decide) rfl (fun ls hl => ?_)
        have lq : ∀ (fu : Nat) (kN : Nat) (Fu : Nat → Int32), (kN ≤ wL R wN) → (∀ w' k', w' < nW R → k' < wL R w' → Fu (w' * 12 + k') = if w' < wN ∨ (w' = wN ∧ k' < kN) then mkV R F t n pN2 w' k' else F (w' * 12 + k')) → wL R wN - kN < fu → ∀ (H : Heap) (locs : List Loc), HH G sT ([oC pN 4 [.ref aS, .ref f1, .ref f2, .ref f3, .ref f4, .int z], iC G f1 84 Fu, iC G f2 22 g_1, iC G f3 13 M, iC G f4 12 P] ++ wr) H locs → ∀ ls : Array Slot, lv_has ls 6 [(0, .ref pN), (1, .int (nI pN2)), (2, .ref aT), (3, .int (nI wN)), (4, .ref aST), (5, .int (nI kN))] → W pR l eV (Rm 4 0 0) sT mI ([.ref pN, .int (nI pN2), .ref aT] : List Value).toArray below meth cd H locs 0 0 QQ (F0 mI 48 ls []) := by
          intro fu
          induction fu with
          | zero => intro kN Fu hk2 hU hm; exact absurd hm (Nat.not_lt_zero _)
          | succ fu ih_lq =>
            intro kN Fu hk2 hU hm H locs hH ls hl
            refine lv_iload hx hb dX4_mark_48 (lv_at hl 5 rfl) ?_
            refine lv_aload hx hb dX4_mark_50 (lv_at hl 4 rfl) ?_
            refine x_RV (s_len hE hJ (hsT.mono (fun _ h => mem_r h))) X hH.2 hH.1.1 (x_rc X hH.1.1 (mem_r yT) rfl) (lw_V q966 q654 q655 q83 q656) hdv_J12_length ⟨Nat.le_of_ble_eq_true rfl, Nat.le_of_ble_eq_true rfl⟩ rfl hl.1 rfl (Nat.le_of_ble_eq_true rfl) ⟨(Nat.le_of_ble_eq_true rfl), (Nat.le_of_ble_eq_true rfl)⟩ dX4_mark_52 ?_
            refine n_icmp_ge (tgt := 97) hx hb (by omega) (by omega) dX4_mark_55 (by decide) (fun c2 => ?_) (fun c2 => ?_)
            · refine lv_iinc (v := nI (wN + 1)) (lv' := [(3, .int (nI (wN + 1))), (0, .ref pN), (1, .int (nI pN2)), (2, .ref aT), (4, .ref aST), (5, .int (nI kN))]) hx hb dX4_mark_97 hl (k := 3) rfl (nI_add _ 1) (by decide) rfl (fun ls hl => ?_)
              refine lv_goto (tgt := 12) hx hb dX4_mark_100 (by decide) ?_
              exact ih_lp (wN + 1) Fu  (by omega) (fun w' k' h1 h2 => by rw [hU w' k' h1 h2]; by_cases c : w' < wN ∨ (w' = wN ∧ k' < kN); exact (by rw [if_pos c, if_pos (by omega)]); exact (by rw [if_neg c, if_neg (by intro q; rcases q with q | q; exact c (by by_cases e : w' = wN; exact Or.inr ⟨e, by subst e; omega⟩; exact Or.inl (by omega)); omega)])) (by omega) _ _ hH ls (lv_sub hl [1, 2, 3, 0] rfl)
            · have hi : wN * 12 + kN < 84 := by omega
              refine lv_aload_n hx hb dX4_mark_58 rfl (lv_at hl 0 rfl) ?_
              refine x_get X hH.1.1 in_X4 (mem_k 0 rfl) rfl 1 (by decide) q228 (fun _ h => h) rfl dX4_mark_59 ?_
              refine lv_iload_n hx hb dX4_mark_62 rfl (lv_at hl 3 rfl) ?_
              refine lv_bipush (v := nI 12) hx hb dX4_mark_63 (by decide) ?_
              refine n_imul hx hb dX4_mark_65 ?_
              refine lv_iload hx hb dX4_mark_66 (lv_at hl 5 rfl) ?_
              refine n_iadd hx hb dX4_mark_68 ?_
              refine lv_dup2_11 hx hb dX4_mark_69 rfl rfl ?_
              refine x_iald X hH.1.1 (mem_k 1 rfl) (by omega) (by decide) dX4_mark_70 ?_
              refine lv_aload hx hb dX4_mark_71 (lv_at hl 4 rfl) ?_
              refine lv_aload_n hx hb dX4_mark_73 rfl (lv_at hl 2 rfl) ?_
              refine lv_iload hx hb dX4_mark_74 (lv_at hl 5 rfl) ?_
              refine x_RV (s_sw hE hJ (hsT.mono (fun _ h => mem_r h)) (hT.mono (fun _ h => mem_r h)) hn7 (by omega)) X hH.2 hH.1.1 (x_rc X hH.1.1 (mem_r yT) rfl) (lw_V q968 q969 q970 q83 q971) hdv_J12_startsWith ⟨Nat.le_of_ble_eq_true rfl, Nat.le_of_ble_eq_true rfl⟩ rfl hl.1 rfl (Nat.le_of_ble_eq_true rfl) ⟨(Nat.le_of_ble_eq_true rfl), (Nat.le_of_ble_eq_true rfl)⟩ dX4_mark_76 ?_
              refine b_if_eq (tgt := 88) hx hb dX4_mark_79 (by decide) (fun c3 => ?_) (fun c3 => ?_)
              · have c3 : swW R t n wN kN = false := c3
                refine lv_iconst (v := nI 0) hx hb dX4_mark_88 (by decide) ?_
                refine lv_ior hx hb dX4_mark_89 ?_
                refine x_iast X hH 1 rfl (by omega) (by decide) dX4_mark_90 (fun g_2 H locs eg_2 hH => ?_)
                have hH : HH G sT ([oC pN 4 [.ref aS, .ref f1, .ref f2, .ref f3, .ref f4, .int z], iC G f1 84 g_2, iC G f2 22 g_1, iC G f3 13 M, iC G f4 12 P] ++ wr) H locs := hH
                refine lv_iinc (v := nI (kN + 1)) (lv' := [(5, .int (nI (kN + 1))), (0, .ref pN), (1, .int (nI pN2)), (2, .ref aT), (3, .int (nI wN)), (4, .ref aST)]) hx hb dX4_mark_91 hl (k := 5) rfl (nI_add _ 1) (by decide) rfl (fun ls hl => ?_)
                refine lv_goto (tgt := 48) hx hb dX4_mark_94 (by decide) ?_
                exact ih_lq (kN + 1) g_2  (by omega) (fun w' k' h1 h2 => by have hM' := hR.wl1 h1; rw [eg_2]; by_cases e : w' = wN ∧ k' = kN; exact (by obtain ⟨e1, e2⟩ := e; subst e1 e2; rw [pk_us, if_pos (by omega), hU w' k' h1 h2, if_neg (by omega)]; unfold mkV; rw [c3, if_neg Bool.false_ne_true]; try rfl); exact (by rw [pk_un (by omega), hU w' k' h1 h2]; by_cases c : w' < wN ∨ (w' = wN ∧ k' < kN); exact (by rw [if_pos c, if_pos (by omega)]); exact (by rw [if_neg c, if_neg (by omega)]))) (by omega) _ _ hH ls (lv_sub hl [1, 2, 3, 4, 5, 0] rfl)
              · have c3 : swW R t n wN kN = true := c3
                refine lv_iconst (v := nI 1) hx hb dX4_mark_82 (by decide) ?_
                refine lv_iload_n hx hb dX4_mark_83 rfl (lv_at hl 1 rfl) ?_
                refine lv_ishl hx hb dX4_mark_84 ?_
                refine lv_goto (tgt := 89) hx hb dX4_mark_85 (by decide) ?_
                refine lv_ior hx hb dX4_mark_89 ?_
                refine x_iast X hH 1 rfl (by omega) (by decide) dX4_mark_90 (fun g_3 H locs eg_3 hH => ?_)
                have hH : HH G sT ([oC pN 4 [.ref aS, .ref f1, .ref f2, .ref f3, .ref f4, .int z], iC G f1 84 g_3, iC G f2 22 g_1, iC G f3 13 M, iC G f4 12 P] ++ wr) H locs := hH
                refine lv_iinc (v := nI (kN + 1)) (lv' := [(5, .int (nI (kN + 1))), (0, .ref pN), (1, .int (nI pN2)), (2, .ref aT), (3, .int (nI wN)), (4, .ref aST)]) hx hb dX4_mark_91 hl (k := 5) rfl (nI_add _ 1) (by decide) rfl (fun ls hl => ?_)
                refine lv_goto (tgt := 48) hx hb dX4_mark_94 (by decide) ?_
                exact ih_lq (kN + 1) g_3  (by omega) (fun w' k' h1 h2 => by have hM' := hR.wl1 h1; rw [eg_3]; by_cases e : w' = wN ∧ k' = kN; exact (by obtain ⟨e1, e2⟩ := e; subst e1 e2; rw [pk_us, if_pos (by omega), hU w' k' h1 h2, if_neg (by omega)]; unfold mkV; rw [c3, if_pos rfl]; try rfl); exact (by rw [pk_un (by omega), hU w' k' h1 h2]; by_cases c : w' < wN ∨ (w' = wN ∧ k' < kN); exact (by rw [if_pos c, if_pos (by omega)]); exact (by rw [if_neg c, if_neg (by omega)]))) (by omega) _ _ hH ls (lv_sub hl [1, 2, 3, 4, 5, 0] rfl)
        exact lq _ 0 Fv  (Nat.zero_le _) (fun w' k' h1 h2 => by rw [hF w' k' h1 h2]) (Nat.lt_succ_self _) _ _ hH ls (lv_sub hl [2, 3, 4, 5, 1, 0] rfl)
  exact lp _ 0 F  (Nat.zero_le _) (fun w' k' h1 h2 => by rw [if_neg (by omega)]) (Nat.lt_succ_self _) _ _ hH ls (lv_sub hl [1, 2, 3, 0] rfl)
end C9
