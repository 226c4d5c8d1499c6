/-! MODEL, methods 3: plans -/
section
variable {l : Launch} {G : GG} {E : State → Prop} {a : Nat → Nat} {x4 x5 x7 x8 x11 x15 : Int32} {f1 f2 f3 f4 f5 f6 f7 f8 f9 f10 f11 : Nat → Int32} {h : Int64} {wr : va_W}
theorem bst_no {R : Nat → Int32} {w : Nat} {m : Int32} {L : Nat → Nat} {f s : Nat} (h : (bitB m s && anyB R w f s && decide (L (f + sL R s) + 1 < bst R w m L f s)) = false) : bst R w m L f (s + 1) = bst R w m L f s := by
  rw [bst, h]; rfl
theorem bst_yes {R : Nat → Int32} {w : Nat} {m : Int32} {L : Nat → Nat} {f s : Nat} (h1 : bitB m s = true) (h2 : anyB R w f s = true) (h3 : L (f + sL R s) + 1 < bst R w m L f s) : bst R w m L f (s + 1) = L (f + sL R s) + 1 := by
  rw [bst, h1, h2, decide_eq_true h3]; rfl
theorem any_no {R : Nat → Int32} {w f s : Nat} (h : wL R w < f + sL R s) : anyB R w f s = false := by
  cases e : anyB R w f s with
  | false => rfl
  | true => exact absurd (anyB_le e) (by omega)
theorem hdv_X6_presses : yX6_presses.cls = RX6 ∧ yX6_presses.cls ≠ "java/lang/invoke/MethodHandle" ∧ yX6_presses.cls ≠ "java/lang/invoke/VarHandle" ∧ (parseMethodDescriptor yX6_presses.desc).map (fun d => d.parameters.length) = some 2 := by decide +kernel
theorem c_X6_presses (hE : EnvOK G E) {wN : Nat} {mk : Int32} (hR : ROk f1) (hw : wN < nW f1) : MU vI l G E yX6_presses cX6_presses 8 (some .int) 4 0 0 [.ref (a 0), .int (nI wN), .int mk] (mw G a x4 x5 x7 x8 x11 x15 f1 f2 f3 f4 f5 f6 f7 f8 f9 f10 f11 h ++ wr) (fun r w => ∃ g, (∀ k, k ≤ wL f1 wN → g k = nI (lf f1 wN mk k)) ∧ r = prI f1 wN mk ∧ w = mw G a x4 x5 x7 x8 x11 x15 f1 f2 f3 f4 f5 g f7 f8 f9 f10 f11 h ++ wr) := by
  refine MUi hE (by decide) (Nat.le_of_ble_eq_true rfl) (fun pR eV sT mI below meth cd QQ ls X hH hl ret => ?_)
  obtain ⟨⟨hx, hb, hml, hown, hts⟩, ⟨hr, hlk⟩, -, -, -⟩ := id X
  have hl : lv_has ls 8 [(0, .ref (a 0)), (1, .int (nI wN)), (2, .int mk)] := hl
  refine wgen (H := sT.heap) (locs := []) hH (fun H locs hH => ?_)
  have hm := hR.s1
  have hw9 := hR.w1
  have hM := hR.wl1 hw
  refine lv_aload_n hx hb dX6_presses_0 rfl (lv_at hl 0 rfl) ?_
  refine m_g0 X hH.mp dX6_presses_1 ?_
  refine lv_iload_n hx hb dX6_presses_4 rfl (lv_at hl 1 rfl) ?_
  refine m_S (c_X6_wordAt hE) X hH.2 (lw_S q1562 q1563 q72 q1564) hds_X6_wordAt ⟨Nat.le_of_ble_eq_true rfl, Nat.le_of_ble_eq_true rfl⟩ ⟨Nat.le_refl _, Nat.le_refl _⟩ rfl hl.1 rfl (Nat.le_of_ble_eq_true rfl) dX6_presses_5 ?_
  refine m_ld1 X hH.mp (by omega) dX6_presses_8 ?_
  refine n_top (y := nI (wL f1 wN)) (hR.wl hw) ?_
  refine lv_istore_n (lv' := [(3, .int (nI (wL f1 wN))), (0, .ref (a 0)), (1, .int (nI wN)), (2, .int mk)]) hx hb dX6_presses_9 rfl hl (by decide) rfl (fun ls hl => ?_)
  refine lv_aload_n hx hb dX6_presses_10 rfl (lv_at hl 1 rfl) ?_
  refine m_g9 X hH.mp dX6_presses_11 ?_
  refine lv_iload_n hx hb dX6_presses_14 rfl (lv_at hl 0 rfl) ?_
  refine lv_iconst (v := nI 0) hx hb dX6_presses_15 (by decide) ?_
  refine m_st6 X hH (by omega) dX6_presses_16 (fun f6_1 H locs ef6_1 hH => ?_)
  refine lv_iload_n hx hb dX6_presses_17 rfl (lv_at hl 0 rfl) ?_
  refine lv_iconst (v := nI 1) hx hb dX6_presses_18 (by decide) ?_
  refine n_isub hx hb (by omega) dX6_presses_19 ?_
  refine lv_istore (lv' := [(4, .int (nI ((wL f1 wN) - 1))), (3, .int (nI (wL f1 wN))), (0, .ref (a 0)), (1, .int (nI wN)), (2, .int mk)]) hx hb dX6_presses_20 hl (by decide) rfl (fun ls hl => ?_)
  have hl : lv_has ls 8 [(4, .int (nI (wL f1 wN) + (-1))), (3, .int (nI (wL f1 wN))), (0, .ref (a 0)), (1, .int (nI wN)), (2, .int mk)] := by rw [← (show (nI ((wL f1 wN) - 1) : Int32) = nI (wL f1 wN) + (-1) from by obtain ⟨z, hz⟩ : ∃ z, wL f1 wN = z + 1 := ⟨wL f1 wN - 1, by omega⟩; rw [hz]; exact (pk_m1 z).symm)]; exact hl
  have lp : ∀ (fu : Nat) (jN : Nat) (f6v : Nat → Int32), jN ≤ wL f1 wN → (∀ k, jN ≤ k → k ≤ wL f1 wN → f6v k = nI (lf f1 wN mk k)) → jN < fu → ∀ (H : Heap) (locs : List Loc), HH G sT (mw G a x4 x5 x7 x8 x11 x15 f1 f2 f3 f4 f5 f6v f7 f8 f9 f10 f11 h ++ wr) H locs → ∀ ls : Array Slot, lv_has ls 8 [(0, .ref (a 0)), (1, .int (nI wN)), (2, .int mk), (3, .int (nI (wL f1 wN))), (4, .int (nI jN + (-1)))] → W pR l eV (Rm 4 0 0) sT mI ([.ref (a 0), .int (nI wN), .int mk] : List Value).toArray below meth cd H locs 0 0 QQ (F0 mI 22 ls []) := by
    intro fu
    induction fu with
    | zero => intro jN f6v hj hg hm; exact absurd hm (Nat.not_lt_zero _)
    | succ fu ih_lp =>
      intro jN f6v hj hg hm H locs hH ls hl
      rcases jN with _ | jN
      · refine lv_iload hx hb dX6_presses_22 (lv_at hl 4 rfl) ?_
        refine lv_if_lt (tgt := 175) hx hb dX6_presses_24 (by decide) (fun c1 => ?_) (fun c1 => absurd (by decide) c1)
        refine lv_aload_n hx hb dX6_presses_175 rfl (lv_at hl 0 rfl) ?_
        refine m_g9 X hH.mp dX6_presses_176 ?_
        refine lv_iconst (v := nI 0) hx hb dX6_presses_179 (by decide) ?_
        refine m_ld6 X hH.mp (by omega) dX6_presses_180 ?_
        refine lv_bipush (v := nI 100) hx hb dX6_presses_181 (by decide) ?_
        have hB0 := lf_le (R := f1) (w := wN) (m := mk) (k := 0)
        refine n_top2 (y := nI (lf f1 wN mk 0)) (hg 0 (Nat.zero_le _) (Nat.zero_le _)) ?_
        refine n_icmp_ne (tgt := 190) hx hb (by omega) (by omega) dX6_presses_183 (by decide) (fun c2 => ?_) (fun c2 => ?_)
        · refine lv_aload_n hx hb dX6_presses_190 rfl (lv_at hl 0 rfl) ?_
          refine m_g9 X hH.mp dX6_presses_191 ?_
          refine lv_iconst (v := nI 0) hx hb dX6_presses_194 (by decide) ?_
          refine m_ld6 X hH.mp (by omega) dX6_presses_195 ?_
          refine n_top (y := nI (lf f1 wN mk 0)) (hg 0 (Nat.zero_le _) (Nat.zero_le _)) ?_
          exact ret _ _ _ _ _ _ _ _ hH (⟨f6v, fun k hk => hg k (Nat.zero_le _) hk, by unfold prI pr; rw [if_neg c2], rfl⟩) (Nat.le_refl _) (Nat.le_refl _) dX6_presses_196
        · refine lv_iconst (v := (-1)) hx hb dX6_presses_186 (by decide) ?_
          refine lv_goto (tgt := 196) hx hb dX6_presses_187 (by decide) ?_
          exact ret _ _ _ _ _ _ _ _ hH (⟨f6v, fun k hk => hg k (Nat.zero_le _) hk, by unfold prI pr; rw [if_pos c2], rfl⟩) (Nat.le_refl _) (Nat.le_refl _) dX6_presses_196
      · have hl : lv_has ls 8 [(0, .ref (a 0)), (1, .int (nI wN)), (2, .int mk), (3, .int (nI (wL f1 wN))), (4, .int (nI jN))] := by rw [← (show (nI (jN + 1) + (-1) : Int32) = nI jN from pk_m1 jN)]; exact hl
        refine lv_iload hx hb dX6_presses_22 (lv_at hl 4 rfl) ?_
        refine lv_if_lt (tgt := 175) hx hb dX6_presses_24 (by decide) (fun c1 => absurd c1 (nI_pos (by omega))) (fun c1 => ?_)
        refine lv_aload_n hx hb dX6_presses_27 rfl (lv_at hl 0 rfl) ?_
        refine m_g9 X hH.mp dX6_presses_28 ?_
        refine lv_iload hx hb dX6_presses_31 (lv_at hl 4 rfl) ?_
        refine lv_bipush (v := nI 100) hx hb dX6_presses_33 (by decide) ?_
        refine m_st6 X hH (by omega) dX6_presses_35 (fun f6_2 H locs ef6_2 hH => ?_)
        refine lv_iconst (v := nI 0) hx hb dX6_presses_36 (by decide) ?_
        refine lv_istore (lv' := [(5, .int (nI 0)), (0, .ref (a 0)), (1, .int (nI wN)), (2, .int mk), (3, .int (nI (wL f1 wN))), (4, .int (nI jN))]) hx hb dX6_presses_37 hl (by decide) rfl (fun ls hl => ?_)
        have lq : ∀ (fu : Nat) (sN : Nat) (f6u : Nat → Int32), sN ≤ nS f1 → (∀ k, jN < k → k ≤ wL f1 wN → f6u k = nI (lf f1 wN mk k)) → f6u jN = nI (bst f1 wN mk (lf f1 wN mk) jN sN) → nS f1 - sN < fu → ∀ (H : Heap) (locs : List Loc), HH G sT (mw G a x4 x5 x7 x8 x11 x15 f1 f2 f3 f4 f5 f6u f7 f8 f9 f10 f11 h ++ wr) H locs → ∀ ls : Array Slot, lv_has ls 8 [(0, .ref (a 0)), (1, .int (nI wN)), (2, .int mk), (3, .int (nI (wL f1 wN))), (4, .int (nI jN)), (5, .int (nI sN))] → W pR l eV (Rm 4 0 0) sT mI ([.ref (a 0), .int (nI wN), .int mk] : List Value).toArray below meth cd H locs 0 0 QQ (F0 mI 39 ls []) := by
          intro fu
          induction fu with
          | zero => intro sN f6u hq hgu hbb hm; exact absurd hm (Nat.not_lt_zero _)
          | succ fu ih_lq =>
            intro sN f6u hq hgu hbb hm H locs hH ls hl
            refine lv_iload hx hb dX6_presses_39 (lv_at hl 5 rfl) ?_
            refine lv_aload_n hx hb dX6_presses_41 rfl (lv_at hl 0 rfl) ?_
            refine m_g0 X hH.mp dX6_presses_42 ?_
            refine lv_iconst (v := nI 0) hx hb dX6_presses_45 (by decide) ?_
            refine m_ld1 X hH.mp (by omega) dX6_presses_46 ?_
            refine n_top (y := nI (nS f1)) (hR.s0) ?_
            refine n_icmp_ge (tgt := 169) hx hb (by omega) (by omega) dX6_presses_47 (by decide) (fun c2 => ?_) (fun c2 => ?_)
            · refine lv_iinc (v := (nI jN) + (-1)) (lv' := [(4, .int ((nI jN) + (-1))), (0, .ref (a 0)), (1, .int (nI wN)), (2, .int mk), (3, .int (nI (wL f1 wN))), (5, .int (nI sN))]) hx hb dX6_presses_169 hl (k := 4) rfl rfl (by decide) rfl (fun ls hl => ?_)
              refine lv_goto (tgt := 22) hx hb dX6_presses_172 (by decide) ?_
              have hl : lv_has ls 8 [(4, .int (nI jN + (-1))), (0, .ref (a 0)), (1, .int (nI wN)), (2, .int mk), (3, .int (nI (wL f1 wN))), (5, .int (nI sN))] := by rw [← (show ((nI jN) + (-1) : Int32) = nI jN + (-1) from rfl)]; exact hl
              have hsN : sN = nS f1 := by omega
              exact ih_lp jN f6u (by omega) (fun k h1 h2 => by rcases Nat.eq_or_lt_of_le h1 with q | q; exact (by rw [← q, hbb, hsN, ← lf_eq hR (by omega)]); exact hgu k q h2) (by omega) _ _ hH ls (lv_sub hl [1, 2, 3, 4, 0] rfl)
            · have hL := hR.sl1 c2
              refine lv_iload hx hb dX6_presses_50 (lv_at hl 4 rfl) ?_
              refine lv_aload_n hx hb dX6_presses_52 rfl (lv_at hl 0 rfl) ?_
              refine m_g0 X hH.mp dX6_presses_53 ?_
              refine lv_iload hx hb dX6_presses_56 (lv_at hl 5 rfl) ?_
              refine m_S (c_X6_stampAt hE) X hH.2 (lw_S q1551 q1552 q72 q1553) hds_X6_stampAt ⟨Nat.le_of_ble_eq_true rfl, Nat.le_of_ble_eq_true rfl⟩ ⟨Nat.le_refl _, Nat.le_refl _⟩ rfl hl.1 rfl (Nat.le_of_ble_eq_true rfl) dX6_presses_58 ?_
              refine m_ld1 X hH.mp (by omega) dX6_presses_61 ?_
              refine n_top (y := nI (sL f1 sN)) (hR.sl c2) ?_
              refine n_iadd hx hb dX6_presses_62 ?_
              refine lv_istore (lv' := [(6, .int (nI (jN + (sL f1 sN)))), (0, .ref (a 0)), (1, .int (nI wN)), (2, .int mk), (3, .int (nI (wL f1 wN))), (4, .int (nI jN)), (5, .int (nI sN))]) hx hb dX6_presses_63 hl (by decide) rfl (fun ls hl => ?_)
              refine lv_iload_n hx hb dX6_presses_65 rfl (lv_at hl 3 rfl) ?_
              refine lv_iload hx hb dX6_presses_66 (lv_at hl 6 rfl) ?_
              refine lv_ishr hx hb dX6_presses_68 ?_
              refine lv_iconst (v := nI 1) hx hb dX6_presses_69 (by decide) ?_
              refine lv_iand hx hb dX6_presses_70 ?_
              refine lv_iconst (v := nI 1) hx hb dX6_presses_71 (by decide) ?_
              refine lv_icmp_ne (tgt := 104) hx hb dX6_presses_72 (by decide) (fun c3 => ?_) (fun c3 => ?_)
              · have hbit : bitB mk sN = false := decide_eq_false c3
                refine lv_iconst (v := nI 0) hx hb dX6_presses_104 (by decide) ?_
                refine lv_istore (lv' := [(7, .int (nI 0)), (6, .int (nI (jN + (sL f1 sN)))), (0, .ref (a 0)), (1, .int (nI wN)), (2, .int mk), (3, .int (nI (wL f1 wN))), (4, .int (nI jN)), (5, .int (nI sN))]) hx hb dX6_presses_105 hl (by decide) rfl (fun ls hl => ?_)
                refine lv_iload hx hb dX6_presses_107 (lv_at hl 0 rfl) ?_
                refine lv_if_eq (tgt := 163) hx hb dX6_presses_109 (by decide) (fun _ => ?_) (fun h => absurd rfl h)
                refine lv_iinc (v := nI (sN + 1)) (lv' := [(5, .int (nI (sN + 1))), (7, .int (nI 0)), (6, .int (nI (jN + (sL f1 sN)))), (0, .ref (a 0)), (1, .int (nI wN)), (2, .int mk), (3, .int (nI (wL f1 wN))), (4, .int (nI jN))]) hx hb dX6_presses_163 hl (k := 7) rfl (nI_add _ 1) (by decide) rfl (fun ls hl => ?_)
                refine lv_goto (tgt := 39) hx hb dX6_presses_166 (by decide) ?_
                exact ih_lq (sN + 1) f6u (by omega) (hgu) (by rw [bst_no (by simp [hbit])]; exact hbb) (by omega) _ _ hH ls (lv_sub hl [3, 4, 5, 6, 7, 0] rfl)
              · have hbit : bitB mk sN = true := decide_eq_true c3
                refine lv_iload hx hb dX6_presses_75 (lv_at hl 0 rfl) ?_
                refine lv_iload_n hx hb dX6_presses_77 rfl (lv_at hl 4 rfl) ?_
                refine n_icmp_gt (tgt := 104) hx hb (by omega) (by omega) dX6_presses_78 (by decide) (fun c4 => ?_) (fun c4 => ?_)
                · refine lv_iconst (v := nI 0) hx hb dX6_presses_104 (by decide) ?_
                  refine lv_istore (lv' := [(7, .int (nI 0)), (6, .int (nI (jN + (sL f1 sN)))), (0, .ref (a 0)), (1, .int (nI wN)), (2, .int mk), (3, .int (nI (wL f1 wN))), (4, .int (nI jN)), (5, .int (nI sN))]) hx hb dX6_presses_105 hl (by decide) rfl (fun ls hl => ?_)
                  refine lv_iload hx hb dX6_presses_107 (lv_at hl 0 rfl) ?_
                  refine lv_if_eq (tgt := 163) hx hb dX6_presses_109 (by decide) (fun _ => ?_) (fun h => absurd rfl h)
                  refine lv_iinc (v := nI (sN + 1)) (lv' := [(5, .int (nI (sN + 1))), (7, .int (nI 0)), (6, .int (nI (jN + (sL f1 sN)))), (0, .ref (a 0)), (1, .int (nI wN)), (2, .int mk), (3, .int (nI (wL f1 wN))), (4, .int (nI jN))]) hx hb dX6_presses_163 hl (k := 7) rfl (nI_add _ 1) (by decide) rfl (fun ls hl => ?_)
                  refine lv_goto (tgt := 39) hx hb dX6_presses_166 (by decide) ?_
                  exact ih_lq (sN + 1) f6u (by omega) (hgu) (by rw [bst_no (by simp [any_no c4])]; exact hbb) (by omega) _ _ hH ls (lv_sub hl [3, 4, 5, 6, 7, 0] rfl)
                · have hB1 := lf_le (R := f1) (w := wN) (m := mk) (k := jN + sL f1 sN)
                  have hB2 := bst_le (R := f1) (w := wN) (m := mk) (L := lf f1 wN mk) (f := jN) sN
                  refine lv_aload_n hx hb dX6_presses_81 rfl (lv_at hl 1 rfl) ?_
                  refine m_g9 X hH.mp dX6_presses_82 ?_
                  refine lv_iload hx hb dX6_presses_85 (lv_at hl 0 rfl) ?_
                  refine m_ld6 X hH.mp (by omega) dX6_presses_87 ?_
                  refine n_top (y := nI (lf f1 wN mk (jN + sL f1 sN))) (hgu _ (by omega) c4) ?_
                  refine lv_iconst (v := nI 1) hx hb dX6_presses_88 (by decide) ?_
                  refine n_iadd hx hb dX6_presses_89 ?_
                  refine lv_aload_n hx hb dX6_presses_90 rfl (lv_at hl 1 rfl) ?_
                  refine m_g9 X hH.mp dX6_presses_91 ?_
                  refine lv_iload hx hb dX6_presses_94 (lv_at hl 5 rfl) ?_
                  refine m_ld6 X hH.mp (by omega) dX6_presses_96 ?_
                  refine n_top (y := nI (bst f1 wN mk (lf f1 wN mk) jN sN)) (hbb) ?_
                  refine n_icmp_ge (tgt := 104) hx hb (by omega) (by omega) dX6_presses_97 (by decide) (fun c5 => ?_) (fun c5 => ?_)
                  · refine lv_iconst (v := nI 0) hx hb dX6_presses_104 (by decide) ?_
                    refine lv_istore (lv' := [(7, .int (nI 0)), (6, .int (nI (jN + (sL f1 sN)))), (0, .ref (a 0)), (1, .int (nI wN)), (2, .int mk), (3, .int (nI (wL f1 wN))), (4, .int (nI jN)), (5, .int (nI sN))]) hx hb dX6_presses_105 hl (by decide) rfl (fun ls hl => ?_)
                    refine lv_iload hx hb dX6_presses_107 (lv_at hl 0 rfl) ?_
                    refine lv_if_eq (tgt := 163) hx hb dX6_presses_109 (by decide) (fun _ => ?_) (fun h => absurd rfl h)
                    refine lv_iinc (v := nI (sN + 1)) (lv' := [(5, .int (nI (sN + 1))), (7, .int (nI 0)), (6, .int (nI (jN + (sL f1 sN)))), (0, .ref (a 0)), (1, .int (nI wN)), (2, .int mk), (3, .int (nI (wL f1 wN))), (4, .int (nI jN))]) hx hb dX6_presses_163 hl (k := 7) rfl (nI_add _ 1) (by decide) rfl (fun ls hl => ?_)
                    refine lv_goto (tgt := 39) hx hb dX6_presses_166 (by decide) ?_
                    exact ih_lq (sN + 1) f6u (by omega) (hgu) (by rw [bst_no (by simp [Nat.not_lt.mpr c5])]; exact hbb) (by omega) _ _ hH ls (lv_sub hl [3, 4, 5, 6, 7, 0] rfl)
                  · refine lv_iconst (v := nI 1) hx hb dX6_presses_100 (by decide) ?_
                    refine lv_goto (tgt := 105) hx hb dX6_presses_101 (by decide) ?_
                    refine lv_istore (lv' := [(7, .int (nI 1)), (6, .int (nI (jN + (sL f1 sN)))), (0, .ref (a 0)), (1, .int (nI wN)), (2, .int mk), (3, .int (nI (wL f1 wN))), (4, .int (nI jN)), (5, .int (nI sN))]) hx hb dX6_presses_105 hl (by decide) rfl (fun ls hl => ?_)
                    refine lv_iload hx hb dX6_presses_107 (lv_at hl 0 rfl) ?_
                    refine lv_if_eq (tgt := 163) hx hb dX6_presses_109 (by decide) (fun h => absurd h (by decide)) (fun _ => ?_)
                    refine lv_aload_n hx hb dX6_presses_112 rfl (lv_at hl 2 rfl) ?_
                    refine lv_iload_n hx hb dX6_presses_113 rfl (lv_at hl 3 rfl) ?_
                    refine lv_iload hx hb dX6_presses_114 (lv_at hl 6 rfl) ?_
                    refine lv_iload hx hb dX6_presses_116 (lv_at hl 7 rfl) ?_
                    refine lv_iconst (v := nI 0) hx hb dX6_presses_118 (by decide) ?_
                    refine m_R (c_X6_fits (tB := false) hE hR hw c2 (by omega)) X hH.2 hH.mp (lw_V q1641 q1643 qs41 q72 q1644) hdv_X6_fits ⟨Nat.le_of_ble_eq_true rfl, Nat.le_of_ble_eq_true rfl⟩ ⟨Nat.le_refl _, Nat.le_refl _⟩ rfl hl.1 rfl (Nat.le_of_ble_eq_true rfl) dX6_presses_119 ?_
                    refine b_if_ne (tgt := 147) hx hb dX6_presses_122 (by decide) (fun c6 => ?_) (fun c6 => ?_)
                    · have hany : anyB f1 wN jN sN = true := by unfold anyB; rw [c6]; rfl
                      refine lv_aload_n hx hb dX6_presses_147 rfl (lv_at hl 2 rfl) ?_
                      refine m_g9 X hH.mp dX6_presses_148 ?_
                      refine lv_iload hx hb dX6_presses_151 (lv_at hl 6 rfl) ?_
                      refine lv_aload_n hx hb dX6_presses_153 rfl (lv_at hl 2 rfl) ?_
                      refine m_g9 X hH.mp dX6_presses_154 ?_
                      refine lv_iload hx hb dX6_presses_157 (lv_at hl 1 rfl) ?_
                      refine m_ld6 X hH.mp (by omega) dX6_presses_159 ?_
                      refine n_top (y := nI (lf f1 wN mk (jN + sL f1 sN))) (hgu _ (by omega) c4) ?_
                      refine lv_iconst (v := nI 1) hx hb dX6_presses_160 (by decide) ?_
                      refine n_iadd hx hb dX6_presses_161 ?_
                      refine m_st6 X hH (by omega) dX6_presses_162 (fun f6_3 H locs ef6_3 hH => ?_)
                      refine lv_iinc (v := nI (sN + 1)) (lv' := [(5, .int (nI (sN + 1))), (7, .int (nI 1)), (6, .int (nI (jN + (sL f1 sN)))), (0, .ref (a 0)), (1, .int (nI wN)), (2, .int mk), (3, .int (nI (wL f1 wN))), (4, .int (nI jN))]) hx hb dX6_presses_163 hl (k := 7) rfl (nI_add _ 1) (by decide) rfl (fun ls hl => ?_)
                      refine lv_goto (tgt := 39) hx hb dX6_presses_166 (by decide) ?_
                      exact ih_lq (sN + 1) f6_3 (by omega) (fun k h1 h2 => by rw [ef6_3, pk_un (by omega)]; exact hgu k h1 h2) (by rw [ef6_3, pk_us, bst_yes hbit hany c5]) (by omega) _ _ hH ls (lv_sub hl [3, 4, 5, 6, 7, 0] rfl)
                    · refine lv_aload_n hx hb dX6_presses_125 rfl (lv_at hl 2 rfl) ?_
                      refine lv_iload hx hb dX6_presses_126 (lv_at hl 7 rfl) ?_
                      refine m_R (c_X6_counts hE hR c2) X hH.2 hH.mp (lw_V q1652 q1654 qs43 q72 q1655) hdv_X6_counts ⟨Nat.le_of_ble_eq_true rfl, Nat.le_of_ble_eq_true rfl⟩ ⟨Nat.le_refl _, Nat.le_refl _⟩ rfl hl.1 rfl (Nat.le_of_ble_eq_true rfl) dX6_presses_128 ?_
                      refine b_if_eq (tgt := 163) hx hb dX6_presses_131 (by decide) (fun c7 => ?_) (fun c7 => ?_)
                      · refine lv_iinc (v := nI (sN + 1)) (lv' := [(5, .int (nI (sN + 1))), (7, .int (nI 1)), (6, .int (nI (jN + (sL f1 sN)))), (0, .ref (a 0)), (1, .int (nI wN)), (2, .int mk), (3, .int (nI (wL f1 wN))), (4, .int (nI jN))]) hx hb dX6_presses_163 hl (k := 7) rfl (nI_add _ 1) (by decide) rfl (fun ls hl => ?_)
                        refine lv_goto (tgt := 39) hx hb dX6_presses_166 (by decide) ?_
                        exact ih_lq (sN + 1) f6u (by omega) (hgu) (by rw [bst_no (by simp [anyB, c6, c7])]; exact hbb) (by omega) _ _ hH ls (lv_sub hl [3, 4, 5, 6, 7, 0] rfl)
                      · refine lv_aload_n hx hb dX6_presses_134 rfl (lv_at hl 2 rfl) ?_
                        refine lv_iload_n hx hb dX6_presses_135 rfl (lv_at hl 3 rfl) ?_
                        refine lv_iload hx hb dX6_presses_136 (lv_at hl 6 rfl) ?_
                        refine lv_iload hx hb dX6_presses_138 (lv_at hl 7 rfl) ?_
                        refine lv_iconst (v := nI 1) hx hb dX6_presses_140 (by decide) ?_
                        refine m_R (c_X6_fits (tB := true) hE hR hw c2 (by omega)) X hH.2 hH.mp (lw_V q1641 q1643 qs41 q72 q1644) hdv_X6_fits ⟨Nat.le_of_ble_eq_true rfl, Nat.le_of_ble_eq_true rfl⟩ ⟨Nat.le_refl _, Nat.le_refl _⟩ rfl hl.1 rfl (Nat.le_of_ble_eq_true rfl) dX6_presses_141 ?_
                        refine b_if_eq (tgt := 163) hx hb dX6_presses_144 (by decide) (fun c8 => ?_) (fun c8 => ?_)
                        · refine lv_iinc (v := nI (sN + 1)) (lv' := [(5, .int (nI (sN + 1))), (7, .int (nI 1)), (6, .int (nI (jN + (sL f1 sN)))), (0, .ref (a 0)), (1, .int (nI wN)), (2, .int mk), (3, .int (nI (wL f1 wN))), (4, .int (nI jN))]) hx hb dX6_presses_163 hl (k := 7) rfl (nI_add _ 1) (by decide) rfl (fun ls hl => ?_)
                          refine lv_goto (tgt := 39) hx hb dX6_presses_166 (by decide) ?_
                          exact ih_lq (sN + 1) f6u (by omega) (hgu) (by rw [bst_no (by simp [anyB, c6, c8])]; exact hbb) (by omega) _ _ hH ls (lv_sub hl [3, 4, 5, 6, 7, 0] rfl)
                        · have hany : anyB f1 wN jN sN = true := by unfold anyB; rw [c6, c7, c8]; rfl
                          refine lv_aload_n hx hb dX6_presses_147 rfl (lv_at hl 2 rfl) ?_
                          refine m_g9 X hH.mp dX6_presses_148 ?_
                          refine lv_iload hx hb dX6_presses_151 (lv_at hl 6 rfl) ?_
                          refine lv_aload_n hx hb dX6_presses_153 rfl (lv_at hl 2 rfl) ?_
                          refine m_g9 X hH.mp dX6_presses_154 ?_
                          refine lv_iload hx hb dX6_presses_157 (lv_at hl 1 rfl) ?_
                          refine m_ld6 X hH.mp (by omega) dX6_presses_159 ?_
                          refine n_top (y := nI (lf f1 wN mk (jN + sL f1 sN))) (hgu _ (by omega) c4) ?_
                          refine lv_iconst (v := nI 1) hx hb dX6_presses_160 (by decide) ?_
                          refine n_iadd hx hb dX6_presses_161 ?_
                          refine m_st6 X hH (by omega) dX6_presses_162 (fun f6_4 H locs ef6_4 hH => ?_)
                          refine lv_iinc (v := nI (sN + 1)) (lv' := [(5, .int (nI (sN + 1))), (7, .int (nI 1)), (6, .int (nI (jN + (sL f1 sN)))), (0, .ref (a 0)), (1, .int (nI wN)), (2, .int mk), (3, .int (nI (wL f1 wN))), (4, .int (nI jN))]) hx hb dX6_presses_163 hl (k := 7) rfl (nI_add _ 1) (by decide) rfl (fun ls hl => ?_)
                          refine lv_goto (tgt := 39) hx hb dX6_presses_166 (by decide) ?_
                          exact ih_lq (sN + 1) f6_4 (by omega) (fun k h1 h2 => by rw [ef6_4, pk_un (by omega)]; exact hgu k h1 h2) (by rw [ef6_4, pk_us, bst_yes hbit hany c5]) (by omega) _ _ hH ls (lv_sub hl [3, 4, 5, 6, 7, 0] rfl)
        exact lq _ 0 f6_2 (Nat.zero_le _) (fun k h1 h2 => by rw [ef6_2, pk_un (by omega)]; exact hg k h1 h2) (by rw [ef6_2, pk_us]; rfl) (Nat.lt_succ_self _) _ _ hH ls (lv_sub hl [1, 2, 3, 4, 5, 0] rfl)
  exact lp _ (wL f1 wN) f6_1 (Nat.le_refl _) (fun k h1 h2 => by rw [show k = wL f1 wN by omega, ef6_1, pk_us, lf_end (Nat.le_refl _)]) (Nat.lt_succ_self _) _ _ hH ls (lv_sub hl [2, 3, 4, 1, 0] rfl)
end
