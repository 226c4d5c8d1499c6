/-! MODEL, methods 6: rows copied -/
section
variable {l : Launch} {G : GG} {E : State → Prop} {a : Nat → Nat} {x4 x5 x7 x8 x11 x15 : Int32} {f1 f2 f3 f4 f5 f6 f7 f8 f9 f10 f11 : Nat → Int32} {h : Int64} {wr : va_W}
theorem hdv_X6_refused : yX6_refused.cls = RX6 ∧ yX6_refused.cls ≠ "java/lang/invoke/MethodHandle" ∧ yX6_refused.cls ≠ "java/lang/invoke/VarHandle" ∧ (parseMethodDescriptor yX6_refused.desc).map (fun d => d.parameters.length) = some 1 := by decide +kernel
theorem c_X6_refused (hE : EnvOK G E) {cN : Nat} (hc : cN < 100) : MU vI l G E yX6_refused cX6_refused 2 (some .boolean) 1 0 0 [.ref (a 0), .int (nI cN)] (mw G a x4 x5 x7 x8 x11 x15 f1 f2 f3 f4 f5 f6 f7 f8 f9 f10 f11 h ++ wr) (fun r w => r = bI (decide (0 < cN)) ∧ w = mw G a x4 (nI cN) x7 x8 x11 x15 f1 f2 f3 f4 f5 f6 f7 f8 f9 f10 f11 h ++ wr) := by
  refine MUz hE (by decide) (Nat.le_of_ble_eq_true rfl) (fun pR eV sT mI below meth cd QQ ls X hH hl ret => ?_)
  obtain ⟨⟨hx, hb, hml, hown, hts⟩, ⟨hr, hlk⟩, -, -, -⟩ := id X
  have hl : lv_has ls 2 [(0, .ref (a 0)), (1, .int (nI cN))] := hl
  refine wgen (H := sT.heap) (locs := []) hH (fun H locs hH => ?_)
  refine lv_aload_n hx hb dX6_refused_0 rfl (lv_at hl 0 rfl) ?_
  refine lv_iload_n hx hb dX6_refused_1 rfl (lv_at hl 1 rfl) ?_
  refine m_p5 X hH dX6_refused_2 (fun H locs hH => ?_)
  refine lv_iload_n hx hb dX6_refused_5 rfl (lv_at hl 1 rfl) ?_
  refine lv_if_le (tgt := 13) hx hb dX6_refused_6 (by decide) (fun c1 => ?_) (fun c1 => ?_)
  · refine lv_iconst (v := nI 0) hx hb dX6_refused_13 (by decide) ?_
    exact ret _ _ _ _ _ _ _ _ hH (⟨bI_f (decide_eq_false (fun z => nI_nle z (by omega) c1)), rfl⟩) (by decide) (Nat.le_refl _) (Nat.le_refl _) dX6_refused_14
  · refine lv_iconst (v := nI 1) hx hb dX6_refused_9 (by decide) ?_
    refine lv_goto (tgt := 14) hx hb dX6_refused_10 (by decide) ?_
    exact ret _ _ _ _ _ _ _ _ hH (⟨bI_t (decide_eq_true (by rcases Nat.eq_zero_or_pos cN with q | q; exact absurd (by rw [q]; decide) c1; exact q)), rfl⟩) (by decide) (Nat.le_refl _) (Nat.le_refl _) dX6_refused_14
theorem hdv_X6_keeps : yX6_keeps.cls = RX6 ∧ yX6_keeps.cls ≠ "java/lang/invoke/MethodHandle" ∧ yX6_keeps.cls ≠ "java/lang/invoke/VarHandle" ∧ (parseMethodDescriptor yX6_keeps.desc).map (fun d => d.parameters.length) = some 0 := by decide +kernel
theorem c_X6_keeps (hE : EnvOK G E) : MU vV l G E yX6_keeps cX6_keeps 2 none 1 0 0 [.ref (a 0)] (mw G a x4 x5 x7 x8 x11 x15 f1 f2 f3 f4 f5 f6 f7 f8 f9 f10 f11 h ++ wr) (fun _ w => w = mw G a x4 x5 x7 x8 x11 x15 f1 f2 f1 f4 f5 f6 f7 f8 f9 f10 f11 h ++ wr) := by
  refine MUv hE (by decide) (Nat.le_of_ble_eq_true rfl) (fun pR eV sT mI below meth cd QQ ls X hH hl ret => ?_)
  obtain ⟨⟨hx, hb, hml, hown, hts⟩, ⟨hr, hlk⟩, -, -, -⟩ := id X
  have hl : lv_has ls 2 [(0, .ref (a 0))] := hl
  refine wgen (H := sT.heap) (locs := []) hH (fun H locs hH => ?_)
  refine lv_iconst (v := nI 0) hx hb dX6_keeps_0 (by decide) ?_
  refine lv_istore_n (lv' := [(1, .int (nI 0)), (0, .ref (a 0))]) hx hb dX6_keeps_1 rfl hl (by decide) rfl (fun ls hl => ?_)
  have lp : ∀ (fu : Nat) (kN : Nat) (f3v : Nat → Int32), kN ≤ 195 → (∀ k, k < kN → f3v k = f1 k) → 195 - kN < fu → ∀ (H : Heap) (locs : List Loc), HH G sT (mw G a x4 x5 x7 x8 x11 x15 f1 f2 f3v f4 f5 f6 f7 f8 f9 f10 f11 h ++ wr) H locs → ∀ ls : Array Slot, lv_has ls 2 [(0, .ref (a 0)), (1, .int (nI kN))] → W pR l eV (Rm 1 0 0) sT mI ([.ref (a 0)] : List Value).toArray below meth cd H locs 0 0 QQ (F0 mI 2 ls []) := by
    intro fu
    induction fu with
    | zero => intro kN f3v hk hg hm; exact absurd hm (Nat.not_lt_zero _)
    | succ fu ih_lp =>
      intro kN f3v hk hg hm H locs hH ls hl
      refine lv_iload_n hx hb dX6_keeps_2 rfl (lv_at hl 1 rfl) ?_
      refine lv_sipush (v := nI 195) hx hb dX6_keeps_3 (by decide) ?_
      refine n_icmp_ge (tgt := 27) hx hb (by omega) (by omega) dX6_keeps_6 (by decide) (fun c1 => ?_) (fun c1 => ?_)
      · have hH := m_cg3 (g := f1) (fun k hk => (hg k (by omega)).symm) hH
        exact ret _ _ _ _ _ _ _ hH rfl (Nat.le_refl _) (Nat.le_refl _) dX6_keeps_27
      · refine lv_aload_n hx hb dX6_keeps_9 rfl (lv_at hl 0 rfl) ?_
        refine m_g2 X hH.mp dX6_keeps_10 ?_
        refine lv_iload_n hx hb dX6_keeps_13 rfl (lv_at hl 1 rfl) ?_
        refine lv_aload_n hx hb dX6_keeps_14 rfl (lv_at hl 0 rfl) ?_
        refine m_g0 X hH.mp dX6_keeps_15 ?_
        refine lv_iload_n hx hb dX6_keeps_18 rfl (lv_at hl 1 rfl) ?_
        refine m_ld1 X hH.mp (by omega) dX6_keeps_19 ?_
        refine m_st3 X hH (by omega) dX6_keeps_20 (fun f3_1 H locs ef3_1 hH => ?_)
        refine lv_iinc (v := nI (kN + 1)) (lv' := [(1, .int (nI (kN + 1))), (0, .ref (a 0))]) hx hb dX6_keeps_21 hl (k := 1) rfl (nI_add _ 1) (by decide) rfl (fun ls hl => ?_)
        refine lv_goto (tgt := 2) hx hb dX6_keeps_24 (by decide) ?_
        exact ih_lp (kN + 1) f3_1 (by omega) (fun k hk => by rw [ef3_1]; rcases Nat.lt_or_ge k kN with q | q; exact (by rw [pk_un (by omega)]; exact hg k q); exact (by rw [show k = kN by omega, pk_us])) (by omega) _ _ hH ls (lv_sub hl [1, 0] rfl)
  exact lp _ 0 f3 (Nat.zero_le _) (fun k hk => absurd hk (Nat.not_lt_zero k)) (Nat.lt_succ_self _) _ _ hH ls (lv_sub hl [1, 0] rfl)
theorem hdv_X6_takesBack : yX6_takesBack.cls = RX6 ∧ yX6_takesBack.cls ≠ "java/lang/invoke/MethodHandle" ∧ yX6_takesBack.cls ≠ "java/lang/invoke/VarHandle" ∧ (parseMethodDescriptor yX6_takesBack.desc).map (fun d => d.parameters.length) = some 0 := by decide +kernel
theorem c_X6_takesBack (hE : EnvOK G E) : MU vV l G E yX6_takesBack cX6_takesBack 2 none 1 0 0 [.ref (a 0)] (mw G a x4 x5 x7 x8 x11 x15 f1 f2 f3 f4 f5 f6 f7 f8 f9 f10 f11 h ++ wr) (fun _ w => w = mw G a x4 x5 x7 x8 x11 x15 f3 f2 f3 f4 f5 f6 f7 f8 f9 f10 f11 h ++ wr) := by
  refine MUv hE (by decide) (Nat.le_of_ble_eq_true rfl) (fun pR eV sT mI below meth cd QQ ls X hH hl ret => ?_)
  obtain ⟨⟨hx, hb, hml, hown, hts⟩, ⟨hr, hlk⟩, -, -, -⟩ := id X
  have hl : lv_has ls 2 [(0, .ref (a 0))] := hl
  refine wgen (H := sT.heap) (locs := []) hH (fun H locs hH => ?_)
  refine lv_iconst (v := nI 0) hx hb dX6_takesBack_0 (by decide) ?_
  refine lv_istore_n (lv' := [(1, .int (nI 0)), (0, .ref (a 0))]) hx hb dX6_takesBack_1 rfl hl (by decide) rfl (fun ls hl => ?_)
  have lp : ∀ (fu : Nat) (kN : Nat) (f1v : Nat → Int32), kN ≤ 195 → (∀ k, k < kN → f1v k = f3 k) → 195 - kN < fu → ∀ (H : Heap) (locs : List Loc), HH G sT (mw G a x4 x5 x7 x8 x11 x15 f1v f2 f3 f4 f5 f6 f7 f8 f9 f10 f11 h ++ wr) H locs → ∀ ls : Array Slot, lv_has ls 2 [(0, .ref (a 0)), (1, .int (nI kN))] → W pR l eV (Rm 1 0 0) sT mI ([.ref (a 0)] : List Value).toArray below meth cd H locs 0 0 QQ (F0 mI 2 ls []) := by
    intro fu
    induction fu with
    | zero => intro kN f1v hk hg hm; exact absurd hm (Nat.not_lt_zero _)
    | succ fu ih_lp =>
      intro kN f1v hk hg hm H locs hH ls hl
      refine lv_iload_n hx hb dX6_takesBack_2 rfl (lv_at hl 1 rfl) ?_
      refine lv_sipush (v := nI 195) hx hb dX6_takesBack_3 (by decide) ?_
      refine n_icmp_ge (tgt := 27) hx hb (by omega) (by omega) dX6_takesBack_6 (by decide) (fun c1 => ?_) (fun c1 => ?_)
      · have hH := m_cg1 (g := f3) (fun k hk => (hg k (by omega)).symm) hH
        exact ret _ _ _ _ _ _ _ hH rfl (Nat.le_refl _) (Nat.le_refl _) dX6_takesBack_27
      · refine lv_aload_n hx hb dX6_takesBack_9 rfl (lv_at hl 0 rfl) ?_
        refine m_g0 X hH.mp dX6_takesBack_10 ?_
        refine lv_iload_n hx hb dX6_takesBack_13 rfl (lv_at hl 1 rfl) ?_
        refine lv_aload_n hx hb dX6_takesBack_14 rfl (lv_at hl 0 rfl) ?_
        refine m_g2 X hH.mp dX6_takesBack_15 ?_
        refine lv_iload_n hx hb dX6_takesBack_18 rfl (lv_at hl 1 rfl) ?_
        refine m_ld3 X hH.mp (by omega) dX6_takesBack_19 ?_
        refine m_st1 X hH (by omega) dX6_takesBack_20 (fun f1_1 H locs ef1_1 hH => ?_)
        refine lv_iinc (v := nI (kN + 1)) (lv' := [(1, .int (nI (kN + 1))), (0, .ref (a 0))]) hx hb dX6_takesBack_21 hl (k := 1) rfl (nI_add _ 1) (by decide) rfl (fun ls hl => ?_)
        refine lv_goto (tgt := 2) hx hb dX6_takesBack_24 (by decide) ?_
        exact ih_lp (kN + 1) f1_1 (by omega) (fun k hk => by rw [ef1_1]; rcases Nat.lt_or_ge k kN with q | q; exact (by rw [pk_un (by omega)]; exact hg k q); exact (by rw [show k = kN by omega, pk_us])) (by omega) _ _ hH ls (lv_sub hl [1, 0] rfl)
  exact lp _ 0 f1 (Nat.zero_le _) (fun k hk => absurd hk (Nat.not_lt_zero k)) (Nat.lt_succ_self _) _ _ hH ls (lv_sub hl [1, 0] rfl)
def svN (n : Nat) : Nat := if n = 4 then 4 else n + 1
def svF (n : Nat) (SV : Nat → Nat → Int32) (R : Nat → Int32) : Nat → Nat → Int32 := if n = 4 then (fun i => if i < 3 then SV (i + 1) else R) else (fun i => if i < n then SV i else R)
def clrR (R : Nat → Int32) (t : Nat) : Nat → Int32 := fun k => if k = t + 6 then -1 else if t ≤ k ∧ k < t + 9 then 0 else R k
theorem hdv_X6_saves : yX6_saves.cls = RX6 ∧ yX6_saves.cls ≠ "java/lang/invoke/MethodHandle" ∧ yX6_saves.cls ≠ "java/lang/invoke/VarHandle" ∧ (parseMethodDescriptor yX6_saves.desc).map (fun d => d.parameters.length) = some 0 := by decide +kernel
theorem c_X6_saves (hE : EnvOK G E) {nN : Nat} {SV : Nat → Nat → Int32} (hn : nN ≤ 4) (hS : ∀ i, i < nN → ∀ k, k < 195 → f2 (195 * i + k) = SV i k) : MU vV l G E yX6_saves cX6_saves 2 none 1 0 0 [.ref (a 0)] (mw G a (nI nN) x5 x7 x8 x11 x15 f1 f2 f3 f4 f5 f6 f7 f8 f9 f10 f11 h ++ wr) (fun _ w => ∃ g, (∀ i, i < svN nN → ∀ k, k < 195 → g (195 * i + k) = svF nN SV f1 i k) ∧ w = mw G a (nI (svN nN)) x5 x7 x8 x11 x15 f1 g f3 f4 f5 f6 f7 f8 f9 f10 f11 h ++ wr) := by
  refine MUv hE (by decide) (Nat.le_of_ble_eq_true rfl) (fun pR eV sT mI below meth cd QQ ls X hH hl ret => ?_)
  obtain ⟨⟨hx, hb, hml, hown, hts⟩, ⟨hr, hlk⟩, -, -, -⟩ := id X
  have hl : lv_has ls 2 [(0, .ref (a 0))] := hl
  refine wgen (H := sT.heap) (locs := []) hH (fun H locs hH => ?_)
  refine lv_aload_n hx hb dX6_saves_0 rfl (lv_at hl 0 rfl) ?_
  refine m_g4 X hH.mp dX6_saves_1 ?_
  refine lv_iconst (v := nI 4) hx hb dX6_saves_4 (by decide) ?_
  refine n_icmp_ne (tgt := 49) hx hb (by omega) (by omega) dX6_saves_5 (by decide) (fun c1 => ?_) (fun c1 => ?_)
  · refine lv_iconst (v := nI 0) hx hb dX6_saves_49 (by decide) ?_
    refine lv_istore_n (lv' := [(1, .int (nI 0)), (0, .ref (a 0))]) hx hb dX6_saves_50 rfl hl (by decide) rfl (fun ls hl => ?_)
    have lr : ∀ (fu : Nat) (kN : Nat) (f2u : Nat → Int32), kN ≤ 195 → (∀ j, j < 195 * (nN) → f2u j = f2 j) → (∀ k, k < kN → f2u (195 * (nN) + k) = f1 k) → 195 - kN < fu → ∀ (H : Heap) (locs : List Loc), HH G sT (mw G a (nI nN) x5 x7 x8 x11 x15 f1 f2u f3 f4 f5 f6 f7 f8 f9 f10 f11 h ++ wr) H locs → ∀ ls : Array Slot, lv_has ls 2 [(0, .ref (a 0)), (1, .int (nI kN))] → W pR l eV (Rm 1 0 0) sT mI ([.ref (a 0)] : List Value).toArray below meth cd H locs 0 0 QQ (F0 mI 51 ls []) := by
      intro fu
      induction fu with
      | zero => intro kN f2u hk hlo hhi hm; exact absurd hm (Nat.not_lt_zero _)
      | succ fu ih_lr =>
        intro kN f2u hk hlo hhi hm H locs hH ls hl
        refine lv_iload_n hx hb dX6_saves_51 rfl (lv_at hl 1 rfl) ?_
        refine lv_sipush (v := nI 195) hx hb dX6_saves_52 (by decide) ?_
        refine n_icmp_ge (tgt := 85) hx hb (by omega) (by omega) dX6_saves_55 (by decide) (fun c9 => ?_) (fun c9 => ?_)
        · refine lv_aload_n hx hb dX6_saves_85 rfl (lv_at hl 0 rfl) ?_
          refine lv_dup hx hb dX6_saves_86 rfl ?_
          refine m_g4 X hH.mp dX6_saves_87 ?_
          refine lv_iconst (v := nI 1) hx hb dX6_saves_90 (by decide) ?_
          refine n_iadd hx hb dX6_saves_91 ?_
          refine m_p4 X hH dX6_saves_92 (fun H locs hH => ?_)
          exact ret _ _ _ _ _ _ _ hH (⟨f2u, fun i hi k hk => by unfold svN at hi; rw [if_neg c1] at hi; unfold svF; rw [if_neg c1]; rcases Nat.lt_or_ge i nN with q | q; exact (by rw [if_pos q, hlo _ (by omega)]; exact hS i q k hk); exact (by rw [if_neg (by omega), show i = nN by omega]; exact hhi k (by omega)), by unfold svN; rw [if_neg c1]⟩) (Nat.le_refl _) (Nat.le_refl _) dX6_saves_95
        · refine lv_aload_n hx hb dX6_saves_58 rfl (lv_at hl 0 rfl) ?_
          refine m_g1 X hH.mp dX6_saves_59 ?_
          refine lv_sipush (v := nI 195) hx hb dX6_saves_62 (by decide) ?_
          refine lv_aload_n hx hb dX6_saves_65 rfl (lv_at hl 0 rfl) ?_
          refine m_g4 X hH.mp dX6_saves_66 ?_
          refine n_imul hx hb dX6_saves_69 ?_
          refine lv_iload_n hx hb dX6_saves_70 rfl (lv_at hl 1 rfl) ?_
          refine n_iadd hx hb dX6_saves_71 ?_
          refine lv_aload_n hx hb dX6_saves_72 rfl (lv_at hl 0 rfl) ?_
          refine m_g0 X hH.mp dX6_saves_73 ?_
          refine lv_iload_n hx hb dX6_saves_76 rfl (lv_at hl 1 rfl) ?_
          refine m_ld1 X hH.mp (by omega) dX6_saves_77 ?_
          refine m_st2 X hH (by omega) dX6_saves_78 (fun f2_1 H locs ef2_1 hH => ?_)
          refine lv_iinc (v := nI (kN + 1)) (lv' := [(1, .int (nI (kN + 1))), (0, .ref (a 0))]) hx hb dX6_saves_79 hl (k := 1) rfl (nI_add _ 1) (by decide) rfl (fun ls hl => ?_)
          refine lv_goto (tgt := 51) hx hb dX6_saves_82 (by decide) ?_
          exact ih_lr (kN + 1) f2_1 (by omega) (fun j hj => by rw [ef2_1, pk_un (by omega)]; exact hlo j hj) (fun k hk => by rw [ef2_1]; rcases Nat.lt_or_ge k kN with q | q; exact (by rw [pk_un (by omega)]; exact hhi k q); exact (by rw [show k = kN by omega, pk_us])) (by omega) _ _ hH ls (lv_sub hl [1, 0] rfl)
    exact lr _ 0 f2 (Nat.zero_le _) (fun j _ => rfl) (fun k hk => absurd hk (Nat.not_lt_zero k)) (Nat.lt_succ_self _) _ _ hH ls (lv_sub hl [1, 0] rfl)
  · subst c1
    refine lv_iconst (v := nI 0) hx hb dX6_saves_8 (by decide) ?_
    refine lv_istore_n (lv' := [(1, .int (nI 0)), (0, .ref (a 0))]) hx hb dX6_saves_9 rfl hl (by decide) rfl (fun ls hl => ?_)
    have lp : ∀ (fu : Nat) (kN : Nat) (f2v : Nat → Int32), kN ≤ 585 → (∀ j, j < kN → f2v j = f2 (j + 195)) → (∀ j, kN ≤ j → j < 780 → f2v j = f2 j) → 585 - kN < fu → ∀ (H : Heap) (locs : List Loc), HH G sT (mw G a (nI 4) x5 x7 x8 x11 x15 f1 f2v f3 f4 f5 f6 f7 f8 f9 f10 f11 h ++ wr) H locs → ∀ ls : Array Slot, lv_has ls 2 [(0, .ref (a 0)), (1, .int (nI kN))] → W pR l eV (Rm 1 0 0) sT mI ([.ref (a 0)] : List Value).toArray below meth cd H locs 0 0 QQ (F0 mI 10 ls []) := by
      intro fu
      induction fu with
      | zero => intro kN f2v hk hlo2 hhi2 hm; exact absurd hm (Nat.not_lt_zero _)
      | succ fu ih_lp =>
        intro kN f2v hk hlo2 hhi2 hm H locs hH ls hl
        refine lv_iload_n hx hb dX6_saves_10 rfl (lv_at hl 1 rfl) ?_
        refine lv_sipush (v := nI 585) hx hb dX6_saves_11 (by decide) ?_
        refine n_icmp_ge (tgt := 39) hx hb (by omega) (by omega) dX6_saves_14 (by decide) (fun c2 => ?_) (fun c2 => ?_)
        · refine lv_aload_n hx hb dX6_saves_39 rfl (lv_at hl 0 rfl) ?_
          refine lv_dup hx hb dX6_saves_40 rfl ?_
          refine m_g4 X hH.mp dX6_saves_41 ?_
          refine lv_iconst (v := nI 1) hx hb dX6_saves_44 (by decide) ?_
          refine n_isub hx hb (by omega) dX6_saves_45 ?_
          refine m_p4 X hH dX6_saves_46 (fun H locs hH => ?_)
          refine lv_iconst (v := nI 0) hx hb dX6_saves_49 (by decide) ?_
          refine lv_istore_n (lv' := [(1, .int (nI 0)), (0, .ref (a 0))]) hx hb dX6_saves_50 rfl hl (by decide) rfl (fun ls hl => ?_)
          have lr : ∀ (fu : Nat) (kN : Nat) (f2u : Nat → Int32), kN ≤ 195 → (∀ j, j < 195 * (4 - 1) → f2u j = f2v j) → (∀ k, k < kN → f2u (195 * (4 - 1) + k) = f1 k) → 195 - kN < fu → ∀ (H : Heap) (locs : List Loc), HH G sT (mw G a (nI (4 - 1)) x5 x7 x8 x11 x15 f1 f2u f3 f4 f5 f6 f7 f8 f9 f10 f11 h ++ wr) H locs → ∀ ls : Array Slot, lv_has ls 2 [(0, .ref (a 0)), (1, .int (nI kN))] → W pR l eV (Rm 1 0 0) sT mI ([.ref (a 0)] : List Value).toArray below meth cd H locs 0 0 QQ (F0 mI 51 ls []) := by
            intro fu
            induction fu with
            | zero => intro kN f2u hk hlo hhi hm; exact absurd hm (Nat.not_lt_zero _)
            | succ fu ih_lr =>
              intro kN f2u hk hlo hhi hm H locs hH ls hl
              refine lv_iload_n hx hb dX6_saves_51 rfl (lv_at hl 1 rfl) ?_
              refine lv_sipush (v := nI 195) hx hb dX6_saves_52 (by decide) ?_
              refine n_icmp_ge (tgt := 85) hx hb (by omega) (by omega) dX6_saves_55 (by decide) (fun c9 => ?_) (fun c9 => ?_)
              · refine lv_aload_n hx hb dX6_saves_85 rfl (lv_at hl 0 rfl) ?_
                refine lv_dup hx hb dX6_saves_86 rfl ?_
                refine m_g4 X hH.mp dX6_saves_87 ?_
                refine lv_iconst (v := nI 1) hx hb dX6_saves_90 (by decide) ?_
                refine n_iadd hx hb dX6_saves_91 ?_
                refine m_p4 X hH dX6_saves_92 (fun H locs hH => ?_)
                exact ret _ _ _ _ _ _ _ hH (⟨f2u, fun i hi k hk => by unfold svN at hi; rw [if_pos rfl] at hi; unfold svF; rw [if_pos rfl]; rcases Nat.lt_or_ge i 3 with q | q; exact (by show f2u _ = (if i < 3 then SV (i + 1) else f1) k; rw [if_pos q, hlo _ (by omega), hlo2 _ (by omega), show 195 * i + k + 195 = 195 * (i + 1) + k by omega]; exact hS (i + 1) (by omega) k hk); exact (by show f2u _ = (if i < 3 then SV (i + 1) else f1) k; rw [if_neg (by omega), show i = 4 - 1 by omega]; exact hhi k (by omega)), by rfl⟩) (Nat.le_refl _) (Nat.le_refl _) dX6_saves_95
              · refine lv_aload_n hx hb dX6_saves_58 rfl (lv_at hl 0 rfl) ?_
                refine m_g1 X hH.mp dX6_saves_59 ?_
                refine lv_sipush (v := nI 195) hx hb dX6_saves_62 (by decide) ?_
                refine lv_aload_n hx hb dX6_saves_65 rfl (lv_at hl 0 rfl) ?_
                refine m_g4 X hH.mp dX6_saves_66 ?_
                refine n_imul hx hb dX6_saves_69 ?_
                refine lv_iload_n hx hb dX6_saves_70 rfl (lv_at hl 1 rfl) ?_
                refine n_iadd hx hb dX6_saves_71 ?_
                refine lv_aload_n hx hb dX6_saves_72 rfl (lv_at hl 0 rfl) ?_
                refine m_g0 X hH.mp dX6_saves_73 ?_
                refine lv_iload_n hx hb dX6_saves_76 rfl (lv_at hl 1 rfl) ?_
                refine m_ld1 X hH.mp (by omega) dX6_saves_77 ?_
                refine m_st2 X hH (by omega) dX6_saves_78 (fun f2_2 H locs ef2_2 hH => ?_)
                refine lv_iinc (v := nI (kN + 1)) (lv' := [(1, .int (nI (kN + 1))), (0, .ref (a 0))]) hx hb dX6_saves_79 hl (k := 1) rfl (nI_add _ 1) (by decide) rfl (fun ls hl => ?_)
                refine lv_goto (tgt := 51) hx hb dX6_saves_82 (by decide) ?_
                exact ih_lr (kN + 1) f2_2 (by omega) (fun j hj => by rw [ef2_2, pk_un (by omega)]; exact hlo j hj) (fun k hk => by rw [ef2_2]; rcases Nat.lt_or_ge k kN with q | q; exact (by rw [pk_un (by omega)]; exact hhi k q); exact (by rw [show k = kN by omega, pk_us])) (by omega) _ _ hH ls (lv_sub hl [1, 0] rfl)
          exact lr _ 0 f2v (Nat.zero_le _) (fun j _ => rfl) (fun k hk => absurd hk (Nat.not_lt_zero k)) (Nat.lt_succ_self _) _ _ hH ls (lv_sub hl [1, 0] rfl)
        · refine lv_aload_n hx hb dX6_saves_17 rfl (lv_at hl 0 rfl) ?_
          refine m_g1 X hH.mp dX6_saves_18 ?_
          refine lv_iload_n hx hb dX6_saves_21 rfl (lv_at hl 1 rfl) ?_
          refine lv_aload_n hx hb dX6_saves_22 rfl (lv_at hl 0 rfl) ?_
          refine m_g1 X hH.mp dX6_saves_23 ?_
          refine lv_iload_n hx hb dX6_saves_26 rfl (lv_at hl 1 rfl) ?_
          refine lv_sipush (v := nI 195) hx hb dX6_saves_27 (by decide) ?_
          refine n_iadd hx hb dX6_saves_30 ?_
          refine m_ld2 X hH.mp (by omega) dX6_saves_31 ?_
          refine m_st2 X hH (by omega) dX6_saves_32 (fun f2_3 H locs ef2_3 hH => ?_)
          refine lv_iinc (v := nI (kN + 1)) (lv' := [(1, .int (nI (kN + 1))), (0, .ref (a 0))]) hx hb dX6_saves_33 hl (k := 1) rfl (nI_add _ 1) (by decide) rfl (fun ls hl => ?_)
          refine lv_goto (tgt := 10) hx hb dX6_saves_36 (by decide) ?_
          exact ih_lp (kN + 1) f2_3 (by omega) (fun j hj => by rw [ef2_3]; rcases Nat.lt_or_ge j kN with q | q; exact (by rw [pk_un (by omega)]; exact hlo2 j q); exact (by rw [show j = kN by omega, pk_us]; exact hhi2 _ (by omega) (by omega))) (fun j h1 h2 => by rw [ef2_3, pk_un (by omega)]; exact hhi2 j (by omega) h2) (by omega) _ _ hH ls (lv_sub hl [1, 0] rfl)
    exact lp _ 0 f2 (Nat.zero_le _) (fun k hk => absurd hk (Nat.not_lt_zero k)) (fun j _ _ => rfl) (Nat.lt_succ_self _) _ _ hH ls (lv_sub hl [1, 0] rfl)
theorem hdv_X6_undo : yX6_undo.cls = RX6 ∧ yX6_undo.cls ≠ "java/lang/invoke/MethodHandle" ∧ yX6_undo.cls ≠ "java/lang/invoke/VarHandle" ∧ (parseMethodDescriptor yX6_undo.desc).map (fun d => d.parameters.length) = some 0 := by decide +kernel
theorem c_X6_undo_0 (hE : EnvOK G E) : MU vI l G E yX6_undo cX6_undo 2 (some .int) 2 0 0 [.ref (a 0)] (mw G a (nI 0) x5 x7 x8 x11 x15 f1 f2 f3 f4 f5 f6 f7 f8 f9 f10 f11 h ++ wr) (fun r w => r = nI 0 ∧ w = mw G a (nI 0) (nI 1) x7 x8 x11 x15 f1 f2 f3 f4 f5 f6 f7 f8 f9 f10 f11 h ++ wr) := by
  refine MUi hE (by decide) (Nat.le_of_ble_eq_true rfl) (fun pR eV sT mI below meth cd QQ ls X hH hl ret => ?_)
  obtain ⟨⟨hx, hb, hml, hown, hts⟩, ⟨hr, hlk⟩, -, -, -⟩ := id X
  have hl : lv_has ls 2 [(0, .ref (a 0))] := hl
  refine wgen (H := sT.heap) (locs := []) hH (fun H locs hH => ?_)
  refine lv_aload_n hx hb dX6_undo_0 rfl (lv_at hl 0 rfl) ?_
  refine lv_aload_n hx hb dX6_undo_1 rfl (lv_at hl 0 rfl) ?_
  refine m_g4 X hH.mp dX6_undo_2 ?_
  refine lv_if_ne (tgt := 12) hx hb dX6_undo_5 (by decide) (fun c1 => absurd rfl c1) (fun c1 => ?_)
  refine lv_iconst (v := nI 1) hx hb dX6_undo_8 (by decide) ?_
  refine lv_goto (tgt := 13) hx hb dX6_undo_9 (by decide) ?_
  refine m_Mi (c_X6_refused (cN := 1) hE (by omega)) X hH (lw_V q1520 q1522 qs23 q72 q1523) hdv_X6_refused ⟨Nat.le_of_ble_eq_true rfl, Nat.le_of_ble_eq_true rfl⟩ ⟨Nat.le_refl _, Nat.le_refl _⟩ rfl hl.1 rfl (Nat.le_of_ble_eq_true rfl) dX6_undo_13 (fun r w H locs hq hH => ?_)
  obtain ⟨rfl, rfl⟩ := hq
  refine n_top (y := bI true) (rfl) ?_
  refine b_if_eq (tgt := 21) hx hb dX6_undo_16 (by decide) (fun c2 => absurd c2 (by decide)) (fun c2 => ?_)
  refine lv_iconst (v := nI 0) hx hb dX6_undo_19 (by decide) ?_
  exact ret _ _ _ _ _ _ _ _ hH (⟨rfl, rfl⟩) (Nat.le_refl _) (Nat.le_refl _) dX6_undo_20
theorem c_X6_undo_1 (hE : EnvOK G E) {nN : Nat} {SV : Nat → Nat → Int32} (hn : nN ≤ 3) (hS : ∀ k, k < 195 → f2 (195 * (nN + 1 - 1) + k) = SV nN k) : MU vI l G E yX6_undo cX6_undo 2 (some .int) 2 0 0 [.ref (a 0)] (mw G a (nI (nN + 1)) x5 x7 x8 x11 x15 f1 f2 f3 f4 f5 f6 f7 f8 f9 f10 f11 h ++ wr) (fun r w => r = nI nN ∧ w = mw G a (nI nN) (nI 0) x7 x8 x11 x15 (SV nN) f2 f3 f4 f5 f6 f7 f8 f9 f10 f11 h ++ wr) := by
  refine MUi hE (by decide) (Nat.le_of_ble_eq_true rfl) (fun pR eV sT mI below meth cd QQ ls X hH hl ret => ?_)
  obtain ⟨⟨hx, hb, hml, hown, hts⟩, ⟨hr, hlk⟩, -, -, -⟩ := id X
  have hl : lv_has ls 2 [(0, .ref (a 0))] := hl
  refine wgen (H := sT.heap) (locs := []) hH (fun H locs hH => ?_)
  refine lv_aload_n hx hb dX6_undo_0 rfl (lv_at hl 0 rfl) ?_
  refine lv_aload_n hx hb dX6_undo_1 rfl (lv_at hl 0 rfl) ?_
  refine m_g4 X hH.mp dX6_undo_2 ?_
  refine lv_if_ne (tgt := 12) hx hb dX6_undo_5 (by decide) (fun c1 => ?_) (fun c1 => absurd c1 (nI_ne0 (by omega) (by omega)))
  refine lv_iconst (v := nI 0) hx hb dX6_undo_12 (by decide) ?_
  refine m_Mi (c_X6_refused (cN := 0) hE (by omega)) X hH (lw_V q1520 q1522 qs23 q72 q1523) hdv_X6_refused ⟨Nat.le_of_ble_eq_true rfl, Nat.le_of_ble_eq_true rfl⟩ ⟨Nat.le_refl _, Nat.le_refl _⟩ rfl hl.1 rfl (Nat.le_of_ble_eq_true rfl) dX6_undo_13 (fun r w H locs hq hH => ?_)
  obtain ⟨rfl, rfl⟩ := hq
  refine n_top (y := bI false) (rfl) ?_
  refine b_if_eq (tgt := 21) hx hb dX6_undo_16 (by decide) (fun c2 => ?_) (fun c2 => absurd c2 (by decide))
  refine lv_aload_n hx hb dX6_undo_21 rfl (lv_at hl 0 rfl) ?_
  refine lv_dup hx hb dX6_undo_22 rfl ?_
  refine m_g4 X hH.mp dX6_undo_23 ?_
  refine lv_iconst (v := nI 1) hx hb dX6_undo_26 (by decide) ?_
  refine n_isub hx hb (by omega) dX6_undo_27 ?_
  refine m_p4 X hH dX6_undo_28 (fun H locs hH => ?_)
  refine lv_iconst (v := nI 0) hx hb dX6_undo_31 (by decide) ?_
  refine lv_istore_n (lv' := [(1, .int (nI 0)), (0, .ref (a 0))]) hx hb dX6_undo_32 rfl hl (by decide) rfl (fun ls hl => ?_)
  have lp : ∀ (fu : Nat) (kN : Nat) (f1v : Nat → Int32), kN ≤ 195 → (∀ k, k < kN → f1v k = SV nN k) → 195 - kN < fu → ∀ (H : Heap) (locs : List Loc), HH G sT (mw G a (nI ((nN + 1) - 1)) (nI 0) x7 x8 x11 x15 f1v f2 f3 f4 f5 f6 f7 f8 f9 f10 f11 h ++ wr) H locs → ∀ ls : Array Slot, lv_has ls 2 [(0, .ref (a 0)), (1, .int (nI kN))] → W pR l eV (Rm 2 0 0) sT mI ([.ref (a 0)] : List Value).toArray below meth cd H locs 0 0 QQ (F0 mI 33 ls []) := by
    intro fu
    induction fu with
    | zero => intro kN f1v hk hg hm; exact absurd hm (Nat.not_lt_zero _)
    | succ fu ih_lp =>
      intro kN f1v hk hg hm H locs hH ls hl
      refine lv_iload_n hx hb dX6_undo_33 rfl (lv_at hl 1 rfl) ?_
      refine lv_sipush (v := nI 195) hx hb dX6_undo_34 (by decide) ?_
      refine n_icmp_ge (tgt := 67) hx hb (by omega) (by omega) dX6_undo_37 (by decide) (fun c3 => ?_) (fun c3 => ?_)
      · refine lv_aload_n hx hb dX6_undo_67 rfl (lv_at hl 0 rfl) ?_
        refine m_g4 X hH.mp dX6_undo_68 ?_
        have hH := m_cg1 (g := SV nN) (fun k hk => (hg k (by omega)).symm) hH
        exact ret _ _ _ _ _ _ _ _ hH (⟨rfl, rfl⟩) (Nat.le_refl _) (Nat.le_refl _) dX6_undo_71
      · refine lv_aload_n hx hb dX6_undo_40 rfl (lv_at hl 0 rfl) ?_
        refine m_g0 X hH.mp dX6_undo_41 ?_
        refine lv_iload_n hx hb dX6_undo_44 rfl (lv_at hl 1 rfl) ?_
        refine lv_aload_n hx hb dX6_undo_45 rfl (lv_at hl 0 rfl) ?_
        refine m_g1 X hH.mp dX6_undo_46 ?_
        refine lv_sipush (v := nI 195) hx hb dX6_undo_49 (by decide) ?_
        refine lv_aload_n hx hb dX6_undo_52 rfl (lv_at hl 0 rfl) ?_
        refine m_g4 X hH.mp dX6_undo_53 ?_
        refine n_imul hx hb dX6_undo_56 ?_
        refine lv_iload_n hx hb dX6_undo_57 rfl (lv_at hl 1 rfl) ?_
        refine n_iadd hx hb dX6_undo_58 ?_
        refine m_ld2 X hH.mp (by omega) dX6_undo_59 ?_
        refine m_st1 X hH (by omega) dX6_undo_60 (fun f1_1 H locs ef1_1 hH => ?_)
        refine lv_iinc (v := nI (kN + 1)) (lv' := [(1, .int (nI (kN + 1))), (0, .ref (a 0))]) hx hb dX6_undo_61 hl (k := 1) rfl (nI_add _ 1) (by decide) rfl (fun ls hl => ?_)
        refine lv_goto (tgt := 33) hx hb dX6_undo_64 (by decide) ?_
        exact ih_lp (kN + 1) f1_1 (by omega) (fun k hk => by rw [ef1_1]; rcases Nat.lt_or_ge k kN with q | q; exact (by rw [pk_un (by omega)]; exact hg k q); exact (by rw [show k = kN by omega, pk_us]; exact hS kN (by omega))) (by omega) _ _ hH ls (lv_sub hl [1, 0] rfl)
  exact lp _ 0 f1 (Nat.zero_le _) (fun k hk => absurd hk (Nat.not_lt_zero k)) (Nat.lt_succ_self _) _ _ hH ls (lv_sub hl [1, 0] rfl)
theorem hdv_X6_clears : yX6_clears.cls = RX6 ∧ yX6_clears.cls ≠ "java/lang/invoke/MethodHandle" ∧ yX6_clears.cls ≠ "java/lang/invoke/VarHandle" ∧ (parseMethodDescriptor yX6_clears.desc).map (fun d => d.parameters.length) = some 1 := by decide +kernel
theorem c_X6_clears (hE : EnvOK G E) {tN : Nat} (ht : tN + 9 ≤ 195) : MU vV l G E yX6_clears cX6_clears 3 none 1 0 0 [.ref (a 0), .int (nI tN)] (mw G a x4 x5 x7 x8 x11 x15 f1 f2 f3 f4 f5 f6 f7 f8 f9 f10 f11 h ++ wr) (fun _ w => w = mw G a x4 x5 x7 x8 x11 x15 (clrR f1 tN) f2 f3 f4 f5 f6 f7 f8 f9 f10 f11 h ++ wr) := by
  refine MUv hE (by decide) (Nat.le_of_ble_eq_true rfl) (fun pR eV sT mI below meth cd QQ ls X hH hl ret => ?_)
  obtain ⟨⟨hx, hb, hml, hown, hts⟩, ⟨hr, hlk⟩, -, -, -⟩ := id X
  have hl : lv_has ls 3 [(0, .ref (a 0)), (1, .int (nI tN))] := hl
  refine wgen (H := sT.heap) (locs := []) hH (fun H locs hH => ?_)
  refine lv_iconst (v := nI 0) hx hb dX6_clears_0 (by decide) ?_
  refine lv_istore_n (lv' := [(2, .int (nI 0)), (0, .ref (a 0)), (1, .int (nI tN))]) hx hb dX6_clears_1 rfl hl (by decide) rfl (fun ls hl => ?_)
  have lp : ∀ (fu : Nat) (kN : Nat) (f1v : Nat → Int32), kN ≤ 9 → (∀ k, k < 195 → f1v k = if tN ≤ k ∧ k < tN + kN then nI 0 else f1 k) → 9 - kN < fu → ∀ (H : Heap) (locs : List Loc), HH G sT (mw G a x4 x5 x7 x8 x11 x15 f1v f2 f3 f4 f5 f6 f7 f8 f9 f10 f11 h ++ wr) H locs → ∀ ls : Array Slot, lv_has ls 3 [(0, .ref (a 0)), (1, .int (nI tN)), (2, .int (nI kN))] → W pR l eV (Rm 1 0 0) sT mI ([.ref (a 0), .int (nI tN)] : List Value).toArray below meth cd H locs 0 0 QQ (F0 mI 2 ls []) := by
    intro fu
    induction fu with
    | zero => intro kN f1v hk hg hm; exact absurd hm (Nat.not_lt_zero _)
    | succ fu ih_lp =>
      intro kN f1v hk hg hm H locs hH ls hl
      refine lv_iload_n hx hb dX6_clears_2 rfl (lv_at hl 2 rfl) ?_
      refine lv_bipush (v := nI 9) hx hb dX6_clears_3 (by decide) ?_
      refine n_icmp_ge (tgt := 23) hx hb (by omega) (by omega) dX6_clears_5 (by decide) (fun c1 => ?_) (fun c1 => ?_)
      · refine lv_aload_n hx hb dX6_clears_23 rfl (lv_at hl 0 rfl) ?_
        refine m_g0 X hH.mp dX6_clears_24 ?_
        refine lv_iload_n hx hb dX6_clears_27 rfl (lv_at hl 1 rfl) ?_
        refine lv_bipush (v := nI 6) hx hb dX6_clears_28 (by decide) ?_
        refine n_iadd hx hb dX6_clears_30 ?_
        refine lv_iconst (v := (-1)) hx hb dX6_clears_31 (by decide) ?_
        refine m_st1 X hH (by omega) dX6_clears_32 (fun f1_1 H locs ef1_1 hH => ?_)
        have hH := m_cg1 (g := clrR f1 tN) (fun k hk => by rw [ef1_1]; unfold clrR; by_cases q : k = tN + 6; exact (by rw [if_pos q, q, pk_us]); exact (by rw [if_neg q, pk_un q, hg k hk, show kN = 9 by omega]; rfl)) hH
        exact ret _ _ _ _ _ _ _ hH rfl (Nat.le_refl _) (Nat.le_refl _) dX6_clears_33
      · refine lv_aload_n hx hb dX6_clears_8 rfl (lv_at hl 0 rfl) ?_
        refine m_g0 X hH.mp dX6_clears_9 ?_
        refine lv_iload_n hx hb dX6_clears_12 rfl (lv_at hl 1 rfl) ?_
        refine lv_iload_n hx hb dX6_clears_13 rfl (lv_at hl 2 rfl) ?_
        refine n_iadd hx hb dX6_clears_14 ?_
        refine lv_iconst (v := nI 0) hx hb dX6_clears_15 (by decide) ?_
        refine m_st1 X hH (by omega) dX6_clears_16 (fun f1_2 H locs ef1_2 hH => ?_)
        refine lv_iinc (v := nI (kN + 1)) (lv' := [(2, .int (nI (kN + 1))), (0, .ref (a 0)), (1, .int (nI tN))]) hx hb dX6_clears_17 hl (k := 2) rfl (nI_add _ 1) (by decide) rfl (fun ls hl => ?_)
        refine lv_goto (tgt := 2) hx hb dX6_clears_20 (by decide) ?_
        exact ih_lp (kN + 1) f1_2 (by omega) (fun k hk => by rw [ef1_2]; by_cases q : k = tN + kN; exact (by rw [q, pk_us, if_pos (by omega)]); exact (by rw [pk_un q, hg k hk]; by_cases q2 : tN ≤ k ∧ k < tN + kN; exact (by rw [if_pos q2, if_pos (by omega)]); exact (by rw [if_neg q2, if_neg (by omega)]))) (by omega) _ _ hH ls (lv_sub hl [1, 2, 0] rfl)
  exact lp _ 0 f1 (Nat.zero_le _) (fun k _ => by rw [if_neg (by omega)]) (Nat.lt_succ_self _) _ _ hH ls (lv_sub hl [1, 2, 0] rfl)
theorem hdv_X6_lays : yX6_lays.cls = RX6 ∧ yX6_lays.cls ≠ "java/lang/invoke/MethodHandle" ∧ yX6_lays.cls ≠ "java/lang/invoke/VarHandle" ∧ (parseMethodDescriptor yX6_lays.desc).map (fun d => d.parameters.length) = some 1 := by decide +kernel
theorem c_X6_lays (hE : EnvOK G E) {pN : Nat} (hp : pN < 7) : MU vV l G E yX6_lays cX6_lays 3 none 1 0 0 [.ref (a 0), .int (nI pN)] (mw G a x4 x5 x7 x8 x11 x15 f1 f2 f3 f4 f5 f6 f7 f8 f9 f10 f11 h ++ wr) (fun _ w => ∃ g, (∀ j, j < 195 * pN → g j = f9 j) ∧ (∀ k, k < 195 → g (195 * pN + k) = f1 k) ∧ w = mw G a x4 x5 x7 x8 x11 x15 f1 f2 f3 f4 f5 f6 f7 (upd f8 pN (-1)) g f10 f11 h ++ wr) := by
  refine MUv hE (by decide) (Nat.le_of_ble_eq_true rfl) (fun pR eV sT mI below meth cd QQ ls X hH hl ret => ?_)
  obtain ⟨⟨hx, hb, hml, hown, hts⟩, ⟨hr, hlk⟩, -, -, -⟩ := id X
  have hl : lv_has ls 3 [(0, .ref (a 0)), (1, .int (nI pN))] := hl
  refine wgen (H := sT.heap) (locs := []) hH (fun H locs hH => ?_)
  refine lv_iconst (v := nI 0) hx hb dX6_lays_0 (by decide) ?_
  refine lv_istore_n (lv' := [(2, .int (nI 0)), (0, .ref (a 0)), (1, .int (nI pN))]) hx hb dX6_lays_1 rfl hl (by decide) rfl (fun ls hl => ?_)
  have lp : ∀ (fu : Nat) (kN : Nat) (f9v : Nat → Int32), kN ≤ 195 → (∀ j, j < 195 * pN → f9v j = f9 j) → (∀ k, k < kN → f9v (195 * pN + k) = f1 k) → 195 - kN < fu → ∀ (H : Heap) (locs : List Loc), HH G sT (mw G a x4 x5 x7 x8 x11 x15 f1 f2 f3 f4 f5 f6 f7 f8 f9v f10 f11 h ++ wr) H locs → ∀ ls : Array Slot, lv_has ls 3 [(0, .ref (a 0)), (1, .int (nI pN)), (2, .int (nI kN))] → W pR l eV (Rm 1 0 0) sT mI ([.ref (a 0), .int (nI pN)] : List Value).toArray below meth cd H locs 0 0 QQ (F0 mI 2 ls []) := by
    intro fu
    induction fu with
    | zero => intro kN f9v hk hlo hg hm; exact absurd hm (Nat.not_lt_zero _)
    | succ fu ih_lp =>
      intro kN f9v hk hlo hg hm H locs hH ls hl
      refine lv_iload_n hx hb dX6_lays_2 rfl (lv_at hl 2 rfl) ?_
      refine lv_sipush (v := nI 195) hx hb dX6_lays_3 (by decide) ?_
      refine n_icmp_ge (tgt := 33) hx hb (by omega) (by omega) dX6_lays_6 (by decide) (fun c1 => ?_) (fun c1 => ?_)
      · refine lv_aload_n hx hb dX6_lays_33 rfl (lv_at hl 0 rfl) ?_
        refine m_g12 X hH.mp dX6_lays_34 ?_
        refine lv_iload_n hx hb dX6_lays_37 rfl (lv_at hl 1 rfl) ?_
        refine lv_iconst (v := (-1)) hx hb dX6_lays_38 (by decide) ?_
        refine m_st8 X hH (by omega) dX6_lays_39 (fun f8_1 H locs ef8_1 hH => ?_)
        exact ret _ _ _ _ _ _ _ hH (⟨f9v, hlo, fun k hk => hg k (by omega), by rw [ef8_1]⟩) (Nat.le_refl _) (Nat.le_refl _) dX6_lays_40
      · refine lv_aload_n hx hb dX6_lays_9 rfl (lv_at hl 0 rfl) ?_
        refine m_g13 X hH.mp dX6_lays_10 ?_
        refine lv_sipush (v := nI 195) hx hb dX6_lays_13 (by decide) ?_
        refine lv_iload_n hx hb dX6_lays_16 rfl (lv_at hl 1 rfl) ?_
        refine n_imul hx hb dX6_lays_17 ?_
        refine lv_iload_n hx hb dX6_lays_18 rfl (lv_at hl 2 rfl) ?_
        refine n_iadd hx hb dX6_lays_19 ?_
        refine lv_aload_n hx hb dX6_lays_20 rfl (lv_at hl 0 rfl) ?_
        refine m_g0 X hH.mp dX6_lays_21 ?_
        refine lv_iload_n hx hb dX6_lays_24 rfl (lv_at hl 2 rfl) ?_
        refine m_ld1 X hH.mp (by omega) dX6_lays_25 ?_
        refine m_st9 X hH (by omega) dX6_lays_26 (fun f9_2 H locs ef9_2 hH => ?_)
        refine lv_iinc (v := nI (kN + 1)) (lv' := [(2, .int (nI (kN + 1))), (0, .ref (a 0)), (1, .int (nI pN))]) hx hb dX6_lays_27 hl (k := 2) rfl (nI_add _ 1) (by decide) rfl (fun ls hl => ?_)
        refine lv_goto (tgt := 2) hx hb dX6_lays_30 (by decide) ?_
        exact ih_lp (kN + 1) f9_2 (by omega) (fun j hj => by rw [ef9_2, pk_un (by omega)]; exact hlo j hj) (fun k hk => by rw [ef9_2]; rcases Nat.lt_or_ge k kN with q | q; exact (by rw [pk_un (by omega)]; exact hg k q); exact (by rw [show k = kN by omega, pk_us])) (by omega) _ _ hH ls (lv_sub hl [1, 2, 0] rfl)
  exact lp _ 0 f9 (Nat.zero_le _) (fun j _ => rfl) (fun k hk => absurd hk (Nat.not_lt_zero k)) (Nat.lt_succ_self _) _ _ hH ls (lv_sub hl [1, 2, 0] rfl)
theorem hdv_X6_picks : yX6_picks.cls = RX6 ∧ yX6_picks.cls ≠ "java/lang/invoke/MethodHandle" ∧ yX6_picks.cls ≠ "java/lang/invoke/VarHandle" ∧ (parseMethodDescriptor yX6_picks.desc).map (fun d => d.parameters.length) = some 1 := by decide +kernel
theorem c_X6_picks (hE : EnvOK G E) {pN : Nat} {RV : Nat → Int32} (hp : pN < 7) (hV : ∀ k, k < 195 → f9 (195 * pN + k) = RV k) : MU vV l G E yX6_picks cX6_picks 3 none 1 0 0 [.ref (a 0), .int (nI pN)] (mw G a x4 x5 x7 x8 x11 x15 f1 f2 f3 f4 f5 f6 f7 f8 f9 f10 f11 h ++ wr) (fun _ w => w = mw G a x4 x5 x7 x8 x11 x15 RV f2 f3 f4 f5 f6 f7 f8 f9 f10 f11 h ++ wr) := by
  refine MUv hE (by decide) (Nat.le_of_ble_eq_true rfl) (fun pR eV sT mI below meth cd QQ ls X hH hl ret => ?_)
  obtain ⟨⟨hx, hb, hml, hown, hts⟩, ⟨hr, hlk⟩, -, -, -⟩ := id X
  have hl : lv_has ls 3 [(0, .ref (a 0)), (1, .int (nI pN))] := hl
  refine wgen (H := sT.heap) (locs := []) hH (fun H locs hH => ?_)
  refine lv_iconst (v := nI 0) hx hb dX6_picks_0 (by decide) ?_
  refine lv_istore_n (lv' := [(2, .int (nI 0)), (0, .ref (a 0)), (1, .int (nI pN))]) hx hb dX6_picks_1 rfl hl (by decide) rfl (fun ls hl => ?_)
  have lp : ∀ (fu : Nat) (kN : Nat) (f1v : Nat → Int32), kN ≤ 195 → (∀ k, k < kN → f1v k = RV k) → 195 - kN < fu → ∀ (H : Heap) (locs : List Loc), HH G sT (mw G a x4 x5 x7 x8 x11 x15 f1v f2 f3 f4 f5 f6 f7 f8 f9 f10 f11 h ++ wr) H locs → ∀ ls : Array Slot, lv_has ls 3 [(0, .ref (a 0)), (1, .int (nI pN)), (2, .int (nI kN))] → W pR l eV (Rm 1 0 0) sT mI ([.ref (a 0), .int (nI pN)] : List Value).toArray below meth cd H locs 0 0 QQ (F0 mI 2 ls []) := by
    intro fu
    induction fu with
    | zero => intro kN f1v hk hg hm; exact absurd hm (Nat.not_lt_zero _)
    | succ fu ih_lp =>
      intro kN f1v hk hg hm H locs hH ls hl
      refine lv_iload_n hx hb dX6_picks_2 rfl (lv_at hl 2 rfl) ?_
      refine lv_sipush (v := nI 195) hx hb dX6_picks_3 (by decide) ?_
      refine n_icmp_ge (tgt := 33) hx hb (by omega) (by omega) dX6_picks_6 (by decide) (fun c1 => ?_) (fun c1 => ?_)
      · have hH := m_cg1 (g := RV) (fun k hk => (hg k (by omega)).symm) hH
        exact ret _ _ _ _ _ _ _ hH rfl (Nat.le_refl _) (Nat.le_refl _) dX6_picks_33
      · refine lv_aload_n hx hb dX6_picks_9 rfl (lv_at hl 0 rfl) ?_
        refine m_g0 X hH.mp dX6_picks_10 ?_
        refine lv_iload_n hx hb dX6_picks_13 rfl (lv_at hl 2 rfl) ?_
        refine lv_aload_n hx hb dX6_picks_14 rfl (lv_at hl 0 rfl) ?_
        refine m_g13 X hH.mp dX6_picks_15 ?_
        refine lv_sipush (v := nI 195) hx hb dX6_picks_18 (by decide) ?_
        refine lv_iload_n hx hb dX6_picks_21 rfl (lv_at hl 1 rfl) ?_
        refine n_imul hx hb dX6_picks_22 ?_
        refine lv_iload_n hx hb dX6_picks_23 rfl (lv_at hl 2 rfl) ?_
        refine n_iadd hx hb dX6_picks_24 ?_
        refine m_ld9 X hH.mp (by omega) dX6_picks_25 ?_
        refine m_st1 X hH (by omega) dX6_picks_26 (fun f1_1 H locs ef1_1 hH => ?_)
        refine lv_iinc (v := nI (kN + 1)) (lv' := [(2, .int (nI (kN + 1))), (0, .ref (a 0)), (1, .int (nI pN))]) hx hb dX6_picks_27 hl (k := 2) rfl (nI_add _ 1) (by decide) rfl (fun ls hl => ?_)
        refine lv_goto (tgt := 2) hx hb dX6_picks_30 (by decide) ?_
        exact ih_lp (kN + 1) f1_1 (by omega) (fun k hk => by rw [ef1_1]; rcases Nat.lt_or_ge k kN with q | q; exact (by rw [pk_un (by omega)]; exact hg k q); exact (by rw [show k = kN by omega, pk_us]; exact hV kN (by omega))) (by omega) _ _ hH ls (lv_sub hl [1, 2, 0] rfl)
  exact lp _ 0 f1 (Nat.zero_le _) (fun k hk => absurd hk (Nat.not_lt_zero k)) (Nat.lt_succ_self _) _ _ hH ls (lv_sub hl [1, 2, 0] rfl)
end
