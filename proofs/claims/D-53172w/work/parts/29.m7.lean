/-! MODEL, methods 7: the text -/
/-- the sign at p is there and in lo .. hi -/
def atB (T : Nat → Nat) (l p lo hi : Nat) : Bool := decide (p < l) && (decide (lo ≤ T p) && decide (T p ≤ hi))
def tOk (T : Nat → Nat) (l : Nat) (f : Nat → Int32) : Prop := l ≤ 150 ∧ ∀ k, k < l → f k = nI (T k) ∧ T k < 128
theorem rgB_n {a b c : Nat} (ha : a < 2 ^ 31) (hb : b < 2 ^ 31) (hc : c < 2 ^ 31) : rgB (nI a) (nI b) (nI c) = (decide (a ≤ c) && decide (c ≤ b)) := by
  unfold rgB
  rw [decide_eq_decide.mpr (nI_leI ha hc), decide_eq_decide.mpr (nI_leI hc hb)]
theorem atB_lt {T : Nat → Nat} {l p lo hi : Nat} (h : atB T l p lo hi = true) : p < l := by
  unfold atB at h
  rw [Bool.and_eq_true, decide_eq_true_eq] at h
  exact h.1
theorem atB_in {T : Nat → Nat} {l p lo hi : Nat} (h : atB T l p lo hi = true) : lo ≤ T p ∧ T p ≤ hi := by
  unfold atB at h
  simp only [Bool.and_eq_true, decide_eq_true_eq] at h
  exact h.2
/-- how many letters stand from p on, m at most -/
def clN (T : Nat → Nat) (l : Nat) : Nat → Nat → Nat
  | _, 0 => 0
  | p, m + 1 => if atB T l p 97 122 then clN T l (p + 1) m + 1 else 0
theorem clN_le {T : Nat → Nat} {l : Nat} : ∀ m p, clN T l p m ≤ m := by
  intro m
  induction m with
  | zero => intro p; exact Nat.le_refl _
  | succ m ih => intro p; rw [clN]; split; exact Nat.succ_le_succ (ih _); exact Nat.zero_le _
theorem clN_f {T : Nat → Nat} {l p m : Nat} (h : atB T l p 97 122 = false) : clN T l p m = 0 := by
  cases m with
  | zero => rfl
  | succ m => rw [clN, h]; rfl
theorem clN_l {T : Nat → Nat} {l : Nat} : ∀ m p, p ≤ l → p + clN T l p m ≤ l := by
  intro m
  induction m with
  | zero => intro p h; exact h
  | succ m ih =>
    intro p h
    rw [clN]
    split
    · next e => have := ih (p + 1) (atB_lt e); omega
    · exact h
theorem clN_at {T : Nat → Nat} {l : Nat} : ∀ m p i, i < clN T l p m → atB T l (p + i) 97 122 = true := by
  intro m
  induction m with
  | zero => intro p i h; exact absurd h (Nat.not_lt_zero _)
  | succ m ih =>
    intro p i h
    rw [clN] at h
    split at h
    · next e =>
      cases i with
      | zero => exact e
      | succ i => have := ih (p + 1) i (by omega); rw [show p + (i + 1) = p + 1 + i by omega]; exact this
    · exact absurd h (Nat.not_lt_zero _)
/-- letters of the text put into a row: how many at t, they from q on -/
def ltR (R : Nat → Int32) (T : Nat → Nat) (p t q c : Nat) : Nat → Int32 := fun k => if k = t then nI c else if q ≤ k ∧ k < q + c then nI (T (p + (k - q)) - 97) else R k
section
variable {l : Launch} {G : GG} {E : State → Prop} {a : Nat → Nat} {x4 x5 x7 x8 x11 x15 : Int32} {f1 f2 f3 f4 f5 f6 f7 f8 f9 f10 f11 : Nat → Int32} {h : Int64} {wr : va_W}
variable {T : Nat → Nat}
theorem hdv_X6_isAt : yX6_isAt.cls = RX6 ∧ yX6_isAt.cls ≠ "java/lang/invoke/MethodHandle" ∧ yX6_isAt.cls ≠ "java/lang/invoke/VarHandle" ∧ (parseMethodDescriptor yX6_isAt.desc).map (fun d => d.parameters.length) = some 2 := by decide +kernel
theorem c_X6_isAt (hE : EnvOK G E) {lN pN lN0 hN0 : Nat} (hT : tOk T lN f5) (hp : pN ≤ 150) (h1 : lN0 < 200) (h2 : hN0 < 200) : RO l G E yX6_isAt cX6_isAt 3 .boolean 2 [.ref (a 0), .int (nI lN0), .int (nI hN0)] (va_P G.1 cls (mw G a x4 x5 (nI lN) (nI pN) x11 x15 f1 f2 f3 f4 f5 f6 f7 f8 f9 f10 f11 h)) (.int (bI (atB T lN pN lN0 hN0))) := by
  refine ROz hE (by decide) (Nat.le_of_ble_eq_true rfl) (bI_nar _) (fun pR eV sT mI below meth cd QQ ls X hP hl ret => ?_)
  obtain ⟨⟨hx, hb, hml, hown, hts⟩, ⟨hr, hlk⟩, -, -, -⟩ := id X
  have hl : lv_has ls 3 [(0, .ref (a 0)), (1, .int (nI lN0)), (2, .int (nI hN0))] := hl
  obtain ⟨hl150, hT⟩ := hT
  refine lv_aload_n hx hb dX6_isAt_0 rfl (lv_at hl 0 rfl) ?_
  refine m_g8 X hP dX6_isAt_1 ?_
  refine lv_aload_n hx hb dX6_isAt_4 rfl (lv_at hl 0 rfl) ?_
  refine m_g7 X hP dX6_isAt_5 ?_
  refine n_icmp_ge (tgt := 32) hx hb (by omega) (by omega) dX6_isAt_8 (by decide) (fun c1 => ?_) (fun c1 => ?_)
  · refine lv_iconst (v := nI 0) hx hb dX6_isAt_32 (by decide) ?_
    exact ret _ _ _ (bI_f (by unfold atB; rw [decide_eq_false (by omega)]; rfl)) dX6_isAt_33
  · refine lv_aload_n hx hb dX6_isAt_11 rfl (lv_at hl 0 rfl) ?_
    refine m_g6 X hP dX6_isAt_12 ?_
    refine lv_aload_n hx hb dX6_isAt_15 rfl (lv_at hl 0 rfl) ?_
    refine m_g8 X hP dX6_isAt_16 ?_
    refine m_ld5 X hP (by omega) dX6_isAt_19 ?_
    refine n_top (y := nI (T pN)) ((hT pN c1).1) ?_
    have hT9 := (hT pN c1).2
    refine lv_iload_n hx hb dX6_isAt_20 rfl (lv_at hl 1 rfl) ?_
    refine lv_iload_n hx hb dX6_isAt_21 rfl (lv_at hl 2 rfl) ?_
    refine m_S (c_X6_in hE) X va_S.rf (lw_S q1528 q1529 q72 q1530) hds_X6_in ⟨Nat.le_of_ble_eq_true rfl, Nat.le_of_ble_eq_true rfl⟩ ⟨Nat.le_refl _, Nat.le_refl _⟩ rfl hl.1 rfl (Nat.le_of_ble_eq_true rfl) dX6_isAt_22 ?_
    refine n_top (y := bI (decide (lN0 ≤ T pN) && decide (T pN ≤ hN0))) (by rw [rgB_n (by omega) (by omega) (by omega)]) ?_
    refine b_if_eq (tgt := 32) hx hb dX6_isAt_25 (by decide) (fun c2 => ?_) (fun c2 => ?_)
    · refine lv_iconst (v := nI 0) hx hb dX6_isAt_32 (by decide) ?_
      exact ret _ _ _ (bI_f (by unfold atB; rw [c2, Bool.and_false])) dX6_isAt_33
    · refine lv_iconst (v := nI 1) hx hb dX6_isAt_28 (by decide) ?_
      refine lv_goto (tgt := 33) hx hb dX6_isAt_29 (by decide) ?_
      exact ret _ _ _ (bI_t (by unfold atB; rw [c2, decide_eq_true c1]; rfl)) dX6_isAt_33
theorem hdv_X6_append : yX6_append.cls = RX6 ∧ yX6_append.cls ≠ "java/lang/invoke/MethodHandle" ∧ yX6_append.cls ≠ "java/lang/invoke/VarHandle" ∧ (parseMethodDescriptor yX6_append.desc).map (fun d => d.parameters.length) = some 1 := by decide +kernel
theorem c_X6_append_1 (hE : EnvOK G E) {x : Int32} (hB : rgB (nI 0) (nI 127) x = false) : MU vI l G E yX6_append cX6_append 2 (some .int) 2 0 0 [.ref (a 0), .int x] (mw G a x4 x5 x7 x8 x11 x15 f1 f2 f3 f4 f5 f6 f7 f8 f9 f10 f11 h ++ wr) (fun r w => r = nI 0 ∧ w = mw G a x4 (nI 1) x7 x8 x11 x15 f1 f2 f3 f4 f5 f6 f7 f8 f9 f10 f11 h ++ wr) := by
  refine MUi hE (by decide) (Nat.le_of_ble_eq_true rfl) (fun pR eV sT mI below meth cd QQ ls X hH hl ret => ?_)
  obtain ⟨⟨hx, hb, hml, hown, hts⟩, ⟨hr, hlk⟩, -, -, -⟩ := id X
  have hl : lv_has ls 2 [(0, .ref (a 0)), (1, .int x)] := hl
  refine wgen (H := sT.heap) (locs := []) hH (fun H locs hH => ?_)
  refine lv_aload_n hx hb dX6_append_0 rfl (lv_at hl 0 rfl) ?_
  refine lv_iload_n hx hb dX6_append_1 rfl (lv_at hl 1 rfl) ?_
  refine lv_iconst (v := nI 0) hx hb dX6_append_2 (by decide) ?_
  refine lv_bipush (v := nI 127) hx hb dX6_append_3 (by decide) ?_
  refine m_S (c_X6_in hE) X hH.2 (lw_S q1528 q1529 q72 q1530) hds_X6_in ⟨Nat.le_of_ble_eq_true rfl, Nat.le_of_ble_eq_true rfl⟩ ⟨Nat.le_refl _, Nat.le_refl _⟩ rfl hl.1 rfl (Nat.le_of_ble_eq_true rfl) dX6_append_5 ?_
  refine n_top (y := nI 0) (by rw [hB]; rfl) ?_
  refine lv_if_ne (tgt := 15) hx hb dX6_append_8 (by decide) (fun h => absurd rfl h) (fun _ => ?_)
  refine lv_iconst (v := nI 1) hx hb dX6_append_11 (by decide) ?_
  refine lv_goto (tgt := 30) hx hb dX6_append_12 (by decide) ?_
  refine m_Mi (c_X6_refused (cN := 1) hE (by omega)) X hH (lw_V q1520 q1522 qs23 q72 q1523) hdv_X6_refused ⟨Nat.le_of_ble_eq_true rfl, Nat.le_of_ble_eq_true rfl⟩ ⟨Nat.le_refl _, Nat.le_refl _⟩ rfl hl.1 rfl (Nat.le_of_ble_eq_true rfl) dX6_append_30 (fun r w H locs hq hH => ?_)
  obtain ⟨rfl, rfl⟩ := hq
  refine n_top (y := bI true) (rfl) ?_
  refine n_top (y := nI 1) (rfl) ?_
  refine lv_if_eq (tgt := 38) hx hb dX6_append_33 (by decide) (fun h => absurd h (by decide)) (fun _ => ?_)
  refine lv_iconst (v := nI 0) hx hb dX6_append_36 (by decide) ?_
  exact ret _ _ _ _ _ _ _ _ hH (⟨rfl, rfl⟩) (Nat.le_refl _) (Nat.le_refl _) dX6_append_37
theorem c_X6_append_2 (hE : EnvOK G E) {x : Int32} (hB : rgB (nI 0) (nI 127) x = true) : MU vI l G E yX6_append cX6_append 2 (some .int) 2 0 0 [.ref (a 0), .int x] (mw G a x4 x5 (nI 150) x8 x11 x15 f1 f2 f3 f4 f5 f6 f7 f8 f9 f10 f11 h ++ wr) (fun r w => r = nI 0 ∧ w = mw G a x4 (nI 2) (nI 150) x8 x11 x15 f1 f2 f3 f4 f5 f6 f7 f8 f9 f10 f11 h ++ wr) := by
  refine MUi hE (by decide) (Nat.le_of_ble_eq_true rfl) (fun pR eV sT mI below meth cd QQ ls X hH hl ret => ?_)
  obtain ⟨⟨hx, hb, hml, hown, hts⟩, ⟨hr, hlk⟩, -, -, -⟩ := id X
  have hl : lv_has ls 2 [(0, .ref (a 0)), (1, .int x)] := hl
  refine wgen (H := sT.heap) (locs := []) hH (fun H locs hH => ?_)
  refine lv_aload_n hx hb dX6_append_0 rfl (lv_at hl 0 rfl) ?_
  refine lv_iload_n hx hb dX6_append_1 rfl (lv_at hl 1 rfl) ?_
  refine lv_iconst (v := nI 0) hx hb dX6_append_2 (by decide) ?_
  refine lv_bipush (v := nI 127) hx hb dX6_append_3 (by decide) ?_
  refine m_S (c_X6_in hE) X hH.2 (lw_S q1528 q1529 q72 q1530) hds_X6_in ⟨Nat.le_of_ble_eq_true rfl, Nat.le_of_ble_eq_true rfl⟩ ⟨Nat.le_refl _, Nat.le_refl _⟩ rfl hl.1 rfl (Nat.le_of_ble_eq_true rfl) dX6_append_5 ?_
  refine n_top (y := nI 1) (by rw [hB]; rfl) ?_
  refine lv_if_ne (tgt := 15) hx hb dX6_append_8 (by decide) (fun _ => ?_) (fun h => absurd h (by decide))
  refine lv_aload_n hx hb dX6_append_15 rfl (lv_at hl 0 rfl) ?_
  refine m_g7 X hH.mp dX6_append_16 ?_
  refine lv_sipush (v := nI 150) hx hb dX6_append_19 (by decide) ?_
  refine n_icmp_ne (tgt := 29) hx hb (by omega) (by omega) dX6_append_22 (by decide) (fun c1 => absurd rfl c1) (fun c1 => ?_)
  refine lv_iconst (v := nI 2) hx hb dX6_append_25 (by decide) ?_
  refine lv_goto (tgt := 30) hx hb dX6_append_26 (by decide) ?_
  refine m_Mi (c_X6_refused (cN := 2) hE (by omega)) X hH (lw_V q1520 q1522 qs23 q72 q1523) hdv_X6_refused ⟨Nat.le_of_ble_eq_true rfl, Nat.le_of_ble_eq_true rfl⟩ ⟨Nat.le_refl _, Nat.le_refl _⟩ rfl hl.1 rfl (Nat.le_of_ble_eq_true rfl) dX6_append_30 (fun r w H locs hq hH => ?_)
  obtain ⟨rfl, rfl⟩ := hq
  refine n_top (y := bI true) (rfl) ?_
  refine n_top (y := nI 1) (rfl) ?_
  refine lv_if_eq (tgt := 38) hx hb dX6_append_33 (by decide) (fun h => absurd h (by decide)) (fun _ => ?_)
  refine lv_iconst (v := nI 0) hx hb dX6_append_36 (by decide) ?_
  exact ret _ _ _ _ _ _ _ _ hH (⟨rfl, rfl⟩) (Nat.le_refl _) (Nat.le_refl _) dX6_append_37
theorem c_X6_append_3 (hE : EnvOK G E) {x : Int32} {lN : Nat} (hB : rgB (nI 0) (nI 127) x = true) (hl9 : lN < 150) : MU vI l G E yX6_append cX6_append 2 (some .int) 2 0 0 [.ref (a 0), .int x] (mw G a x4 x5 (nI lN) x8 x11 x15 f1 f2 f3 f4 f5 f6 f7 f8 f9 f10 f11 h ++ wr) (fun r w => r = nI (lN + 1) ∧ w = mw G a x4 (nI 0) (nI (lN + 1)) x8 x11 x15 f1 f2 f3 f4 (upd f5 lN x) f6 f7 f8 f9 f10 f11 h ++ wr) := by
  refine MUi hE (by decide) (Nat.le_of_ble_eq_true rfl) (fun pR eV sT mI below meth cd QQ ls X hH hl ret => ?_)
  obtain ⟨⟨hx, hb, hml, hown, hts⟩, ⟨hr, hlk⟩, -, -, -⟩ := id X
  have hl : lv_has ls 2 [(0, .ref (a 0)), (1, .int x)] := hl
  refine wgen (H := sT.heap) (locs := []) hH (fun H locs hH => ?_)
  refine lv_aload_n hx hb dX6_append_0 rfl (lv_at hl 0 rfl) ?_
  refine lv_iload_n hx hb dX6_append_1 rfl (lv_at hl 1 rfl) ?_
  refine lv_iconst (v := nI 0) hx hb dX6_append_2 (by decide) ?_
  refine lv_bipush (v := nI 127) hx hb dX6_append_3 (by decide) ?_
  refine m_S (c_X6_in hE) X hH.2 (lw_S q1528 q1529 q72 q1530) hds_X6_in ⟨Nat.le_of_ble_eq_true rfl, Nat.le_of_ble_eq_true rfl⟩ ⟨Nat.le_refl _, Nat.le_refl _⟩ rfl hl.1 rfl (Nat.le_of_ble_eq_true rfl) dX6_append_5 ?_
  refine n_top (y := nI 1) (by rw [hB]; rfl) ?_
  refine lv_if_ne (tgt := 15) hx hb dX6_append_8 (by decide) (fun _ => ?_) (fun h => absurd h (by decide))
  refine lv_aload_n hx hb dX6_append_15 rfl (lv_at hl 0 rfl) ?_
  refine m_g7 X hH.mp dX6_append_16 ?_
  refine lv_sipush (v := nI 150) hx hb dX6_append_19 (by decide) ?_
  refine n_icmp_ne (tgt := 29) hx hb (by omega) (by omega) dX6_append_22 (by decide) (fun c1 => ?_) (fun c1 => absurd c1 (by omega))
  refine lv_iconst (v := nI 0) hx hb dX6_append_29 (by decide) ?_
  refine m_Mi (c_X6_refused (cN := 0) hE (by omega)) X hH (lw_V q1520 q1522 qs23 q72 q1523) hdv_X6_refused ⟨Nat.le_of_ble_eq_true rfl, Nat.le_of_ble_eq_true rfl⟩ ⟨Nat.le_refl _, Nat.le_refl _⟩ rfl hl.1 rfl (Nat.le_of_ble_eq_true rfl) dX6_append_30 (fun r w H locs hq hH => ?_)
  obtain ⟨rfl, rfl⟩ := hq
  refine n_top (y := bI false) (rfl) ?_
  refine n_top (y := nI 0) (rfl) ?_
  refine lv_if_eq (tgt := 38) hx hb dX6_append_33 (by decide) (fun _ => ?_) (fun h => absurd rfl h)
  refine lv_aload_n hx hb dX6_append_38 rfl (lv_at hl 0 rfl) ?_
  refine m_g6 X hH.mp dX6_append_39 ?_
  refine lv_aload_n hx hb dX6_append_42 rfl (lv_at hl 0 rfl) ?_
  refine m_g7 X hH.mp dX6_append_43 ?_
  refine lv_iload_n hx hb dX6_append_46 rfl (lv_at hl 1 rfl) ?_
  refine m_st5 X hH (by omega) dX6_append_47 (fun f5_1 H locs ef5_1 hH => ?_)
  refine lv_aload_n hx hb dX6_append_48 rfl (lv_at hl 0 rfl) ?_
  refine lv_dup hx hb dX6_append_49 rfl ?_
  refine m_g7 X hH.mp dX6_append_50 ?_
  refine lv_iconst (v := nI 1) hx hb dX6_append_53 (by decide) ?_
  refine n_iadd hx hb dX6_append_54 ?_
  refine m_p7 X hH dX6_append_55 (fun H locs hH => ?_)
  refine lv_aload_n hx hb dX6_append_58 rfl (lv_at hl 0 rfl) ?_
  refine m_g7 X hH.mp dX6_append_59 ?_
  exact ret _ _ _ _ _ _ _ _ hH (⟨rfl, by rw [ef5_1]⟩) (Nat.le_refl _) (Nat.le_refl _) dX6_append_62
theorem hdv_X6_clearText : yX6_clearText.cls = RX6 ∧ yX6_clearText.cls ≠ "java/lang/invoke/MethodHandle" ∧ yX6_clearText.cls ≠ "java/lang/invoke/VarHandle" ∧ (parseMethodDescriptor yX6_clearText.desc).map (fun d => d.parameters.length) = some 0 := by decide +kernel
theorem c_X6_clearText (hE : EnvOK G E) : MU vI l G E yX6_clearText cX6_clearText 2 (some .int) 1 0 0 [.ref (a 0)] (mw G a x4 x5 x7 x8 x11 x15 f1 f2 f3 f4 f5 f6 f7 f8 f9 f10 f11 h ++ wr) (fun r w => r = x7 ∧ w = mw G a x4 (nI 0) (nI 0) x8 x11 x15 f1 f2 f3 f4 f5 f6 f7 f8 f9 f10 f11 h ++ wr) := by
  refine MUi hE (by decide) (Nat.le_of_ble_eq_true rfl) (fun pR eV sT mI below meth cd QQ ls X hH hl ret => ?_)
  obtain ⟨⟨hx, hb, hml, hown, hts⟩, ⟨hr, hlk⟩, -, -, -⟩ := id X
  have hl : lv_has ls 2 [(0, .ref (a 0))] := hl
  refine wgen (H := sT.heap) (locs := []) hH (fun H locs hH => ?_)
  refine lv_aload_n hx hb dX6_clearText_0 rfl (lv_at hl 0 rfl) ?_
  refine lv_iconst (v := nI 0) hx hb dX6_clearText_1 (by decide) ?_
  refine m_p5 X hH dX6_clearText_2 (fun H locs hH => ?_)
  refine lv_aload_n hx hb dX6_clearText_5 rfl (lv_at hl 0 rfl) ?_
  refine m_g7 X hH.mp dX6_clearText_6 ?_
  refine lv_istore_n (lv' := [(1, .int x7), (0, .ref (a 0))]) hx hb dX6_clearText_9 rfl hl (by decide) rfl (fun ls hl => ?_)
  refine lv_aload_n hx hb dX6_clearText_10 rfl (lv_at hl 1 rfl) ?_
  refine lv_iconst (v := nI 0) hx hb dX6_clearText_11 (by decide) ?_
  refine m_p7 X hH dX6_clearText_12 (fun H locs hH => ?_)
  refine lv_iload_n hx hb dX6_clearText_15 rfl (lv_at hl 0 rfl) ?_
  exact ret _ _ _ _ _ _ _ _ hH (⟨rfl, rfl⟩) (Nat.le_refl _) (Nat.le_refl _) dX6_clearText_16
/-- whether letters (m at most) and a semicolon stand at p; where the reading stops then -/
def lokB (T : Nat → Nat) (l p m : Nat) : Bool := decide (0 < clN T l p m) && atB T l (p + clN T l p m) 59 59
def lokP (T : Nat → Nat) (l p m : Nat) : Nat := p + clN T l p m + (if lokB T l p m then 1 else 0)
theorem hdv_X6_takesLetters : yX6_takesLetters.cls = RX6 ∧ yX6_takesLetters.cls ≠ "java/lang/invoke/MethodHandle" ∧ yX6_takesLetters.cls ≠ "java/lang/invoke/VarHandle" ∧ (parseMethodDescriptor yX6_takesLetters.desc).map (fun d => d.parameters.length) = some 3 := by decide +kernel
theorem c_X6_takesLetters (hE : EnvOK G E) {lN pN tN qN mN : Nat} (hT : tOk T lN f5) (hp : pN ≤ lN) (htq : tN < qN) (hq : qN + mN ≤ 195) (hm : mN ≤ 12) (h0 : f1 tN = nI 0) : MU vI l G E yX6_takesLetters cX6_takesLetters 5 (some .boolean) 3 0 0 [.ref (a 0), .int (nI tN), .int (nI qN), .int (nI mN)] (mw G a x4 x5 (nI lN) (nI pN) x11 x15 f1 f2 f3 f4 f5 f6 f7 f8 f9 f10 f11 h ++ wr) (fun r w => r = bI (lokB T lN pN mN) ∧ w = mw G a x4 x5 (nI lN) (nI (lokP T lN pN mN)) x11 x15 (ltR f1 T pN tN qN (clN T lN pN mN)) f2 f3 f4 f5 f6 f7 f8 f9 f10 f11 h ++ wr) := by
  refine MUz hE (by decide) (Nat.le_of_ble_eq_true rfl) (fun pR eV sT mI below meth cd QQ ls X hH hl ret => ?_)
  obtain ⟨⟨hx, hb, hml, hown, hts⟩, ⟨hr, hlk⟩, -, -, -⟩ := id X
  have hl : lv_has ls 5 [(0, .ref (a 0)), (1, .int (nI tN)), (2, .int (nI qN)), (3, .int (nI mN))] := hl
  refine wgen (H := sT.heap) (locs := []) hH (fun H locs hH => ?_)
  have hl150 := hT.1
  have hH := m_cg1 (g := ltR f1 T pN tN qN 0) (fun k hk => by unfold ltR; by_cases q1 : k = tN; exact (by rw [if_pos q1, q1, h0]); exact (by rw [if_neg q1, if_neg (by omega)])) hH
  have lp : ∀ (fu : Nat) (jN : Nat), jN ≤ mN → pN + jN ≤ lN → clN T lN pN mN = jN + clN T lN (pN + jN) (mN - jN) → mN - jN < fu → ∀ (H : Heap) (locs : List Loc), HH G sT (mw G a x4 x5 (nI lN) (nI (pN + jN)) x11 x15 (ltR f1 T pN tN qN jN) f2 f3 f4 f5 f6 f7 f8 f9 f10 f11 h ++ wr) H locs → ∀ ls : Array Slot, lv_has ls 5 [(0, .ref (a 0)), (1, .int (nI tN)), (2, .int (nI qN)), (3, .int (nI mN))] → W pR l eV (Rm 3 0 0) sT mI ([.ref (a 0), .int (nI tN), .int (nI qN), .int (nI mN)] : List Value).toArray below meth cd H locs 0 0 QQ (F0 mI 0 ls []) := by
    intro fu
    induction fu with
    | zero => intro jN hj hpl hc hm; exact absurd hm (Nat.not_lt_zero _)
    | succ fu ih_lp =>
      intro jN hj hpl hc hm H locs hH ls hl
      refine lv_aload_n hx hb dX6_takesLetters_0 rfl (lv_at hl 0 rfl) ?_
      refine lv_bipush (v := nI 97) hx hb dX6_takesLetters_1 (by decide) ?_
      refine lv_bipush (v := nI 122) hx hb dX6_takesLetters_3 (by decide) ?_
      refine m_R (c_X6_isAt (lN0 := 97) (hN0 := 122) (pN := pN + jN) hE hT (by omega) (by omega) (by omega)) X hH.2 hH.mp (lw_V q1547 q1549 qs26 q72 q1550) hdv_X6_isAt ⟨Nat.le_of_ble_eq_true rfl, Nat.le_of_ble_eq_true rfl⟩ ⟨Nat.le_refl _, Nat.le_refl _⟩ rfl hl.1 rfl (Nat.le_of_ble_eq_true rfl) dX6_takesLetters_5 ?_
      refine b_if_eq (tgt := 69) hx hb dX6_takesLetters_8 (by decide) (fun c1 => ?_) (fun c1 => ?_)
      · refine lv_aload_n hx hb dX6_takesLetters_69 rfl (lv_at hl 0 rfl) ?_
        refine m_g0 X hH.mp dX6_takesLetters_70 ?_
        refine lv_iload_n hx hb dX6_takesLetters_73 rfl (lv_at hl 1 rfl) ?_
        refine m_ld1 X hH.mp (by omega) dX6_takesLetters_74 ?_
        have hjc : jN = clN T lN pN mN := by rw [hc, clN_f c1]; rfl
        refine n_top (y := nI jN) (by unfold ltR; rw [if_pos rfl]) ?_
        refine lv_if_le (tgt := 93) hx hb dX6_takesLetters_75 (by decide) (fun c3 => ?_) (fun c3 => ?_)
        · have hj0 : jN = 0 := by rcases Nat.eq_zero_or_pos jN with q | q; exact q; exact absurd c3 (nI_nle q (by omega))
          refine lv_iconst (v := nI 0) hx hb dX6_takesLetters_93 (by decide) ?_
          refine lv_istore (lv' := [(4, .int (nI 0)), (0, .ref (a 0)), (1, .int (nI tN)), (2, .int (nI qN)), (3, .int (nI mN))]) hx hb dX6_takesLetters_94 hl (by decide) rfl (fun ls hl => ?_)
          refine lv_aload_n hx hb dX6_takesLetters_96 rfl (lv_at hl 1 rfl) ?_
          refine lv_dup hx hb dX6_takesLetters_97 rfl ?_
          refine m_g8 X hH.mp dX6_takesLetters_98 ?_
          refine lv_iload hx hb dX6_takesLetters_101 (lv_at hl 0 rfl) ?_
          refine lv_if_eq (tgt := 110) hx hb dX6_takesLetters_103 (by decide) (fun _ => ?_) (fun h => absurd rfl h)
          refine lv_iconst (v := nI 0) hx hb dX6_takesLetters_110 (by decide) ?_
          refine n_iadd hx hb dX6_takesLetters_111 ?_
          refine m_p8 X hH dX6_takesLetters_112 (fun H locs hH => ?_)
          refine lv_iload hx hb dX6_takesLetters_115 (lv_at hl 0 rfl) ?_
          exact ret _ _ _ _ _ _ _ _ hH (⟨by unfold lokB; rw [← hjc, hj0]; rfl, by unfold lokP lokB; rw [← hjc, hj0]; rfl⟩) (by decide) (Nat.le_refl _) (Nat.le_refl _) dX6_takesLetters_117
        · have hj0 : 0 < jN := by rcases Nat.eq_zero_or_pos jN with q | q; exact absurd (by rw [q]; decide) c3; exact q
          refine lv_aload_n hx hb dX6_takesLetters_78 rfl (lv_at hl 0 rfl) ?_
          refine lv_bipush (v := nI 59) hx hb dX6_takesLetters_79 (by decide) ?_
          refine lv_bipush (v := nI 59) hx hb dX6_takesLetters_81 (by decide) ?_
          refine m_R (c_X6_isAt (lN0 := 59) (hN0 := 59) (pN := pN + jN) hE hT (by omega) (by omega) (by omega)) X hH.2 hH.mp (lw_V q1547 q1549 qs26 q72 q1550) hdv_X6_isAt ⟨Nat.le_of_ble_eq_true rfl, Nat.le_of_ble_eq_true rfl⟩ ⟨Nat.le_refl _, Nat.le_refl _⟩ rfl hl.1 rfl (Nat.le_of_ble_eq_true rfl) dX6_takesLetters_83 ?_
          refine b_if_eq (tgt := 93) hx hb dX6_takesLetters_86 (by decide) (fun c4 => ?_) (fun c4 => ?_)
          · refine lv_iconst (v := nI 0) hx hb dX6_takesLetters_93 (by decide) ?_
            refine lv_istore (lv' := [(4, .int (nI 0)), (0, .ref (a 0)), (1, .int (nI tN)), (2, .int (nI qN)), (3, .int (nI mN))]) hx hb dX6_takesLetters_94 hl (by decide) rfl (fun ls hl => ?_)
            refine lv_aload_n hx hb dX6_takesLetters_96 rfl (lv_at hl 1 rfl) ?_
            refine lv_dup hx hb dX6_takesLetters_97 rfl ?_
            refine m_g8 X hH.mp dX6_takesLetters_98 ?_
            refine lv_iload hx hb dX6_takesLetters_101 (lv_at hl 0 rfl) ?_
            refine lv_if_eq (tgt := 110) hx hb dX6_takesLetters_103 (by decide) (fun _ => ?_) (fun h => absurd rfl h)
            refine lv_iconst (v := nI 0) hx hb dX6_takesLetters_110 (by decide) ?_
            refine n_iadd hx hb dX6_takesLetters_111 ?_
            refine m_p8 X hH dX6_takesLetters_112 (fun H locs hH => ?_)
            refine lv_iload hx hb dX6_takesLetters_115 (lv_at hl 0 rfl) ?_
            exact ret _ _ _ _ _ _ _ _ hH (⟨by unfold lokB; rw [← hjc, c4, Bool.and_false]; rfl, by unfold lokP lokB; rw [← hjc, c4, Bool.and_false]; rfl⟩) (by decide) (Nat.le_refl _) (Nat.le_refl _) dX6_takesLetters_117
          · refine lv_iconst (v := nI 1) hx hb dX6_takesLetters_89 (by decide) ?_
            refine lv_goto (tgt := 94) hx hb dX6_takesLetters_90 (by decide) ?_
            refine lv_istore (lv' := [(4, .int (nI 1)), (0, .ref (a 0)), (1, .int (nI tN)), (2, .int (nI qN)), (3, .int (nI mN))]) hx hb dX6_takesLetters_94 hl (by decide) rfl (fun ls hl => ?_)
            refine lv_aload_n hx hb dX6_takesLetters_96 rfl (lv_at hl 1 rfl) ?_
            refine lv_dup hx hb dX6_takesLetters_97 rfl ?_
            refine m_g8 X hH.mp dX6_takesLetters_98 ?_
            refine lv_iload hx hb dX6_takesLetters_101 (lv_at hl 0 rfl) ?_
            refine lv_if_eq (tgt := 110) hx hb dX6_takesLetters_103 (by decide) (fun h => absurd h (by decide)) (fun _ => ?_)
            refine lv_iconst (v := nI 1) hx hb dX6_takesLetters_106 (by decide) ?_
            refine lv_goto (tgt := 111) hx hb dX6_takesLetters_107 (by decide) ?_
            refine n_iadd hx hb dX6_takesLetters_111 ?_
            refine m_p8 X hH dX6_takesLetters_112 (fun H locs hH => ?_)
            refine lv_iload hx hb dX6_takesLetters_115 (lv_at hl 0 rfl) ?_
            exact ret _ _ _ _ _ _ _ _ hH (⟨by unfold lokB; rw [← hjc, c4, decide_eq_true hj0]; rfl, by unfold lokP lokB; rw [← hjc, c4, decide_eq_true hj0]; rfl⟩) (by decide) (Nat.le_refl _) (Nat.le_refl _) dX6_takesLetters_117
      · have hlt := atB_lt c1
        have hin := atB_in c1
        refine lv_aload_n hx hb dX6_takesLetters_11 rfl (lv_at hl 0 rfl) ?_
        refine m_g0 X hH.mp dX6_takesLetters_12 ?_
        refine lv_iload_n hx hb dX6_takesLetters_15 rfl (lv_at hl 1 rfl) ?_
        refine m_ld1 X hH.mp (by omega) dX6_takesLetters_16 ?_
        refine n_top (y := nI jN) (by unfold ltR; rw [if_pos rfl]) ?_
        refine lv_iload_n hx hb dX6_takesLetters_17 rfl (lv_at hl 3 rfl) ?_
        refine n_icmp_ge (tgt := 69) hx hb (by omega) (by omega) dX6_takesLetters_18 (by decide) (fun c2 => ?_) (fun c2 => ?_)
        · refine lv_aload_n hx hb dX6_takesLetters_69 rfl (lv_at hl 0 rfl) ?_
          refine m_g0 X hH.mp dX6_takesLetters_70 ?_
          refine lv_iload_n hx hb dX6_takesLetters_73 rfl (lv_at hl 1 rfl) ?_
          refine m_ld1 X hH.mp (by omega) dX6_takesLetters_74 ?_
          have hjc : jN = clN T lN pN mN := by rw [hc, show mN - jN = 0 by omega]; rfl
          refine n_top (y := nI jN) (by unfold ltR; rw [if_pos rfl]) ?_
          refine lv_if_le (tgt := 93) hx hb dX6_takesLetters_75 (by decide) (fun c3 => ?_) (fun c3 => ?_)
          · have hj0 : jN = 0 := by rcases Nat.eq_zero_or_pos jN with q | q; exact q; exact absurd c3 (nI_nle q (by omega))
            refine lv_iconst (v := nI 0) hx hb dX6_takesLetters_93 (by decide) ?_
            refine lv_istore (lv' := [(4, .int (nI 0)), (0, .ref (a 0)), (1, .int (nI tN)), (2, .int (nI qN)), (3, .int (nI mN))]) hx hb dX6_takesLetters_94 hl (by decide) rfl (fun ls hl => ?_)
            refine lv_aload_n hx hb dX6_takesLetters_96 rfl (lv_at hl 1 rfl) ?_
            refine lv_dup hx hb dX6_takesLetters_97 rfl ?_
            refine m_g8 X hH.mp dX6_takesLetters_98 ?_
            refine lv_iload hx hb dX6_takesLetters_101 (lv_at hl 0 rfl) ?_
            refine lv_if_eq (tgt := 110) hx hb dX6_takesLetters_103 (by decide) (fun _ => ?_) (fun h => absurd rfl h)
            refine lv_iconst (v := nI 0) hx hb dX6_takesLetters_110 (by decide) ?_
            refine n_iadd hx hb dX6_takesLetters_111 ?_
            refine m_p8 X hH dX6_takesLetters_112 (fun H locs hH => ?_)
            refine lv_iload hx hb dX6_takesLetters_115 (lv_at hl 0 rfl) ?_
            exact ret _ _ _ _ _ _ _ _ hH (⟨by unfold lokB; rw [← hjc, hj0]; rfl, by unfold lokP lokB; rw [← hjc, hj0]; rfl⟩) (by decide) (Nat.le_refl _) (Nat.le_refl _) dX6_takesLetters_117
          · have hj0 : 0 < jN := by rcases Nat.eq_zero_or_pos jN with q | q; exact absurd (by rw [q]; decide) c3; exact q
            refine lv_aload_n hx hb dX6_takesLetters_78 rfl (lv_at hl 0 rfl) ?_
            refine lv_bipush (v := nI 59) hx hb dX6_takesLetters_79 (by decide) ?_
            refine lv_bipush (v := nI 59) hx hb dX6_takesLetters_81 (by decide) ?_
            refine m_R (c_X6_isAt (lN0 := 59) (hN0 := 59) (pN := pN + jN) hE hT (by omega) (by omega) (by omega)) X hH.2 hH.mp (lw_V q1547 q1549 qs26 q72 q1550) hdv_X6_isAt ⟨Nat.le_of_ble_eq_true rfl, Nat.le_of_ble_eq_true rfl⟩ ⟨Nat.le_refl _, Nat.le_refl _⟩ rfl hl.1 rfl (Nat.le_of_ble_eq_true rfl) dX6_takesLetters_83 ?_
            refine b_if_eq (tgt := 93) hx hb dX6_takesLetters_86 (by decide) (fun c4 => ?_) (fun c4 => ?_)
            · refine lv_iconst (v := nI 0) hx hb dX6_takesLetters_93 (by decide) ?_
              refine lv_istore (lv' := [(4, .int (nI 0)), (0, .ref (a 0)), (1, .int (nI tN)), (2, .int (nI qN)), (3, .int (nI mN))]) hx hb dX6_takesLetters_94 hl (by decide) rfl (fun ls hl => ?_)
              refine lv_aload_n hx hb dX6_takesLetters_96 rfl (lv_at hl 1 rfl) ?_
              refine lv_dup hx hb dX6_takesLetters_97 rfl ?_
              refine m_g8 X hH.mp dX6_takesLetters_98 ?_
              refine lv_iload hx hb dX6_takesLetters_101 (lv_at hl 0 rfl) ?_
              refine lv_if_eq (tgt := 110) hx hb dX6_takesLetters_103 (by decide) (fun _ => ?_) (fun h => absurd rfl h)
              refine lv_iconst (v := nI 0) hx hb dX6_takesLetters_110 (by decide) ?_
              refine n_iadd hx hb dX6_takesLetters_111 ?_
              refine m_p8 X hH dX6_takesLetters_112 (fun H locs hH => ?_)
              refine lv_iload hx hb dX6_takesLetters_115 (lv_at hl 0 rfl) ?_
              exact ret _ _ _ _ _ _ _ _ hH (⟨by unfold lokB; rw [← hjc, c4, Bool.and_false]; rfl, by unfold lokP lokB; rw [← hjc, c4, Bool.and_false]; rfl⟩) (by decide) (Nat.le_refl _) (Nat.le_refl _) dX6_takesLetters_117
            · refine lv_iconst (v := nI 1) hx hb dX6_takesLetters_89 (by decide) ?_
              refine lv_goto (tgt := 94) hx hb dX6_takesLetters_90 (by decide) ?_
              refine lv_istore (lv' := [(4, .int (nI 1)), (0, .ref (a 0)), (1, .int (nI tN)), (2, .int (nI qN)), (3, .int (nI mN))]) hx hb dX6_takesLetters_94 hl (by decide) rfl (fun ls hl => ?_)
              refine lv_aload_n hx hb dX6_takesLetters_96 rfl (lv_at hl 1 rfl) ?_
              refine lv_dup hx hb dX6_takesLetters_97 rfl ?_
              refine m_g8 X hH.mp dX6_takesLetters_98 ?_
              refine lv_iload hx hb dX6_takesLetters_101 (lv_at hl 0 rfl) ?_
              refine lv_if_eq (tgt := 110) hx hb dX6_takesLetters_103 (by decide) (fun h => absurd h (by decide)) (fun _ => ?_)
              refine lv_iconst (v := nI 1) hx hb dX6_takesLetters_106 (by decide) ?_
              refine lv_goto (tgt := 111) hx hb dX6_takesLetters_107 (by decide) ?_
              refine n_iadd hx hb dX6_takesLetters_111 ?_
              refine m_p8 X hH dX6_takesLetters_112 (fun H locs hH => ?_)
              refine lv_iload hx hb dX6_takesLetters_115 (lv_at hl 0 rfl) ?_
              exact ret _ _ _ _ _ _ _ _ hH (⟨by unfold lokB; rw [← hjc, c4, decide_eq_true hj0]; rfl, by unfold lokP lokB; rw [← hjc, c4, decide_eq_true hj0]; rfl⟩) (by decide) (Nat.le_refl _) (Nat.le_refl _) dX6_takesLetters_117
        · refine lv_aload_n hx hb dX6_takesLetters_21 rfl (lv_at hl 0 rfl) ?_
          refine m_g0 X hH.mp dX6_takesLetters_22 ?_
          refine lv_iload_n hx hb dX6_takesLetters_25 rfl (lv_at hl 2 rfl) ?_
          refine lv_aload_n hx hb dX6_takesLetters_26 rfl (lv_at hl 0 rfl) ?_
          refine m_g0 X hH.mp dX6_takesLetters_27 ?_
          refine lv_iload_n hx hb dX6_takesLetters_30 rfl (lv_at hl 1 rfl) ?_
          refine m_ld1 X hH.mp (by omega) dX6_takesLetters_31 ?_
          refine n_top (y := nI jN) (by unfold ltR; rw [if_pos rfl]) ?_
          refine n_iadd hx hb dX6_takesLetters_32 ?_
          refine lv_aload_n hx hb dX6_takesLetters_33 rfl (lv_at hl 0 rfl) ?_
          refine m_g6 X hH.mp dX6_takesLetters_34 ?_
          refine lv_aload_n hx hb dX6_takesLetters_37 rfl (lv_at hl 0 rfl) ?_
          refine m_g8 X hH.mp dX6_takesLetters_38 ?_
          refine m_ld5 X hH.mp (by omega) dX6_takesLetters_41 ?_
          refine n_top (y := nI (T (pN + jN))) ((hT.2 _ hlt).1) ?_
          refine lv_bipush (v := nI 97) hx hb dX6_takesLetters_42 (by decide) ?_
          refine n_isub hx hb (by omega) dX6_takesLetters_44 ?_
          refine m_st1 X hH (by omega) dX6_takesLetters_45 (fun f1_1 H locs ef1_1 hH => ?_)
          refine lv_aload_n hx hb dX6_takesLetters_46 rfl (lv_at hl 0 rfl) ?_
          refine m_g0 X hH.mp dX6_takesLetters_47 ?_
          refine lv_iload_n hx hb dX6_takesLetters_50 rfl (lv_at hl 1 rfl) ?_
          refine lv_dup2_11 hx hb dX6_takesLetters_51 rfl rfl ?_
          refine m_ld1 X hH.mp (by omega) dX6_takesLetters_52 ?_
          refine n_top (y := nI jN) (by rw [ef1_1, pk_un (by omega)]; unfold ltR; rw [if_pos rfl]) ?_
          refine lv_iconst (v := nI 1) hx hb dX6_takesLetters_53 (by decide) ?_
          refine n_iadd hx hb dX6_takesLetters_54 ?_
          refine m_st1 X hH (by omega) dX6_takesLetters_55 (fun f1_2 H locs ef1_2 hH => ?_)
          refine lv_aload_n hx hb dX6_takesLetters_56 rfl (lv_at hl 0 rfl) ?_
          refine lv_dup hx hb dX6_takesLetters_57 rfl ?_
          refine m_g8 X hH.mp dX6_takesLetters_58 ?_
          refine lv_iconst (v := nI 1) hx hb dX6_takesLetters_61 (by decide) ?_
          refine n_iadd hx hb dX6_takesLetters_62 ?_
          refine m_p8 X hH dX6_takesLetters_63 (fun H locs hH => ?_)
          refine lv_goto (tgt := 0) hx hb dX6_takesLetters_66 (by decide) ?_
          have hH := m_cg1 (g := ltR f1 T pN tN qN (jN + 1)) (fun k hk => by rw [ef1_2, ef1_1]; unfold ltR; by_cases q1 : k = tN; exact (by rw [q1, pk_us, if_pos rfl]); exact (by rw [pk_un q1, if_neg q1]; by_cases q2 : k = qN + jN; exact (by rw [q2, pk_us, if_pos (by omega), show pN + (qN + jN - qN) = pN + jN by omega]); exact (by rw [pk_un q2, if_neg q1]; by_cases q3 : qN ≤ k ∧ k < qN + jN; exact (by rw [if_pos q3, if_pos (by omega)]); exact (by rw [if_neg q3, if_neg (by omega)])))) hH
          exact ih_lp (jN + 1)  (by omega) (by omega) (by rw [hc]; obtain ⟨z, hz⟩ : ∃ z, mN - jN = z + 1 := ⟨mN - jN - 1, by omega⟩; rw [hz, clN, c1, show mN - (jN + 1) = z by omega, show pN + (jN + 1) = pN + jN + 1 by omega]; simp only [if_true]; omega) (by omega) _ _ hH ls (lv_sub hl [0, 1, 2, 3] rfl)
  exact lp _ 0  (Nat.zero_le _) (hp) (by rw [Nat.zero_add]; rfl) (Nat.lt_succ_self _) _ _ hH ls (lv_sub hl [0, 1, 2, 3] rfl)
end
