/-! MODEL, methods 13: order, best cut, digest -/
def lesI (R : Nat → Int32) (w f n : Nat) : Int32 := nI (apN R (frM R) (nW R)) - nI (apN (comR R w f n) (frM (comR R w f n)) (nW (comR R w f n)))
def stepP (R : Nat → Int32) (w f n : Nat) (b : Nat → Int32) : Nat → Int32 := if b 3 < lesI R w f n then upd (upd (upd (upd b 0 (nI w)) 1 (nI f)) 2 (nI n)) 3 (lesI R w f n) else b
def bp1 (R : Nat → Int32) (w f : Nat) (b : Nat → Int32) : Nat → Nat → Int32
  | 0 => b
  | j + 1 => stepP R w f (j + 1) (bp1 R w f b j)
def bp2 (R : Nat → Int32) (w most : Nat) (b : Nat → Int32) : Nat → Nat → Int32
  | 0 => b
  | f + 1 => bp1 R w f (bp2 R w most b f) (min most (wL R w - f))
def bp3 (R : Nat → Int32) (most : Nat) (b : Nat → Int32) : Nat → Nat → Int32
  | 0 => b
  | w + 1 => bp2 R w most (bp3 R most b w) (wL R w)
def prtI (R : Nat → Int32) (most : Nat) (b : Nat → Int32) (q : Nat) : Int32 := if nW R = 0 ∨ nS R = 10 then -1 else bp3 R most (upd b 3 (-1)) (nW R) q
theorem prtB_n {R : Nat → Int32} (hR : ROk R) {w f n : Nat} (hw : w < nW R) (hf : f < wL R w) (h1 : 1 ≤ n) (h5 : n ≤ 5) : prtB R w (nI f) (nI n) = decide (n ≤ wL R w - f) := by
  have hL := (hR.wl1 hw).2
  unfold prtB
  rw [pk_sub (show 1 ≤ wL R w by omega), pk_sub (show f ≤ wL R w by omega), rgB_n (by decide) (by omega) (by omega), rgB_n (by decide) (by decide) (by omega), decide_eq_true (Nat.zero_le _), decide_eq_true (show f ≤ wL R w - 1 by omega), decide_eq_true h1, decide_eq_true h5]
  simp only [Bool.true_and]
  exact decide_eq_decide.mpr (nI_leI (by omega) (by omega))
theorem comR_out {R : Nat → Int32} {w f n k : Nat} (h0 : k ≠ 0) (hn : n ≤ 5) (h : k < 7 + 9 * nS R ∨ 7 + 9 * nS R + 9 ≤ k) : comR R w f n k = R k := by
  unfold comR
  rw [if_neg h0, if_neg (by omega), if_neg (by omega)]
  unfold clrR
  rw [if_neg (by omega), if_neg (by omega)]
theorem comR_n {R : Nat → Int32} (hR : ROk R) {w f n : Nat} (hn : n ≤ 5) : nS (comR R w f n) = nS R + 1 ∧ nW (comR R w f n) = nW R := by
  have h10 := hR.s1
  exact ⟨rn_of (by unfold comR; rw [if_pos rfl]) (by omega), rn_congr (comR_out (by decide) hn (by omega))⟩
theorem comR_ok {R : Nat → Int32} (hR : ROk R) {w f n : Nat} (hw : w < nW R) (hs : nS R < 10) (hf : f + n ≤ wL R w) (h1 : 1 ≤ n) (hn : n ≤ 5) : ROk (comR R w f n) := by
  obtain ⟨e0, e1⟩ := comR_n hR (w := w) (f := f) hn
  have h10 := hR.s1
  refine ⟨isN_of (n := nS R + 1) (by unfold comR; rw [if_pos rfl]) (by omega) (by decide), isN_congr (comR_out (by decide) hn (by omega)) hR.2.1, ?_, ?_, ⟨isN_congr (comR_out (by decide) hn (by omega)) hR.2.2.2.2.1.1, by rw [rn_congr (comR_out (by decide) hn (by omega))]; exact hR.2.2.2.2.1.2⟩, ⟨isN_congr (comR_out (by decide) hn (by omega)) hR.2.2.2.2.2.1, by rw [rn_congr (comR_out (by decide) hn (by omega))]; exact hR.2.2.2.2.2.2⟩⟩
  · intro s h
    rw [e0] at h
    rcases Nat.lt_or_ge s (nS R) with q | q
    · obtain ⟨a1, a2, a3⟩ := hR.2.2.1 s q
      have hl5 := (hR.sl1 q).2
      have el : sL (comR R w f n) s = sL R s := rn_congr (comR_out (by omega) hn (by omega))
      refine ⟨isN_congr (comR_out (by omega) hn (by omega)) a1, by rw [el]; exact a2, fun k hk => ?_⟩
      rw [el] at hk
      exact isN_congr (comR_out (by omega) hn (by omega)) (a3 k hk)
    · have : s = nS R := by omega
      subst this
      have ev : comR R w f n (7 + 9 * nS R) = nI n := by unfold comR; rw [if_neg (by omega), if_pos rfl]
      have el : sL (comR R w f n) (nS R) = n := rn_of ev (by omega)
      refine ⟨isN_of ev (by omega) (by decide), by rw [el]; exact h1, fun k hk => ?_⟩
      rw [el] at hk
      have ek : comR R w f n (7 + 9 * nS R + 1 + k) = R (97 + 14 * w + 2 + (f + k)) := by
        unfold comR
        rw [if_neg (by omega), if_neg (by omega), if_pos (by omega), show 97 + 14 * w + 2 + f + (7 + 9 * nS R + 1 + k - (7 + 9 * nS R + 1)) = 97 + 14 * w + 2 + (f + k) by omega]
      have hc := hR.wc hw (k := f + k) (by omega)
      exact isN_of (ek.trans hc) (hR.wc1 hw (by omega)) (by decide)
  · intro w' h
    rw [e1] at h
    have h7 := hR.w1
    obtain ⟨a1, a2, a3, a4⟩ := hR.2.2.2.1 w' h
    have hl12 := (hR.wl1 h).2
    have el : wL (comR R w f n) w' = wL R w' := rn_congr (comR_out (by omega) hn (by omega))
    refine ⟨isN_congr (comR_out (by omega) hn (by omega)) a1, by rw [el]; exact a2, fun k hk => ?_, isN_congr (comR_out (by omega) hn (by omega)) a4⟩
    rw [el] at hk
    exact isN_congr (comR_out (by omega) hn (by omega)) (a3 k hk)
def mixJ (h : Int64) (x : Int32) : Int64 := 31 * h + x.toInt64
def mxW (R : Nat → Int32) (w : Nat) (h : Int64) : Nat → Int64
  | 0 => h
  | q + 1 => mixJ (mxW R w h q) (twI R w q)
def mxL (R : Nat → Int32) (t : Nat) (h : Int64) : Nat → Int64
  | 0 => h
  | k + 1 => mixJ (mxL R t h k) (R (t + k))
def mxP (R : Nat → Int32) (w : Nat) (h : Int64) : Nat → Int64
  | 0 => h
  | i + 1 => mixJ (mxP R w h i) (nI (plP R w (frM R) i))
def mwJ (R : Nat → Int32) (w : Nat) (h : Int64) : Int64 := mxP R w (mxL R (97 + 14 * w + 2) (mxW R w h 6) (wL R w)) (pmN R w (frM R))
def mxV (R : Nat → Int32) (h : Int64) : Nat → Int64
  | 0 => h
  | q + 1 => mixJ (mxV R h q) (tvI R q)
def mxS (R : Nat → Int32) (s : Nat) (h : Int64) : Nat → Int64
  | 0 => h
  | q + 1 => mixJ (mxS R s h q) (tsI R s q)
def mxSt (R : Nat → Int32) (h : Int64) : Nat → Int64
  | 0 => h
  | s + 1 => mxL R (7 + 9 * s + 1) (mxS R s (mxSt R h s) 6) (sL R s)
def mxWd (R : Nat → Int32) (h : Int64) : Nat → Int64
  | 0 => h
  | w + 1 => mwJ R w (mxWd R h w)
def digJ (R : Nat → Int32) (l n : Int32) : Int64 := mixJ (mixJ (mxWd R (mxSt R (mxV R (mixJ 3389 l) 9) (nS R)) (nW R)) (smlI R)) n
section
variable {l : Launch} {G : GG} {E : State → Prop} {a : Nat → Nat} {x4 x5 x7 x8 x11 x15 : Int32} {f1 f2 f3 f4 f5 f6 f7 f8 f9 f10 f11 : Nat → Int32} {h : Int64} {wr : va_W}
theorem hdv_X6_order : yX6_order.cls = RX6 ∧ yX6_order.cls ≠ "java/lang/invoke/MethodHandle" ∧ yX6_order.cls ≠ "java/lang/invoke/VarHandle" ∧ (parseMethodDescriptor yX6_order.desc).map (fun d => d.parameters.length) = some 1 := by decide +kernel
theorem c_X6_order_1 (hE : EnvOK G E) {x : Int32} (hR : ROk f1) (hB : idB x (nW f1) = false) : MU vI l G E yX6_order cX6_order 2 (some .int) 8 0 0 [.ref (a 0), .int x] (mw G a x4 x5 x7 x8 x11 x15 f1 f2 f3 f4 f5 f6 f7 f8 f9 f10 f11 h ++ wr) (fun r w => r = nI 0 ∧ w = mw G a x4 (nI 1) x7 x8 x11 x15 f1 f2 f3 f4 f5 f6 f7 f8 f9 f10 f11 h ++ wr) := by
  refine MUi hE (by decide) (Nat.le_of_ble_eq_true rfl) (fun pR eV sT mI below meth cd QQ ls X hH hl ret => ?_)
  obtain ⟨⟨hx, hb, hml, hown, hts⟩, ⟨hr, hlk⟩, -, -, -⟩ := id X
  have hl : lv_has ls 2 [(0, .ref (a 0)), (1, .int x)] := hl
  refine wgen (H := sT.heap) (locs := []) hH (fun H locs hH => ?_)
  have hm7 := hR.w1
  refine lv_aload_n hx hb dX6_order_0 rfl (lv_at hl 0 rfl) ?_
  refine lv_aload_n hx hb dX6_order_1 rfl (lv_at hl 0 rfl) ?_
  refine lv_iload_n hx hb dX6_order_2 rfl (lv_at hl 1 rfl) ?_
  refine m_R (c_X6_isWord hE hR) X hH.2 hH.mp (lw_V q1577 q1579 qs31 q72 q1580) hdv_X6_isWord ⟨Nat.le_of_ble_eq_true rfl, Nat.le_of_ble_eq_true rfl⟩ ⟨Nat.le_refl _, Nat.le_refl _⟩ rfl hl.1 rfl (Nat.le_of_ble_eq_true rfl) dX6_order_3 ?_
  refine n_top (y := nI 0) (by rw [hB]; rfl) ?_
  refine lv_if_ne (tgt := 13) hx hb dX6_order_6 (by decide) (fun h => absurd rfl h) (fun _ => ?_)
  refine lv_iconst (v := nI 1) hx hb dX6_order_9 (by decide) ?_
  refine lv_goto (tgt := 25) hx hb dX6_order_10 (by decide) ?_
  refine m_Mi (c_X6_refused (cN := 1) hE (by omega)) X hH (lw_V q1520 q1522 qs23 q72 q1523) hdv_X6_refused ⟨Nat.le_of_ble_eq_true rfl, Nat.le_of_ble_eq_true rfl⟩ ⟨Nat.le_refl _, Nat.le_refl _⟩ rfl hl.1 rfl (Nat.le_of_ble_eq_true rfl) dX6_order_25 (fun r w H locs hq hH => ?_)
  obtain ⟨rfl, rfl⟩ := hq
  refine n_top (y := bI true) (rfl) ?_
  refine n_top (y := nI 1) (rfl) ?_
  refine lv_if_eq (tgt := 33) hx hb dX6_order_28 (by decide) (fun h => absurd h (by decide)) (fun _ => ?_)
  refine lv_iconst (v := nI 0) hx hb dX6_order_31 (by decide) ?_
  exact ret _ _ _ _ _ _ _ _ hH (⟨rfl, rfl⟩) (Nat.le_refl _) (Nat.le_refl _) dX6_order_32
theorem c_X6_order_2 (hE : EnvOK G E) {wN : Nat} (hR : ROk f1) (hw : wN < nW f1) (hB : (ordA f1).1 = -1) : MU vI l G E yX6_order cX6_order 2 (some .int) 8 0 0 [.ref (a 0), .int (nI wN)] (mw G a x4 x5 x7 x8 x11 x15 f1 f2 f3 f4 f5 f6 f7 f8 f9 f10 f11 h ++ wr) (fun r w => ∃ z11 g3 g4 g6 g7 g8 g9 g10, r = nI 0 ∧ w = mw G a x4 (nI 2) x7 x8 z11 ((ordA f1).1) f1 f2 g3 g4 f5 g6 g7 g8 g9 g10 f11 h ++ wr) := by
  refine MUi hE (by decide) (Nat.le_of_ble_eq_true rfl) (fun pR eV sT mI below meth cd QQ ls X hH hl ret => ?_)
  obtain ⟨⟨hx, hb, hml, hown, hts⟩, ⟨hr, hlk⟩, -, -, -⟩ := id X
  have hl : lv_has ls 2 [(0, .ref (a 0)), (1, .int (nI wN))] := hl
  refine wgen (H := sT.heap) (locs := []) hH (fun H locs hH => ?_)
  have hm7 := hR.w1
  refine lv_aload_n hx hb dX6_order_0 rfl (lv_at hl 0 rfl) ?_
  refine lv_aload_n hx hb dX6_order_1 rfl (lv_at hl 0 rfl) ?_
  refine lv_iload_n hx hb dX6_order_2 rfl (lv_at hl 1 rfl) ?_
  refine m_R (c_X6_isWord hE hR) X hH.2 hH.mp (lw_V q1577 q1579 qs31 q72 q1580) hdv_X6_isWord ⟨Nat.le_of_ble_eq_true rfl, Nat.le_of_ble_eq_true rfl⟩ ⟨Nat.le_refl _, Nat.le_refl _⟩ rfl hl.1 rfl (Nat.le_of_ble_eq_true rfl) dX6_order_3 ?_
  refine n_top (y := nI 1) (by rw [idB_t hw (by omega)]; rfl) ?_
  refine lv_if_ne (tgt := 13) hx hb dX6_order_6 (by decide) (fun _ => ?_) (fun h => absurd h (by decide))
  refine lv_aload_n hx hb dX6_order_13 rfl (lv_at hl 0 rfl) ?_
  refine m_Mi (c_X6_orders hE hR) X hH (lw_V q1735 q1737 qs53 q72 q1738) hdv_X6_orders ⟨Nat.le_of_ble_eq_true rfl, Nat.le_of_ble_eq_true rfl⟩ ⟨Nat.le_refl _, Nat.le_refl _⟩ rfl hl.1 rfl (Nat.le_of_ble_eq_true rfl) dX6_order_14 (fun r w H locs hq hH => ?_)
  obtain ⟨z11, g3, g4, g6, g7, g8, g9, g10, h10, rfl, rfl⟩ := hq
  refine n_top (y := nI 0) (by rw [decide_eq_false (fun z => z hB)]; rfl) ?_
  refine lv_if_eq (tgt := 24) hx hb dX6_order_17 (by decide) (fun _ => ?_) (fun h => absurd rfl h)
  refine lv_iconst (v := nI 2) hx hb dX6_order_24 (by decide) ?_
  refine m_Mi (c_X6_refused (cN := 2) hE (by omega)) X hH (lw_V q1520 q1522 qs23 q72 q1523) hdv_X6_refused ⟨Nat.le_of_ble_eq_true rfl, Nat.le_of_ble_eq_true rfl⟩ ⟨Nat.le_refl _, Nat.le_refl _⟩ rfl hl.1 rfl (Nat.le_of_ble_eq_true rfl) dX6_order_25 (fun r w H locs hq hH => ?_)
  obtain ⟨rfl, rfl⟩ := hq
  refine n_top (y := bI true) (rfl) ?_
  refine n_top (y := nI 1) (rfl) ?_
  refine lv_if_eq (tgt := 33) hx hb dX6_order_28 (by decide) (fun h => absurd h (by decide)) (fun _ => ?_)
  refine lv_iconst (v := nI 0) hx hb dX6_order_31 (by decide) ?_
  exact ret _ _ _ _ _ _ _ _ hH (⟨_, _, _, _, _, _, _, _, rfl, rfl⟩) (Nat.le_refl _) (Nat.le_refl _) dX6_order_32
theorem c_X6_order_0 (hE : EnvOK G E) {wN : Nat} (hR : ROk f1) (hw : wN < nW f1) (hB : (ordA f1).1 ≠ -1) : MU vI l G E yX6_order cX6_order 2 (some .int) 8 0 0 [.ref (a 0), .int (nI wN)] (mw G a x4 x5 x7 x8 x11 x15 f1 f2 f3 f4 f5 f6 f7 f8 f9 f10 f11 h ++ wr) (fun r w => ∃ z11 g3 g4 g6 g7 g8 g9 g10, r = nI ((ordA f1).2 wN) ∧ w = mw G a x4 (nI 0) x7 x8 z11 ((ordA f1).1) f1 f2 g3 g4 f5 g6 g7 g8 g9 g10 f11 h ++ wr) := by
  refine MUi hE (by decide) (Nat.le_of_ble_eq_true rfl) (fun pR eV sT mI below meth cd QQ ls X hH hl ret => ?_)
  obtain ⟨⟨hx, hb, hml, hown, hts⟩, ⟨hr, hlk⟩, -, -, -⟩ := id X
  have hl : lv_has ls 2 [(0, .ref (a 0)), (1, .int (nI wN))] := hl
  refine wgen (H := sT.heap) (locs := []) hH (fun H locs hH => ?_)
  have hm7 := hR.w1
  refine lv_aload_n hx hb dX6_order_0 rfl (lv_at hl 0 rfl) ?_
  refine lv_aload_n hx hb dX6_order_1 rfl (lv_at hl 0 rfl) ?_
  refine lv_iload_n hx hb dX6_order_2 rfl (lv_at hl 1 rfl) ?_
  refine m_R (c_X6_isWord hE hR) X hH.2 hH.mp (lw_V q1577 q1579 qs31 q72 q1580) hdv_X6_isWord ⟨Nat.le_of_ble_eq_true rfl, Nat.le_of_ble_eq_true rfl⟩ ⟨Nat.le_refl _, Nat.le_refl _⟩ rfl hl.1 rfl (Nat.le_of_ble_eq_true rfl) dX6_order_3 ?_
  refine n_top (y := nI 1) (by rw [idB_t hw (by omega)]; rfl) ?_
  refine lv_if_ne (tgt := 13) hx hb dX6_order_6 (by decide) (fun _ => ?_) (fun h => absurd h (by decide))
  refine lv_aload_n hx hb dX6_order_13 rfl (lv_at hl 0 rfl) ?_
  refine m_Mi (c_X6_orders hE hR) X hH (lw_V q1735 q1737 qs53 q72 q1738) hdv_X6_orders ⟨Nat.le_of_ble_eq_true rfl, Nat.le_of_ble_eq_true rfl⟩ ⟨Nat.le_refl _, Nat.le_refl _⟩ rfl hl.1 rfl (Nat.le_of_ble_eq_true rfl) dX6_order_14 (fun r w H locs hq hH => ?_)
  obtain ⟨z11, g3, g4, g6, g7, g8, g9, g10, h10, rfl, rfl⟩ := hq
  refine n_top (y := nI 1) (by rw [decide_eq_true hB]; rfl) ?_
  refine lv_if_eq (tgt := 24) hx hb dX6_order_17 (by decide) (fun h => absurd h (by decide)) (fun _ => ?_)
  refine lv_iconst (v := nI 0) hx hb dX6_order_20 (by decide) ?_
  refine lv_goto (tgt := 25) hx hb dX6_order_21 (by decide) ?_
  refine m_Mi (c_X6_refused (cN := 0) hE (by omega)) X hH (lw_V q1520 q1522 qs23 q72 q1523) hdv_X6_refused ⟨Nat.le_of_ble_eq_true rfl, Nat.le_of_ble_eq_true rfl⟩ ⟨Nat.le_refl _, Nat.le_refl _⟩ rfl hl.1 rfl (Nat.le_of_ble_eq_true rfl) dX6_order_25 (fun r w H locs hq hH => ?_)
  obtain ⟨rfl, rfl⟩ := hq
  refine n_top (y := bI false) (rfl) ?_
  refine n_top (y := nI 0) (rfl) ?_
  refine lv_if_eq (tgt := 33) hx hb dX6_order_28 (by decide) (fun _ => ?_) (fun h => absurd rfl h)
  refine lv_aload_n hx hb dX6_order_33 rfl (lv_at hl 0 rfl) ?_
  refine m_g14 X hH.mp dX6_order_34 ?_
  refine lv_iload_n hx hb dX6_order_37 rfl (lv_at hl 1 rfl) ?_
  refine m_ld10 X hH.mp (by omega) dX6_order_38 ?_
  refine n_top (y := nI ((ordA f1).2 wN)) (h10 hB wN hw) ?_
  exact ret _ _ _ _ _ _ _ _ hH (⟨_, _, _, _, _, _, _, _, rfl, rfl⟩) (Nat.le_refl _) (Nat.le_refl _) dX6_order_39
theorem hdv_X6_leastCleanings : yX6_leastCleanings.cls = RX6 ∧ yX6_leastCleanings.cls ≠ "java/lang/invoke/MethodHandle" ∧ yX6_leastCleanings.cls ≠ "java/lang/invoke/VarHandle" ∧ (parseMethodDescriptor yX6_leastCleanings.desc).map (fun d => d.parameters.length) = some 0 := by decide +kernel
theorem c_X6_leastCleanings (hE : EnvOK G E) (hR : ROk f1) : MU vI l G E yX6_leastCleanings cX6_leastCleanings 1 (some .int) 8 0 0 [.ref (a 0)] (mw G a x4 x5 x7 x8 x11 x15 f1 f2 f3 f4 f5 f6 f7 f8 f9 f10 f11 h ++ wr) (fun r w => ∃ z11 g3 g4 g6 g7 g8 g9 g10, r = (ordA f1).1 ∧ w = mw G a x4 (nI 0) x7 x8 z11 ((ordA f1).1) f1 f2 g3 g4 f5 g6 g7 g8 g9 g10 f11 h ++ wr) := by
  refine MUi hE (by decide) (Nat.le_of_ble_eq_true rfl) (fun pR eV sT mI below meth cd QQ ls X hH hl ret => ?_)
  obtain ⟨⟨hx, hb, hml, hown, hts⟩, ⟨hr, hlk⟩, -, -, -⟩ := id X
  have hl : lv_has ls 1 [(0, .ref (a 0))] := hl
  refine wgen (H := sT.heap) (locs := []) hH (fun H locs hH => ?_)
  refine lv_aload_n hx hb dX6_leastCleanings_0 rfl (lv_at hl 0 rfl) ?_
  refine lv_iconst (v := nI 0) hx hb dX6_leastCleanings_1 (by decide) ?_
  refine m_p5 X hH dX6_leastCleanings_2 (fun H locs hH => ?_)
  refine lv_aload_n hx hb dX6_leastCleanings_5 rfl (lv_at hl 0 rfl) ?_
  refine m_Mi (c_X6_orders hE hR) X hH (lw_V q1735 q1737 qs53 q72 q1738) hdv_X6_orders ⟨Nat.le_of_ble_eq_true rfl, Nat.le_of_ble_eq_true rfl⟩ ⟨Nat.le_refl _, Nat.le_refl _⟩ rfl hl.1 rfl (Nat.le_of_ble_eq_true rfl) dX6_leastCleanings_6 (fun r w H locs hq hH => ?_)
  obtain ⟨z11, g3, g4, g6, g7, g8, g9, g10, -, rfl, rfl⟩ := hq
  refine b_if_eq (tgt := 19) hx hb dX6_leastCleanings_9 (by decide) (fun c1 => ?_) (fun c1 => ?_)
  · refine lv_iconst (v := (-1)) hx hb dX6_leastCleanings_19 (by decide) ?_
    exact ret _ _ _ _ _ _ _ _ hH (⟨_, _, _, _, _, _, _, _, by have q := of_decide_eq_false c1; exact (Classical.not_not.mp q).symm, rfl⟩) (Nat.le_refl _) (Nat.le_refl _) dX6_leastCleanings_20
  · refine lv_aload_n hx hb dX6_leastCleanings_12 rfl (lv_at hl 0 rfl) ?_
    refine m_g15 X hH.mp dX6_leastCleanings_13 ?_
    refine lv_goto (tgt := 20) hx hb dX6_leastCleanings_16 (by decide) ?_
    exact ret _ _ _ _ _ _ _ _ hH (⟨_, _, _, _, _, _, _, _, rfl, rfl⟩) (Nat.le_refl _) (Nat.le_refl _) dX6_leastCleanings_20
theorem hdv_X6_part : yX6_part.cls = RX6 ∧ yX6_part.cls ≠ "java/lang/invoke/MethodHandle" ∧ yX6_part.cls ≠ "java/lang/invoke/VarHandle" ∧ (parseMethodDescriptor yX6_part.desc).map (fun d => d.parameters.length) = some 2 := by decide +kernel
theorem c_X6_part (hE : EnvOK G E) {qN mN : Nat} (hR : ROk f1) (hq : qN ≤ 3) (hm1 : 1 ≤ mN) (hm5 : mN ≤ 5) : MU vI l G E yX6_part cX6_part 9 (some .int) 6 0 0 [.ref (a 0), .int (nI qN), .int (nI mN)] (mw G a x4 x5 x7 x8 x11 x15 f1 f2 f3 f4 f5 f6 f7 f8 f9 f10 f11 h ++ wr) (fun r w => ∃ g3 g6 g11, r = prtI f1 mN f11 qN ∧ w = mw G a x4 x5 x7 x8 x11 x15 f1 f2 g3 f4 f5 g6 f7 f8 f9 f10 g11 h ++ wr) := by
  refine MUi hE (by decide) (Nat.le_of_ble_eq_true rfl) (fun pR eV sT mI below meth cd QQ ls X hH hl ret => ?_)
  obtain ⟨⟨hx, hb, hml, hown, hts⟩, ⟨hr, hlk⟩, -, -, -⟩ := id X
  have hl : lv_has ls 9 [(0, .ref (a 0)), (1, .int (nI qN)), (2, .int (nI mN))] := hl
  refine wgen (H := sT.heap) (locs := []) hH (fun H locs hH => ?_)
  have hm := hR.s1
  have hm7 := hR.w1
  refine lv_aload_n hx hb dX6_part_0 rfl (lv_at hl 0 rfl) ?_
  refine m_g0 X hH.mp dX6_part_1 ?_
  refine lv_iconst (v := nI 1) hx hb dX6_part_4 (by decide) ?_
  refine m_ld1 X hH.mp (by omega) dX6_part_5 ?_
  refine n_top (y := nI (nW f1)) (hR.w0) ?_
  refine lv_if_eq (tgt := 20) hx hb dX6_part_6 (by decide) (fun c0 => ?_) (fun c0 => ?_)
  · refine lv_iconst (v := (-1)) hx hb dX6_part_20 (by decide) ?_
    exact ret _ _ _ _ _ _ _ _ hH (⟨f3, f6, f11, by unfold prtI; rw [if_pos (Or.inl ((nI_eq (by omega) (by decide)).mp c0))], rfl⟩) (Nat.le_refl _) (Nat.le_refl _) dX6_part_21
  · have hn0 : ¬ nW f1 = 0 := fun z => c0 (by rw [z]; rfl)
    refine lv_aload_n hx hb dX6_part_9 rfl (lv_at hl 0 rfl) ?_
    refine m_g0 X hH.mp dX6_part_10 ?_
    refine lv_iconst (v := nI 0) hx hb dX6_part_13 (by decide) ?_
    refine m_ld1 X hH.mp (by omega) dX6_part_14 ?_
    refine lv_bipush (v := nI 10) hx hb dX6_part_15 (by decide) ?_
    refine n_top2 (y := nI (nS f1)) (hR.s0) ?_
    refine n_icmp_ne (tgt := 22) hx hb (by omega) (by omega) dX6_part_17 (by decide) (fun c1 => ?_) (fun c1 => ?_)
    · refine lv_aload_n hx hb dX6_part_22 rfl (lv_at hl 0 rfl) ?_
      refine m_Mv (c_X6_keeps hE) X hH (lw_V q1539 q1541 qs24 q72 q1542) hdv_X6_keeps ⟨Nat.le_of_ble_eq_true rfl, Nat.le_of_ble_eq_true rfl⟩ ⟨Nat.le_refl _, Nat.le_refl _⟩ rfl hl.1 rfl (Nat.le_of_ble_eq_true rfl) dX6_part_23 (fun w H locs hq hH => ?_)
      obtain rfl := hq
      refine lv_aload_n hx hb dX6_part_26 rfl (lv_at hl 0 rfl) ?_
      refine m_Mi (c_X6_allPresses hE hR) X hH (lw_V q1763 q1765 qs58 q72 q1766) hdv_X6_allPresses ⟨Nat.le_of_ble_eq_true rfl, Nat.le_of_ble_eq_true rfl⟩ ⟨Nat.le_refl _, Nat.le_refl _⟩ rfl hl.1 rfl (Nat.le_of_ble_eq_true rfl) dX6_part_27 (fun r w H locs hq hH => ?_)
      obtain ⟨g6, rfl, rfl⟩ := hq
      refine lv_istore_n (lv' := [(3, .int (nI (apN f1 (frM f1) (nW f1)))), (0, .ref (a 0)), (1, .int (nI qN)), (2, .int (nI mN))]) hx hb dX6_part_30 rfl hl (by decide) rfl (fun ls hl => ?_)
      refine lv_aload_n hx hb dX6_part_31 rfl (lv_at hl 1 rfl) ?_
      refine m_g16 X hH.mp dX6_part_32 ?_
      refine lv_iconst (v := nI 3) hx hb dX6_part_35 (by decide) ?_
      refine lv_iconst (v := (-1)) hx hb dX6_part_36 (by decide) ?_
      refine m_st11 X hH (by omega) dX6_part_37 (fun f11_1 H locs ef11_1 hH => ?_)
      rw [show f11_1 = bp3 f1 mN (upd f11 3 (-1)) 0 from ef11_1] at hH
      refine lv_iconst (v := nI 0) hx hb dX6_part_38 (by decide) ?_
      refine lv_istore (lv' := [(4, .int (nI 0)), (3, .int (nI (apN f1 (frM f1) (nW f1)))), (0, .ref (a 0)), (1, .int (nI qN)), (2, .int (nI mN))]) hx hb dX6_part_39 hl (by decide) rfl (fun ls hl => ?_)
      have lp : ∀ (fu : Nat) (wN : Nat) (f6v : Nat → Int32), (wN ≤ nW f1) → nW f1 - wN < fu → ∀ (H : Heap) (locs : List Loc), HH G sT (mw G a x4 x5 x7 x8 x11 x15 f1 f2 f1 f4 f5 f6v f7 f8 f9 f10 (bp3 f1 mN (upd f11 3 (-1)) wN) h ++ wr) H locs → ∀ ls : Array Slot, lv_has ls 9 [(0, .ref (a 0)), (1, .int (nI qN)), (2, .int (nI mN)), (3, .int (nI (apN f1 (frM f1) (nW f1)))), (4, .int (nI wN))] → W pR l eV (Rm 6 0 0) sT mI ([.ref (a 0), .int (nI qN), .int (nI mN)] : List Value).toArray below meth cd H locs 0 0 QQ (F0 mI 41 ls []) := by
        intro fu
        induction fu with
        | zero => intro wN f6v hw hm; exact absurd hm (Nat.not_lt_zero _)
        | succ fu ih_lp =>
          intro wN f6v hw hm H locs hH ls hl
          refine lv_iload hx hb dX6_part_41 (lv_at hl 4 rfl) ?_
          refine lv_aload_n hx hb dX6_part_43 rfl (lv_at hl 0 rfl) ?_
          refine m_g0 X hH.mp dX6_part_44 ?_
          refine lv_iconst (v := nI 1) hx hb dX6_part_47 (by decide) ?_
          refine m_ld1 X hH.mp (by omega) dX6_part_48 ?_
          refine n_top (y := nI (nW f1)) (hR.w0) ?_
          refine n_icmp_ge (tgt := 177) hx hb (by omega) (by omega) dX6_part_49 (by decide) (fun c2 => ?_) (fun c2 => ?_)
          · have hwe : nW f1 = wN := by omega
            rw [← hwe] at hH
            refine lv_aload_n hx hb dX6_part_177 rfl (lv_at hl 0 rfl) ?_
            refine m_g16 X hH.mp dX6_part_178 ?_
            refine lv_iload_n hx hb dX6_part_181 rfl (lv_at hl 1 rfl) ?_
            refine m_ld11 X hH.mp (by omega) dX6_part_182 ?_
            exact ret _ _ _ _ _ _ _ _ hH (⟨f1, f6v, _, by unfold prtI; rw [if_neg (by omega)], rfl⟩) (Nat.le_refl _) (Nat.le_refl _) dX6_part_183
          · have hL := hR.wl1 c2
            refine lv_iconst (v := nI 0) hx hb dX6_part_52 (by decide) ?_
            refine lv_istore (lv' := [(5, .int (nI 0)), (0, .ref (a 0)), (1, .int (nI qN)), (2, .int (nI mN)), (3, .int (nI (apN f1 (frM f1) (nW f1)))), (4, .int (nI wN))]) hx hb dX6_part_53 hl (by decide) rfl (fun ls hl => ?_)
            rw [show bp3 f1 mN (upd f11 3 (-1)) wN = bp2 f1 wN mN (bp3 f1 mN (upd f11 3 (-1)) wN) 0 from rfl] at hH
            have lf9 : ∀ (fu : Nat) (fN : Nat) (f6u : Nat → Int32), (fN ≤ wL f1 wN) → 13 - fN < fu → ∀ (H : Heap) (locs : List Loc), HH G sT (mw G a x4 x5 x7 x8 x11 x15 f1 f2 f1 f4 f5 f6u f7 f8 f9 f10 (bp2 f1 wN mN (bp3 f1 mN (upd f11 3 (-1)) wN) fN) h ++ wr) H locs → ∀ ls : Array Slot, lv_has ls 9 [(0, .ref (a 0)), (1, .int (nI qN)), (2, .int (nI mN)), (3, .int (nI (apN f1 (frM f1) (nW f1)))), (4, .int (nI wN)), (5, .int (nI fN))] → W pR l eV (Rm 6 0 0) sT mI ([.ref (a 0), .int (nI qN), .int (nI mN)] : List Value).toArray below meth cd H locs 0 0 QQ (F0 mI 55 ls []) := by
              intro fu
              induction fu with
              | zero => intro fN f6u hf hm; exact absurd hm (Nat.not_lt_zero _)
              | succ fu ih_lf9 =>
                intro fN f6u hf hm H locs hH ls hl
                refine lv_iload hx hb dX6_part_55 (lv_at hl 5 rfl) ?_
                refine lv_aload_n hx hb dX6_part_57 rfl (lv_at hl 0 rfl) ?_
                refine m_g0 X hH.mp dX6_part_58 ?_
                refine lv_iload hx hb dX6_part_61 (lv_at hl 4 rfl) ?_
                refine m_S (c_X6_wordAt hE) X hH.2 (lw_S q1562 q1563 q72 q1564) hds_X6_wordAt ⟨Nat.le_of_ble_eq_true rfl, Nat.le_of_ble_eq_true rfl⟩ ⟨Nat.le_refl _, Nat.le_refl _⟩ rfl hl.1 rfl (Nat.le_of_ble_eq_true rfl) dX6_part_63 ?_
                refine m_ld1 X hH.mp (by omega) dX6_part_66 ?_
                refine n_top (y := nI (wL f1 wN)) (hR.wl c2) ?_
                refine n_icmp_ge (tgt := 171) hx hb (by omega) (by omega) dX6_part_67 (by decide) (fun c3 => ?_) (fun c3 => ?_)
                · refine lv_iinc (v := nI (wN + 1)) (lv' := [(4, .int (nI (wN + 1))), (0, .ref (a 0)), (1, .int (nI qN)), (2, .int (nI mN)), (3, .int (nI (apN f1 (frM f1) (nW f1)))), (5, .int (nI fN))]) hx hb dX6_part_171 hl (k := 4) rfl (nI_add _ 1) (by decide) rfl (fun ls hl => ?_)
                  refine lv_goto (tgt := 41) hx hb dX6_part_174 (by decide) ?_
                  rw [show bp2 f1 wN mN (bp3 f1 mN (upd f11 3 (-1)) wN) fN = bp3 f1 mN (upd f11 3 (-1)) (wN + 1) from by rw [bp3, show wL f1 wN = fN by omega]] at hH
                  exact ih_lp (wN + 1) f6u (by omega) (by omega) _ _ hH ls (lv_sub hl [1, 2, 3, 4, 0] rfl)
                · refine lv_iconst (v := nI 1) hx hb dX6_part_70 (by decide) ?_
                  refine lv_istore (lv' := [(6, .int (nI 1)), (0, .ref (a 0)), (1, .int (nI qN)), (2, .int (nI mN)), (3, .int (nI (apN f1 (frM f1) (nW f1)))), (4, .int (nI wN)), (5, .int (nI fN))]) hx hb dX6_part_71 hl (by decide) rfl (fun ls hl => ?_)
                  rw [show bp2 f1 wN mN (bp3 f1 mN (upd f11 3 (-1)) wN) fN = bp1 f1 wN fN (bp2 f1 wN mN (bp3 f1 mN (upd f11 3 (-1)) wN) fN) 0 from rfl] at hH
                  have lm : ∀ (fu : Nat) (jN : Nat) (f6z : Nat → Int32), (jN ≤ min mN (wL f1 wN - fN)) → 13 - jN < fu → ∀ (H : Heap) (locs : List Loc), HH G sT (mw G a x4 x5 x7 x8 x11 x15 f1 f2 f1 f4 f5 f6z f7 f8 f9 f10 (bp1 f1 wN fN (bp2 f1 wN mN (bp3 f1 mN (upd f11 3 (-1)) wN) fN) jN) h ++ wr) H locs → ∀ ls : Array Slot, lv_has ls 9 [(0, .ref (a 0)), (1, .int (nI qN)), (2, .int (nI mN)), (3, .int (nI (apN f1 (frM f1) (nW f1)))), (4, .int (nI wN)), (5, .int (nI fN)), (6, .int (nI (jN + 1)))] → W pR l eV (Rm 6 0 0) sT mI ([.ref (a 0), .int (nI qN), .int (nI mN)] : List Value).toArray below meth cd H locs 0 0 QQ (F0 mI 73 ls []) := by
                    intro fu
                    induction fu with
                    | zero => intro jN f6z hj hm; exact absurd hm (Nat.not_lt_zero _)
                    | succ fu ih_lm =>
                      intro jN f6z hj hm H locs hH ls hl
                      refine lv_iload hx hb dX6_part_73 (lv_at hl 6 rfl) ?_
                      refine lv_iload_n hx hb dX6_part_75 rfl (lv_at hl 2 rfl) ?_
                      refine n_icmp_gt (tgt := 165) hx hb (by omega) (by omega) dX6_part_76 (by decide) (fun c4 => ?_) (fun c4 => ?_)
                      · refine lv_iinc (v := nI (fN + 1)) (lv' := [(5, .int (nI (fN + 1))), (0, .ref (a 0)), (1, .int (nI qN)), (2, .int (nI mN)), (3, .int (nI (apN f1 (frM f1) (nW f1)))), (4, .int (nI wN)), (6, .int (nI (jN + 1)))]) hx hb dX6_part_165 hl (k := 5) rfl (nI_add _ 1) (by decide) rfl (fun ls hl => ?_)
                        refine lv_goto (tgt := 55) hx hb dX6_part_168 (by decide) ?_
                        rw [show bp1 f1 wN fN (bp2 f1 wN mN (bp3 f1 mN (upd f11 3 (-1)) wN) fN) jN = bp2 f1 wN mN (bp3 f1 mN (upd f11 3 (-1)) wN) (fN + 1) from by rw [bp2, show min mN (wL f1 wN - fN) = jN by omega]] at hH
                        exact ih_lf9 (fN + 1) f6z (by omega) (by omega) _ _ hH ls (lv_sub hl [1, 2, 3, 4, 5, 0] rfl)
                      · refine lv_aload_n hx hb dX6_part_79 rfl (lv_at hl 0 rfl) ?_
                        refine lv_iload hx hb dX6_part_80 (lv_at hl 4 rfl) ?_
                        refine lv_iload hx hb dX6_part_82 (lv_at hl 5 rfl) ?_
                        refine lv_iload hx hb dX6_part_84 (lv_at hl 6 rfl) ?_
                        refine m_R (c_X6_isPart (x := nI fN) (y9 := nI (jN + 1)) hE hR c2) X hH.2 hH.mp (lw_V q1581 q1583 qs32 q72 q1584) hdv_X6_isPart ⟨Nat.le_of_ble_eq_true rfl, Nat.le_of_ble_eq_true rfl⟩ ⟨Nat.le_refl _, Nat.le_refl _⟩ rfl hl.1 rfl (Nat.le_of_ble_eq_true rfl) dX6_part_86 ?_
                        refine n_top (y := bI (decide (jN + 1 ≤ wL f1 wN - fN))) (by rw [prtB_n hR c2 c3 (by omega) (by omega)]) ?_
                        refine b_if_eq (tgt := 165) hx hb dX6_part_89 (by decide) (fun c5 => ?_) (fun c5 => ?_)
                        · have c5 := of_decide_eq_false c5
                          refine lv_iinc (v := nI (fN + 1)) (lv' := [(5, .int (nI (fN + 1))), (0, .ref (a 0)), (1, .int (nI qN)), (2, .int (nI mN)), (3, .int (nI (apN f1 (frM f1) (nW f1)))), (4, .int (nI wN)), (6, .int (nI (jN + 1)))]) hx hb dX6_part_165 hl (k := 5) rfl (nI_add _ 1) (by decide) rfl (fun ls hl => ?_)
                          refine lv_goto (tgt := 55) hx hb dX6_part_168 (by decide) ?_
                          rw [show bp1 f1 wN fN (bp2 f1 wN mN (bp3 f1 mN (upd f11 3 (-1)) wN) fN) jN = bp2 f1 wN mN (bp3 f1 mN (upd f11 3 (-1)) wN) (fN + 1) from by rw [bp2, show min mN (wL f1 wN - fN) = jN by omega]] at hH
                          exact ih_lf9 (fN + 1) f6z (by omega) (by omega) _ _ hH ls (lv_sub hl [1, 2, 3, 4, 5, 0] rfl)
                        · have c5 := of_decide_eq_true c5
                          have hRc := comR_ok hR c2 (show nS f1 < 10 by omega) (show fN + (jN + 1) ≤ wL f1 wN by omega) (by omega) (show jN + 1 ≤ 5 by omega)
                          refine lv_aload_n hx hb dX6_part_92 rfl (lv_at hl 0 rfl) ?_
                          refine lv_iload hx hb dX6_part_93 (lv_at hl 4 rfl) ?_
                          refine lv_iload hx hb dX6_part_95 (lv_at hl 5 rfl) ?_
                          refine lv_iload hx hb dX6_part_97 (lv_at hl 6 rfl) ?_
                          refine m_Mi (c_X6_comes hE hR c2 (by omega) (by omega) (by omega)) X hH (lw_V q1585 q1587 qs33 q72 q1588) hdv_X6_comes ⟨Nat.le_of_ble_eq_true rfl, Nat.le_of_ble_eq_true rfl⟩ ⟨Nat.le_refl _, Nat.le_refl _⟩ rfl hl.1 rfl (Nat.le_of_ble_eq_true rfl) dX6_part_99 (fun r w H locs hq hH => ?_)
                          obtain ⟨rfl, rfl⟩ := hq
                          refine lv_istore (lv' := [(7, .int (nI (nS f1))), (0, .ref (a 0)), (1, .int (nI qN)), (2, .int (nI mN)), (3, .int (nI (apN f1 (frM f1) (nW f1)))), (4, .int (nI wN)), (5, .int (nI fN)), (6, .int (nI (jN + 1)))]) hx hb dX6_part_102 hl (by decide) rfl (fun ls hl => ?_)
                          refine lv_iload_n hx hb dX6_part_104 rfl (lv_at hl 4 rfl) ?_
                          refine lv_aload_n hx hb dX6_part_105 rfl (lv_at hl 1 rfl) ?_
                          refine m_Mi (c_X6_allPresses hE hRc) X hH (lw_V q1763 q1765 qs58 q72 q1766) hdv_X6_allPresses ⟨Nat.le_of_ble_eq_true rfl, Nat.le_of_ble_eq_true rfl⟩ ⟨Nat.le_refl _, Nat.le_refl _⟩ rfl hl.1 rfl (Nat.le_of_ble_eq_true rfl) dX6_part_106 (fun r w H locs hq hH => ?_)
                          obtain ⟨g6, rfl, rfl⟩ := hq
                          refine lv_isub hx hb dX6_part_109 ?_
                          refine n_top (y := lesI f1 wN fN (jN + 1)) (rfl) ?_
                          refine lv_istore (lv' := [(8, .int (lesI f1 wN fN (jN + 1))), (7, .int (nI (nS f1))), (0, .ref (a 0)), (1, .int (nI qN)), (2, .int (nI mN)), (3, .int (nI (apN f1 (frM f1) (nW f1)))), (4, .int (nI wN)), (5, .int (nI fN)), (6, .int (nI (jN + 1)))]) hx hb dX6_part_110 hl (by decide) rfl (fun ls hl => ?_)
                          refine lv_aload_n hx hb dX6_part_112 rfl (lv_at hl 2 rfl) ?_
                          refine m_Mv (c_X6_takesBack hE) X hH (lw_V q1565 q1567 qs29 q72 q1568) hdv_X6_takesBack ⟨Nat.le_of_ble_eq_true rfl, Nat.le_of_ble_eq_true rfl⟩ ⟨Nat.le_refl _, Nat.le_refl _⟩ rfl hl.1 rfl (Nat.le_of_ble_eq_true rfl) dX6_part_113 (fun w H locs hq hH => ?_)
                          obtain rfl := hq
                          refine lv_iload hx hb dX6_part_116 (lv_at hl 0 rfl) ?_
                          refine lv_aload_n hx hb dX6_part_118 rfl (lv_at hl 2 rfl) ?_
                          refine m_g16 X hH.mp dX6_part_119 ?_
                          refine lv_iconst (v := nI 3) hx hb dX6_part_122 (by decide) ?_
                          refine m_ld11 X hH.mp (by omega) dX6_part_123 ?_
                          refine lv_icmp_le (tgt := 159) hx hb dX6_part_124 (by decide) (fun c6 => ?_) (fun c6 => ?_)
                          · refine lv_iinc (v := nI (jN + 1 + 1)) (lv' := [(6, .int (nI (jN + 1 + 1))), (8, .int (lesI f1 wN fN (jN + 1))), (7, .int (nI (nS f1))), (0, .ref (a 0)), (1, .int (nI qN)), (2, .int (nI mN)), (3, .int (nI (apN f1 (frM f1) (nW f1)))), (4, .int (nI wN)), (5, .int (nI fN))]) hx hb dX6_part_159 hl (k := 8) rfl (nI_add _ 1) (by decide) rfl (fun ls hl => ?_)
                            refine lv_goto (tgt := 73) hx hb dX6_part_162 (by decide) ?_
                            rw [show bp1 f1 wN fN (bp2 f1 wN mN (bp3 f1 mN (upd f11 3 (-1)) wN) fN) jN = bp1 f1 wN fN (bp2 f1 wN mN (bp3 f1 mN (upd f11 3 (-1)) wN) fN) (jN + 1) from by rw [bp1, stepP, if_neg (Int32.not_lt.mpr c6)]] at hH
                            exact ih_lm (jN + 1) g6 (by omega) (by omega) _ _ hH ls (lv_sub hl [3, 4, 5, 6, 7, 8, 0] rfl)
                          · refine lv_aload_n hx hb dX6_part_127 rfl (lv_at hl 2 rfl) ?_
                            refine m_g16 X hH.mp dX6_part_128 ?_
                            refine lv_iconst (v := nI 0) hx hb dX6_part_131 (by decide) ?_
                            refine lv_iload hx hb dX6_part_132 (lv_at hl 6 rfl) ?_
                            refine m_st11 X hH (by omega) dX6_part_134 (fun f11_2 H locs ef11_2 hH => ?_)
                            refine lv_aload_n hx hb dX6_part_135 rfl (lv_at hl 2 rfl) ?_
                            refine m_g16 X hH.mp dX6_part_136 ?_
                            refine lv_iconst (v := nI 1) hx hb dX6_part_139 (by decide) ?_
                            refine lv_iload hx hb dX6_part_140 (lv_at hl 7 rfl) ?_
                            refine m_st11 X hH (by omega) dX6_part_142 (fun f11_3 H locs ef11_3 hH => ?_)
                            refine lv_aload_n hx hb dX6_part_143 rfl (lv_at hl 2 rfl) ?_
                            refine m_g16 X hH.mp dX6_part_144 ?_
                            refine lv_iconst (v := nI 2) hx hb dX6_part_147 (by decide) ?_
                            refine lv_iload hx hb dX6_part_148 (lv_at hl 8 rfl) ?_
                            refine m_st11 X hH (by omega) dX6_part_150 (fun f11_4 H locs ef11_4 hH => ?_)
                            refine lv_aload_n hx hb dX6_part_151 rfl (lv_at hl 2 rfl) ?_
                            refine m_g16 X hH.mp dX6_part_152 ?_
                            refine lv_iconst (v := nI 3) hx hb dX6_part_155 (by decide) ?_
                            refine lv_iload hx hb dX6_part_156 (lv_at hl 0 rfl) ?_
                            refine m_st11 X hH (by omega) dX6_part_158 (fun f11_5 H locs ef11_5 hH => ?_)
                            refine lv_iinc (v := nI (jN + 1 + 1)) (lv' := [(6, .int (nI (jN + 1 + 1))), (8, .int (lesI f1 wN fN (jN + 1))), (7, .int (nI (nS f1))), (0, .ref (a 0)), (1, .int (nI qN)), (2, .int (nI mN)), (3, .int (nI (apN f1 (frM f1) (nW f1)))), (4, .int (nI wN)), (5, .int (nI fN))]) hx hb dX6_part_159 hl (k := 8) rfl (nI_add _ 1) (by decide) rfl (fun ls hl => ?_)
                            refine lv_goto (tgt := 73) hx hb dX6_part_162 (by decide) ?_
                            rw [show f11_5 = bp1 f1 wN fN (bp2 f1 wN mN (bp3 f1 mN (upd f11 3 (-1)) wN) fN) (jN + 1) from by rw [bp1, stepP, if_pos (Int32.not_le.mp c6), ef11_5, ef11_4, ef11_3, ef11_2]] at hH
                            exact ih_lm (jN + 1) g6 (by omega) (by omega) _ _ hH ls (lv_sub hl [3, 4, 5, 6, 7, 8, 0] rfl)
                  exact lm _ 0 f6u (Nat.zero_le _) (Nat.lt_succ_self _) _ _ hH ls (lv_sub hl [1, 2, 3, 4, 5, 6, 0] rfl)
            exact lf9 _ 0 f6v (Nat.zero_le _) (Nat.lt_succ_self _) _ _ hH ls (lv_sub hl [1, 2, 3, 4, 5, 0] rfl)
      exact lp _ 0 g6 (Nat.zero_le _) (Nat.lt_succ_self _) _ _ hH ls (lv_sub hl [2, 3, 4, 1, 0] rfl)
    · refine lv_iconst (v := (-1)) hx hb dX6_part_20 (by decide) ?_
      exact ret _ _ _ _ _ _ _ _ hH (⟨f3, f6, f11, by unfold prtI; rw [if_pos (Or.inr c1)], rfl⟩) (Nat.le_refl _) (Nat.le_refl _) dX6_part_21
theorem hdv_X6_bestCut : yX6_bestCut.cls = RX6 ∧ yX6_bestCut.cls ≠ "java/lang/invoke/MethodHandle" ∧ yX6_bestCut.cls ≠ "java/lang/invoke/VarHandle" ∧ (parseMethodDescriptor yX6_bestCut.desc).map (fun d => d.parameters.length) = some 2 := by decide +kernel
theorem c_X6_bestCut_1 (hE : EnvOK G E) {x y : Int32} (hB : (rgB (nI 0) (nI 3) x && rgB (nI 1) (nI 5) y) = false) : MU vI l G E yX6_bestCut cX6_bestCut 3 (some .int) 7 0 0 [.ref (a 0), .int x, .int y] (mw G a x4 x5 x7 x8 x11 x15 f1 f2 f3 f4 f5 f6 f7 f8 f9 f10 f11 h ++ wr) (fun r w => r = nI 0 ∧ w = mw G a x4 (nI 1) x7 x8 x11 x15 f1 f2 f3 f4 f5 f6 f7 f8 f9 f10 f11 h ++ wr) := by
  refine MUi hE (by decide) (Nat.le_of_ble_eq_true rfl) (fun pR eV sT mI below meth cd QQ ls X hH hl ret => ?_)
  obtain ⟨⟨hx, hb, hml, hown, hts⟩, ⟨hr, hlk⟩, -, -, -⟩ := id X
  have hl : lv_has ls 3 [(0, .ref (a 0)), (1, .int x), (2, .int y)] := hl
  refine wgen (H := sT.heap) (locs := []) hH (fun H locs hH => ?_)
  refine lv_aload_n hx hb dX6_bestCut_0 rfl (lv_at hl 0 rfl) ?_
  refine lv_iload_n hx hb dX6_bestCut_1 rfl (lv_at hl 1 rfl) ?_
  refine lv_iconst (v := nI 0) hx hb dX6_bestCut_2 (by decide) ?_
  refine lv_iconst (v := nI 3) hx hb dX6_bestCut_3 (by decide) ?_
  refine m_S (c_X6_in hE) X hH.2 (lw_S q1528 q1529 q72 q1530) hds_X6_in ⟨Nat.le_of_ble_eq_true rfl, Nat.le_of_ble_eq_true rfl⟩ ⟨Nat.le_refl _, Nat.le_refl _⟩ rfl hl.1 rfl (Nat.le_of_ble_eq_true rfl) dX6_bestCut_4 ?_
  by_cases c1 : rgB (nI 0) (nI 3) x = true
  · refine n_top (y := nI 1) (by rw [c1]; rfl) ?_
    refine lv_if_eq (tgt := 23) hx hb dX6_bestCut_7 (by decide) (fun h => absurd h (by decide)) (fun _ => ?_)
    refine lv_iload_n hx hb dX6_bestCut_10 rfl (lv_at hl 2 rfl) ?_
    refine lv_iconst (v := nI 1) hx hb dX6_bestCut_11 (by decide) ?_
    refine lv_iconst (v := nI 5) hx hb dX6_bestCut_12 (by decide) ?_
    refine m_S (c_X6_in hE) X hH.2 (lw_S q1528 q1529 q72 q1530) hds_X6_in ⟨Nat.le_of_ble_eq_true rfl, Nat.le_of_ble_eq_true rfl⟩ ⟨Nat.le_refl _, Nat.le_refl _⟩ rfl hl.1 rfl (Nat.le_of_ble_eq_true rfl) dX6_bestCut_13 ?_
    refine n_top (y := nI 0) (by rw [show rgB (nI 1) (nI 5) y = false by rw [c1, Bool.true_and] at hB; exact hB]; rfl) ?_
    refine lv_if_eq (tgt := 23) hx hb dX6_bestCut_16 (by decide) (fun _ => ?_) (fun h => absurd rfl h)
    refine lv_iconst (v := nI 1) hx hb dX6_bestCut_23 (by decide) ?_
    refine m_Mi (c_X6_refused (cN := 1) hE (by omega)) X hH (lw_V q1520 q1522 qs23 q72 q1523) hdv_X6_refused ⟨Nat.le_of_ble_eq_true rfl, Nat.le_of_ble_eq_true rfl⟩ ⟨Nat.le_refl _, Nat.le_refl _⟩ rfl hl.1 rfl (Nat.le_of_ble_eq_true rfl) dX6_bestCut_24 (fun r w H locs hq hH => ?_)
    obtain ⟨rfl, rfl⟩ := hq
    refine n_top (y := bI true) (rfl) ?_
    refine n_top (y := nI 1) (rfl) ?_
    refine lv_if_eq (tgt := 34) hx hb dX6_bestCut_27 (by decide) (fun h => absurd h (by decide)) (fun _ => ?_)
    refine lv_iconst (v := nI 0) hx hb dX6_bestCut_30 (by decide) ?_
    refine lv_goto (tgt := 40) hx hb dX6_bestCut_31 (by decide) ?_
    exact ret _ _ _ _ _ _ _ _ hH (⟨rfl, rfl⟩) (Nat.le_refl _) (Nat.le_refl _) dX6_bestCut_40
  · refine n_top (y := nI 0) (by rw [show rgB (nI 0) (nI 3) x = false from Bool.eq_false_iff.mpr c1]; rfl) ?_
    refine lv_if_eq (tgt := 23) hx hb dX6_bestCut_7 (by decide) (fun _ => ?_) (fun h => absurd rfl h)
    refine lv_iconst (v := nI 1) hx hb dX6_bestCut_23 (by decide) ?_
    refine m_Mi (c_X6_refused (cN := 1) hE (by omega)) X hH (lw_V q1520 q1522 qs23 q72 q1523) hdv_X6_refused ⟨Nat.le_of_ble_eq_true rfl, Nat.le_of_ble_eq_true rfl⟩ ⟨Nat.le_refl _, Nat.le_refl _⟩ rfl hl.1 rfl (Nat.le_of_ble_eq_true rfl) dX6_bestCut_24 (fun r w H locs hq hH => ?_)
    obtain ⟨rfl, rfl⟩ := hq
    refine n_top (y := bI true) (rfl) ?_
    refine n_top (y := nI 1) (rfl) ?_
    refine lv_if_eq (tgt := 34) hx hb dX6_bestCut_27 (by decide) (fun h => absurd h (by decide)) (fun _ => ?_)
    refine lv_iconst (v := nI 0) hx hb dX6_bestCut_30 (by decide) ?_
    refine lv_goto (tgt := 40) hx hb dX6_bestCut_31 (by decide) ?_
    exact ret _ _ _ _ _ _ _ _ hH (⟨rfl, rfl⟩) (Nat.le_refl _) (Nat.le_refl _) dX6_bestCut_40
theorem c_X6_bestCut_0 (hE : EnvOK G E) {qN mN : Nat} (hR : ROk f1) (hq : qN ≤ 3) (hm1 : 1 ≤ mN) (hm5 : mN ≤ 5) : MU vI l G E yX6_bestCut cX6_bestCut 3 (some .int) 7 0 0 [.ref (a 0), .int (nI qN), .int (nI mN)] (mw G a x4 x5 x7 x8 x11 x15 f1 f2 f3 f4 f5 f6 f7 f8 f9 f10 f11 h ++ wr) (fun r w => ∃ g3 g6 g11, r = prtI f1 mN f11 qN ∧ w = mw G a x4 (nI 0) x7 x8 x11 x15 f1 f2 g3 f4 f5 g6 f7 f8 f9 f10 g11 h ++ wr) := by
  refine MUi hE (by decide) (Nat.le_of_ble_eq_true rfl) (fun pR eV sT mI below meth cd QQ ls X hH hl ret => ?_)
  obtain ⟨⟨hx, hb, hml, hown, hts⟩, ⟨hr, hlk⟩, -, -, -⟩ := id X
  have hl : lv_has ls 3 [(0, .ref (a 0)), (1, .int (nI qN)), (2, .int (nI mN))] := hl
  refine wgen (H := sT.heap) (locs := []) hH (fun H locs hH => ?_)
  refine lv_aload_n hx hb dX6_bestCut_0 rfl (lv_at hl 0 rfl) ?_
  refine lv_iload_n hx hb dX6_bestCut_1 rfl (lv_at hl 1 rfl) ?_
  refine lv_iconst (v := nI 0) hx hb dX6_bestCut_2 (by decide) ?_
  refine lv_iconst (v := nI 3) hx hb dX6_bestCut_3 (by decide) ?_
  refine m_S (c_X6_in hE) X hH.2 (lw_S q1528 q1529 q72 q1530) hds_X6_in ⟨Nat.le_of_ble_eq_true rfl, Nat.le_of_ble_eq_true rfl⟩ ⟨Nat.le_refl _, Nat.le_refl _⟩ rfl hl.1 rfl (Nat.le_of_ble_eq_true rfl) dX6_bestCut_4 ?_
  refine n_top (y := nI 1) (by rw [rgB_t hq (by decide)]; rfl) ?_
  refine lv_if_eq (tgt := 23) hx hb dX6_bestCut_7 (by decide) (fun h => absurd h (by decide)) (fun _ => ?_)
  refine lv_iload_n hx hb dX6_bestCut_10 rfl (lv_at hl 2 rfl) ?_
  refine lv_iconst (v := nI 1) hx hb dX6_bestCut_11 (by decide) ?_
  refine lv_iconst (v := nI 5) hx hb dX6_bestCut_12 (by decide) ?_
  refine m_S (c_X6_in hE) X hH.2 (lw_S q1528 q1529 q72 q1530) hds_X6_in ⟨Nat.le_of_ble_eq_true rfl, Nat.le_of_ble_eq_true rfl⟩ ⟨Nat.le_refl _, Nat.le_refl _⟩ rfl hl.1 rfl (Nat.le_of_ble_eq_true rfl) dX6_bestCut_13 ?_
  refine n_top (y := nI 1) (by rw [show rgB (nI 1) (nI 5) (nI mN) = true by rw [rgB_n (by decide) (by decide) (by omega), decide_eq_true hm1, decide_eq_true hm5]; rfl]; rfl) ?_
  refine lv_if_eq (tgt := 23) hx hb dX6_bestCut_16 (by decide) (fun h => absurd h (by decide)) (fun _ => ?_)
  refine lv_iconst (v := nI 0) hx hb dX6_bestCut_19 (by decide) ?_
  refine lv_goto (tgt := 24) hx hb dX6_bestCut_20 (by decide) ?_
  refine m_Mi (c_X6_refused (cN := 0) hE (by omega)) X hH (lw_V q1520 q1522 qs23 q72 q1523) hdv_X6_refused ⟨Nat.le_of_ble_eq_true rfl, Nat.le_of_ble_eq_true rfl⟩ ⟨Nat.le_refl _, Nat.le_refl _⟩ rfl hl.1 rfl (Nat.le_of_ble_eq_true rfl) dX6_bestCut_24 (fun r w H locs hq hH => ?_)
  obtain ⟨rfl, rfl⟩ := hq
  refine n_top (y := bI false) (rfl) ?_
  refine n_top (y := nI 0) (rfl) ?_
  refine lv_if_eq (tgt := 34) hx hb dX6_bestCut_27 (by decide) (fun _ => ?_) (fun h => absurd rfl h)
  refine lv_aload_n hx hb dX6_bestCut_34 rfl (lv_at hl 0 rfl) ?_
  refine lv_iload_n hx hb dX6_bestCut_35 rfl (lv_at hl 1 rfl) ?_
  refine lv_iload_n hx hb dX6_bestCut_36 rfl (lv_at hl 2 rfl) ?_
  refine m_Mi (c_X6_part hE hR hq hm1 hm5) X hH (lw_V q1759 q1761 qs57 q72 q1762) hdv_X6_part ⟨Nat.le_of_ble_eq_true rfl, Nat.le_of_ble_eq_true rfl⟩ ⟨Nat.le_refl _, Nat.le_refl _⟩ rfl hl.1 rfl (Nat.le_of_ble_eq_true rfl) dX6_bestCut_37 (fun r w H locs hq hH => ?_)
  obtain ⟨g3, g6, g11, rfl, rfl⟩ := hq
  exact ret _ _ _ _ _ _ _ _ hH (⟨_, _, _, rfl, rfl⟩) (Nat.le_refl _) (Nat.le_refl _) dX6_bestCut_40
theorem hdv_X6_mix : yX6_mix.cls = RX6 ∧ yX6_mix.cls ≠ "java/lang/invoke/MethodHandle" ∧ yX6_mix.cls ≠ "java/lang/invoke/VarHandle" ∧ (parseMethodDescriptor yX6_mix.desc).map (fun d => d.parameters.length) = some 1 := by decide +kernel
theorem c_X6_mix (hE : EnvOK G E) {x : Int32} : MU vV l G E yX6_mix cX6_mix 2 none 1 0 0 [.ref (a 0), .int x] (mw G a x4 x5 x7 x8 x11 x15 f1 f2 f3 f4 f5 f6 f7 f8 f9 f10 f11 h ++ wr) (fun _ w => w = mw G a x4 x5 x7 x8 x11 x15 f1 f2 f3 f4 f5 f6 f7 f8 f9 f10 f11 (mixJ h x) ++ wr) := by
  refine MUv hE (by decide) (Nat.le_of_ble_eq_true rfl) (fun pR eV sT mI below meth cd QQ ls X hH hl ret => ?_)
  obtain ⟨⟨hx, hb, hml, hown, hts⟩, ⟨hr, hlk⟩, -, -, -⟩ := id X
  have hl : lv_has ls 2 [(0, .ref (a 0)), (1, .int x)] := hl
  refine wgen (H := sT.heap) (locs := []) hH (fun H locs hH => ?_)
  refine lv_aload_n hx hb dX6_mix_0 rfl (lv_at hl 0 rfl) ?_
  refine lv_ldc2 (v := 31) hx hb hown (hts _ q1780) dX6_mix_1 ?_
  refine lv_aload_n hx hb dX6_mix_4 rfl (lv_at hl 0 rfl) ?_
  refine m_g17 X hH.mp dX6_mix_5 ?_
  refine lv_lmul hx hb dX6_mix_8 ?_
  refine lv_iload_n hx hb dX6_mix_9 rfl (lv_at hl 1 rfl) ?_
  refine lv_i2l (v := x.toInt64) hx hb dX6_mix_10 rfl ?_
  refine lv_ladd hx hb dX6_mix_11 ?_
  refine m_p17 X hH dX6_mix_12 (fun H locs hH => ?_)
  exact ret _ _ _ _ _ _ _ hH rfl (Nat.le_refl _) (Nat.le_refl _) dX6_mix_15
theorem hdv_X6_mixWord : yX6_mixWord.cls = RX6 ∧ yX6_mixWord.cls ≠ "java/lang/invoke/MethodHandle" ∧ yX6_mixWord.cls ≠ "java/lang/invoke/VarHandle" ∧ (parseMethodDescriptor yX6_mixWord.desc).map (fun d => d.parameters.length) = some 1 := by decide +kernel
theorem c_X6_mixWord (hE : EnvOK G E) {wN : Nat} (hR : ROk f1) (hw : wN < nW f1) : MU vV l G E yX6_mixWord cX6_mixWord 4 none 9 0 0 [.ref (a 0), .int (nI wN)] (mw G a x4 x5 x7 x8 x11 x15 f1 f2 f3 f4 f5 f6 f7 f8 f9 f10 f11 h ++ wr) (fun _ w => ∃ z11 g3 g6 g7, w = mw G a x4 x5 x7 x8 z11 x15 f1 f2 g3 f4 f5 g6 g7 f8 f9 f10 f11 (mwJ f1 wN h) ++ wr) := by
  refine MUv hE (by decide) (Nat.le_of_ble_eq_true rfl) (fun pR eV sT mI below meth cd QQ ls X hH hl ret => ?_)
  obtain ⟨⟨hx, hb, hml, hown, hts⟩, ⟨hr, hlk⟩, -, -, -⟩ := id X
  have hl : lv_has ls 4 [(0, .ref (a 0)), (1, .int (nI wN))] := hl
  refine wgen (H := sT.heap) (locs := []) hH (fun H locs hH => ?_)
  have hm7 := hR.w1
  have hL := hR.wl1 hw
  have hpm := pmN_le hR (w := wN) (m := frM f1)
  refine lv_iconst (v := nI 0) hx hb dX6_mixWord_0 (by decide) ?_
  refine lv_istore_n (lv' := [(2, .int (nI 0)), (0, .ref (a 0)), (1, .int (nI wN))]) hx hb dX6_mixWord_1 rfl hl (by decide) rfl (fun ls hl => ?_)
  have lp : ∀ (fu : Nat) (qN : Nat) (x11v : Int32) (f3v : Nat → Int32) (f6v : Nat → Int32) (f7v : Nat → Int32), (qN ≤ 6) → 6 - qN < fu → ∀ (H : Heap) (locs : List Loc), HH G sT (mw G a x4 x5 x7 x8 x11v x15 f1 f2 f3v f4 f5 f6v f7v f8 f9 f10 f11 (mxW f1 wN h qN) ++ wr) H locs → ∀ ls : Array Slot, lv_has ls 4 [(0, .ref (a 0)), (1, .int (nI wN)), (2, .int (nI qN))] → W pR l eV (Rm 9 0 0) sT mI ([.ref (a 0), .int (nI wN)] : List Value).toArray below meth cd H locs 0 0 QQ (F0 mI 2 ls []) := by
    intro fu
    induction fu with
    | zero => intro qN x11v f3v f6v f7v hq hm; exact absurd hm (Nat.not_lt_zero _)
    | succ fu ih_lp =>
      intro qN x11v f3v f6v f7v hq hm H locs hH ls hl
      refine lv_iload_n hx hb dX6_mixWord_2 rfl (lv_at hl 2 rfl) ?_
      refine lv_bipush (v := nI 6) hx hb dX6_mixWord_3 (by decide) ?_
      refine n_icmp_ge (tgt := 24) hx hb (by omega) (by omega) dX6_mixWord_5 (by decide) (fun c3 => ?_) (fun c3 => ?_)
      · have hq6 : qN = 6 := by omega
        subst hq6
        refine lv_iconst (v := nI 0) hx hb dX6_mixWord_24 (by decide) ?_
        refine lv_istore_n (lv' := [(2, .int (nI 0)), (0, .ref (a 0)), (1, .int (nI wN))]) hx hb dX6_mixWord_25 rfl hl (by decide) rfl (fun ls hl => ?_)
        have lq : ∀ (fu : Nat) (kN : Nat), (kN ≤ wL f1 wN) → wL f1 wN - kN < fu → ∀ (H : Heap) (locs : List Loc), HH G sT (mw G a x4 x5 x7 x8 x11v x15 f1 f2 f3v f4 f5 f6v f7v f8 f9 f10 f11 (mxL f1 (97 + 14 * wN + 2) (mxW f1 wN h 6) kN) ++ wr) H locs → ∀ ls : Array Slot, lv_has ls 4 [(0, .ref (a 0)), (1, .int (nI wN)), (2, .int (nI kN))] → W pR l eV (Rm 9 0 0) sT mI ([.ref (a 0), .int (nI wN)] : List Value).toArray below meth cd H locs 0 0 QQ (F0 mI 26 ls []) := by
          intro fu
          induction fu with
          | zero => intro kN hk hm; exact absurd hm (Nat.not_lt_zero _)
          | succ fu ih_lq =>
            intro kN hk hm H locs hH ls hl
            refine lv_iload_n hx hb dX6_mixWord_26 rfl (lv_at hl 2 rfl) ?_
            refine lv_aload_n hx hb dX6_mixWord_27 rfl (lv_at hl 0 rfl) ?_
            refine m_g0 X hH.mp dX6_mixWord_28 ?_
            refine lv_iload_n hx hb dX6_mixWord_31 rfl (lv_at hl 1 rfl) ?_
            refine m_S (c_X6_wordAt hE) X hH.2 (lw_S q1562 q1563 q72 q1564) hds_X6_wordAt ⟨Nat.le_of_ble_eq_true rfl, Nat.le_of_ble_eq_true rfl⟩ ⟨Nat.le_refl _, Nat.le_refl _⟩ rfl hl.1 rfl (Nat.le_of_ble_eq_true rfl) dX6_mixWord_32 ?_
            refine m_ld1 X hH.mp (by omega) dX6_mixWord_35 ?_
            refine n_top (y := nI (wL f1 wN)) (hR.wl hw) ?_
            refine n_icmp_ge (tgt := 62) hx hb (by omega) (by omega) dX6_mixWord_36 (by decide) (fun c4 => ?_) (fun c4 => ?_)
            · have hke : wL f1 wN = kN := by omega
              rw [← hke] at hH
              refine lv_aload_n hx hb dX6_mixWord_62 rfl (lv_at hl 0 rfl) ?_
              refine lv_iload_n hx hb dX6_mixWord_63 rfl (lv_at hl 1 rfl) ?_
              refine lv_aload_n hx hb dX6_mixWord_64 rfl (lv_at hl 0 rfl) ?_
              refine m_R (c_X6_fresh hE hR) X hH.2 hH.mp (lw_V q1633 q1635 qs39 q72 q1636) hdv_X6_fresh ⟨Nat.le_of_ble_eq_true rfl, Nat.le_of_ble_eq_true rfl⟩ ⟨Nat.le_refl _, Nat.le_refl _⟩ rfl hl.1 rfl (Nat.le_of_ble_eq_true rfl) dX6_mixWord_65 ?_
              refine m_Mi (c_X6_plans (mk := frM f1) hE hR hw) X hH (lw_V q1684 q1686 qs48 q72 q1687) hdv_X6_plans ⟨Nat.le_of_ble_eq_true rfl, Nat.le_of_ble_eq_true rfl⟩ ⟨Nat.le_refl _, Nat.le_refl _⟩ rfl hl.1 rfl (Nat.le_of_ble_eq_true rfl) dX6_mixWord_68 (fun r w H locs hq hH => ?_)
              obtain ⟨g6, g7, -, hg7, rfl, rfl⟩ := hq
              refine lv_istore_n (lv' := [(2, .int (bI (decide (pr f1 wN (frM f1) ≠ 100)))), (0, .ref (a 0)), (1, .int (nI wN))]) hx hb dX6_mixWord_71 rfl hl (by decide) rfl (fun ls hl => ?_)
              refine lv_iconst (v := nI 0) hx hb dX6_mixWord_72 (by decide) ?_
              refine lv_istore_n (lv' := [(3, .int (nI 0)), (2, .int (bI (decide (pr f1 wN (frM f1) ≠ 100)))), (0, .ref (a 0)), (1, .int (nI wN))]) hx hb dX6_mixWord_73 rfl hl (by decide) rfl (fun ls hl => ?_)
              have lr : ∀ (fu : Nat) (iN : Nat), (iN ≤ pmN f1 wN (frM f1)) → pmN f1 wN (frM f1) - iN < fu → ∀ (H : Heap) (locs : List Loc), HH G sT (mw G a x4 x5 x7 x8 (nI (pmN f1 wN (frM f1))) x15 f1 f2 f3v f4 f5 g6 g7 f8 f9 f10 f11 (mxP f1 wN (mxL f1 (97 + 14 * wN + 2) (mxW f1 wN h 6) (wL f1 wN)) iN) ++ wr) H locs → ∀ ls : Array Slot, lv_has ls 4 [(0, .ref (a 0)), (1, .int (nI wN)), (3, .int (nI iN))] → W pR l eV (Rm 9 0 0) sT mI ([.ref (a 0), .int (nI wN)] : List Value).toArray below meth cd H locs 0 0 QQ (F0 mI 74 ls []) := by
                intro fu
                induction fu with
                | zero => intro iN hi hm; exact absurd hm (Nat.not_lt_zero _)
                | succ fu ih_lr =>
                  intro iN hi hm H locs hH ls hl
                  refine lv_iload_n hx hb dX6_mixWord_74 rfl (lv_at hl 2 rfl) ?_
                  refine lv_aload_n hx hb dX6_mixWord_75 rfl (lv_at hl 0 rfl) ?_
                  refine m_g11 X hH.mp dX6_mixWord_76 ?_
                  refine n_icmp_ge (tgt := 98) hx hb (by omega) (by omega) dX6_mixWord_79 (by decide) (fun c5 => ?_) (fun c5 => ?_)
                  · have hie : pmN f1 wN (frM f1) = iN := by omega
                    rw [← hie] at hH
                    exact ret _ _ _ _ _ _ _ hH (⟨_, _, _, _, rfl⟩) (Nat.le_refl _) (Nat.le_refl _) dX6_mixWord_98
                  · refine lv_aload_n hx hb dX6_mixWord_82 rfl (lv_at hl 0 rfl) ?_
                    refine lv_aload_n hx hb dX6_mixWord_83 rfl (lv_at hl 0 rfl) ?_
                    refine m_g10 X hH.mp dX6_mixWord_84 ?_
                    refine lv_iload_n hx hb dX6_mixWord_87 rfl (lv_at hl 2 rfl) ?_
                    refine m_ld7 X hH.mp (by omega) dX6_mixWord_88 ?_
                    refine n_top (y := nI (plP f1 wN (frM f1) iN)) (hg7 iN c5) ?_
                    refine m_Mv (c_X6_mix hE) X hH (lw_V q1776 q1778 qs59 q72 q1779) hdv_X6_mix ⟨Nat.le_of_ble_eq_true rfl, Nat.le_of_ble_eq_true rfl⟩ ⟨Nat.le_refl _, Nat.le_refl _⟩ rfl hl.1 rfl (Nat.le_of_ble_eq_true rfl) dX6_mixWord_89 (fun w H locs hq hH => ?_)
                    obtain rfl := hq
                    refine lv_iinc (v := nI (iN + 1)) (lv' := [(3, .int (nI (iN + 1))), (0, .ref (a 0)), (1, .int (nI wN))]) hx hb dX6_mixWord_92 hl (k := 2) rfl (nI_add _ 1) (by decide) rfl (fun ls hl => ?_)
                    refine lv_goto (tgt := 74) hx hb dX6_mixWord_95 (by decide) ?_
                    exact ih_lr (iN + 1)  (by omega) (by omega) _ _ hH ls (lv_sub hl [1, 2, 0] rfl)
              exact lr _ 0  (Nat.zero_le _) (Nat.lt_succ_self _) _ _ hH ls (lv_sub hl [2, 3, 0] rfl)
            · refine lv_aload_n hx hb dX6_mixWord_39 rfl (lv_at hl 0 rfl) ?_
              refine lv_aload_n hx hb dX6_mixWord_40 rfl (lv_at hl 0 rfl) ?_
              refine m_g0 X hH.mp dX6_mixWord_41 ?_
              refine lv_iload_n hx hb dX6_mixWord_44 rfl (lv_at hl 1 rfl) ?_
              refine m_S (c_X6_wordAt hE) X hH.2 (lw_S q1562 q1563 q72 q1564) hds_X6_wordAt ⟨Nat.le_of_ble_eq_true rfl, Nat.le_of_ble_eq_true rfl⟩ ⟨Nat.le_refl _, Nat.le_refl _⟩ rfl hl.1 rfl (Nat.le_of_ble_eq_true rfl) dX6_mixWord_45 ?_
              refine lv_iconst (v := nI 2) hx hb dX6_mixWord_48 (by decide) ?_
              refine n_iadd hx hb dX6_mixWord_49 ?_
              refine lv_iload_n hx hb dX6_mixWord_50 rfl (lv_at hl 2 rfl) ?_
              refine n_iadd hx hb dX6_mixWord_51 ?_
              refine m_ld1 X hH.mp (by omega) dX6_mixWord_52 ?_
              refine m_Mv (c_X6_mix hE) X hH (lw_V q1776 q1778 qs59 q72 q1779) hdv_X6_mix ⟨Nat.le_of_ble_eq_true rfl, Nat.le_of_ble_eq_true rfl⟩ ⟨Nat.le_refl _, Nat.le_refl _⟩ rfl hl.1 rfl (Nat.le_of_ble_eq_true rfl) dX6_mixWord_53 (fun w H locs hq hH => ?_)
              obtain rfl := hq
              refine lv_iinc (v := nI (kN + 1)) (lv' := [(2, .int (nI (kN + 1))), (0, .ref (a 0)), (1, .int (nI wN))]) hx hb dX6_mixWord_56 hl (k := 2) rfl (nI_add _ 1) (by decide) rfl (fun ls hl => ?_)
              refine lv_goto (tgt := 26) hx hb dX6_mixWord_59 (by decide) ?_
              exact ih_lq (kN + 1)  (by omega) (by omega) _ _ hH ls (lv_sub hl [1, 2, 0] rfl)
        exact lq _ 0  (Nat.zero_le _) (Nat.lt_succ_self _) _ _ hH ls (lv_sub hl [1, 2, 0] rfl)
      · refine lv_aload_n hx hb dX6_mixWord_8 rfl (lv_at hl 0 rfl) ?_
        refine lv_aload_n hx hb dX6_mixWord_9 rfl (lv_at hl 0 rfl) ?_
        refine lv_iload_n hx hb dX6_mixWord_10 rfl (lv_at hl 1 rfl) ?_
        refine lv_iload_n hx hb dX6_mixWord_11 rfl (lv_at hl 2 rfl) ?_
        refine m_Mi (c_X6_tellWord (qN := qN) hE hR hw (by omega)) X hH (lw_V q1676 q1678 qs46 q72 q1679) hdv_X6_tellWord ⟨Nat.le_of_ble_eq_true rfl, Nat.le_of_ble_eq_true rfl⟩ ⟨Nat.le_refl _, Nat.le_refl _⟩ rfl hl.1 rfl (Nat.le_of_ble_eq_true rfl) dX6_mixWord_12 (fun r w H locs hq hH => ?_)
        obtain ⟨z11, g3, g6, g7, rfl, rfl⟩ := hq
        refine m_Mv (c_X6_mix hE) X hH (lw_V q1776 q1778 qs59 q72 q1779) hdv_X6_mix ⟨Nat.le_of_ble_eq_true rfl, Nat.le_of_ble_eq_true rfl⟩ ⟨Nat.le_refl _, Nat.le_refl _⟩ rfl hl.1 rfl (Nat.le_of_ble_eq_true rfl) dX6_mixWord_15 (fun w H locs hq hH => ?_)
        obtain rfl := hq
        refine lv_iinc (v := nI (qN + 1)) (lv' := [(2, .int (nI (qN + 1))), (0, .ref (a 0)), (1, .int (nI wN))]) hx hb dX6_mixWord_18 hl (k := 2) rfl (nI_add _ 1) (by decide) rfl (fun ls hl => ?_)
        refine lv_goto (tgt := 2) hx hb dX6_mixWord_21 (by decide) ?_
        exact ih_lp (qN + 1) z11 g3 g6 g7 (by omega) (by omega) _ _ hH ls (lv_sub hl [1, 2, 0] rfl)
  exact lp _ 0 x11 f3 f6 f7 (Nat.zero_le _) (Nat.lt_succ_self _) _ _ hH ls (lv_sub hl [1, 2, 0] rfl)
theorem hdv_X6_digest : yX6_digest.cls = RX6 ∧ yX6_digest.cls ≠ "java/lang/invoke/MethodHandle" ∧ yX6_digest.cls ≠ "java/lang/invoke/VarHandle" ∧ (parseMethodDescriptor yX6_digest.desc).map (fun d => d.parameters.length) = some 0 := by decide +kernel
theorem c_X6_digest (hE : EnvOK G E) (hR : ROk f1) : MU vJ l G E yX6_digest cX6_digest 3 (some .long) 10 0 0 [.ref (a 0)] (mw G a x4 x5 x7 x8 x11 x15 f1 f2 f3 f4 f5 f6 f7 f8 f9 f10 f11 h ++ wr) (fun r w => ∃ z11 g3 g6 g7 z9, r = digJ f1 x7 x4 ∧ w = mw G a x4 (nI 0) x7 x8 z11 x15 f1 f2 g3 f4 f5 g6 g7 f8 f9 f10 f11 z9 ++ wr) := by
  refine MUl hE (by decide) (Nat.le_of_ble_eq_true rfl) (fun pR eV sT mI below meth cd QQ ls X hH hl ret => ?_)
  obtain ⟨⟨hx, hb, hml, hown, hts⟩, ⟨hr, hlk⟩, -, -, -⟩ := id X
  have hl : lv_has ls 3 [(0, .ref (a 0))] := hl
  refine wgen (H := sT.heap) (locs := []) hH (fun H locs hH => ?_)
  have hm := hR.s1
  have hm7 := hR.w1
  refine lv_aload_n hx hb dX6_digest_0 rfl (lv_at hl 0 rfl) ?_
  refine lv_iconst (v := nI 0) hx hb dX6_digest_1 (by decide) ?_
  refine m_p5 X hH dX6_digest_2 (fun H locs hH => ?_)
  refine lv_aload_n hx hb dX6_digest_5 rfl (lv_at hl 0 rfl) ?_
  refine lv_ldc2 (v := 3389) hx hb hown (hts _ q1775) dX6_digest_6 ?_
  refine m_p17 X hH dX6_digest_9 (fun H locs hH => ?_)
  refine lv_aload_n hx hb dX6_digest_12 rfl (lv_at hl 0 rfl) ?_
  refine lv_aload_n hx hb dX6_digest_13 rfl (lv_at hl 0 rfl) ?_
  refine m_g7 X hH.mp dX6_digest_14 ?_
  refine m_Mv (c_X6_mix hE) X hH (lw_V q1776 q1778 qs59 q72 q1779) hdv_X6_mix ⟨Nat.le_of_ble_eq_true rfl, Nat.le_of_ble_eq_true rfl⟩ ⟨Nat.le_refl _, Nat.le_refl _⟩ rfl hl.1 rfl (Nat.le_of_ble_eq_true rfl) dX6_digest_17 (fun w H locs hq hH => ?_)
  obtain rfl := hq
  refine lv_iconst (v := nI 0) hx hb dX6_digest_20 (by decide) ?_
  refine lv_istore_n (lv' := [(1, .int (nI 0)), (0, .ref (a 0))]) hx hb dX6_digest_21 rfl hl (by decide) rfl (fun ls hl => ?_)
  have ls1 : ∀ (fu : Nat) (qN : Nat) (f6v : Nat → Int32), (qN ≤ 9) → 9 - qN < fu → ∀ (H : Heap) (locs : List Loc), HH G sT (mw G a x4 (nI 0) x7 x8 x11 x15 f1 f2 f3 f4 f5 f6v f7 f8 f9 f10 f11 (mxV f1 (mixJ 3389 x7) qN) ++ wr) H locs → ∀ ls : Array Slot, lv_has ls 3 [(0, .ref (a 0)), (1, .int (nI qN))] → W pR l eV (Rm 10 0 0) sT mI ([.ref (a 0)] : List Value).toArray below meth cd H locs 0 0 QQ (F0 mI 22 ls []) := by
    intro fu
    induction fu with
    | zero => intro qN f6v hq hm; exact absurd hm (Nat.not_lt_zero _)
    | succ fu ih_ls1 =>
      intro qN f6v hq hm H locs hH ls hl
      refine lv_iload_n hx hb dX6_digest_22 rfl (lv_at hl 1 rfl) ?_
      refine lv_bipush (v := nI 9) hx hb dX6_digest_23 (by decide) ?_
      refine n_icmp_ge (tgt := 43) hx hb (by omega) (by omega) dX6_digest_25 (by decide) (fun c2 => ?_) (fun c2 => ?_)
      · have hq9 : qN = 9 := by omega
        subst hq9
        refine lv_iconst (v := nI 0) hx hb dX6_digest_43 (by decide) ?_
        refine lv_istore_n (lv' := [(1, .int (nI 0)), (0, .ref (a 0))]) hx hb dX6_digest_44 rfl hl (by decide) rfl (fun ls hl => ?_)
        have ls2 : ∀ (fu : Nat) (sN : Nat), (sN ≤ nS f1) → nS f1 - sN < fu → ∀ (H : Heap) (locs : List Loc), HH G sT (mw G a x4 (nI 0) x7 x8 x11 x15 f1 f2 f3 f4 f5 f6v f7 f8 f9 f10 f11 (mxSt f1 (mxV f1 (mixJ 3389 x7) 9) sN) ++ wr) H locs → ∀ ls : Array Slot, lv_has ls 3 [(0, .ref (a 0)), (1, .int (nI sN))] → W pR l eV (Rm 10 0 0) sT mI ([.ref (a 0)] : List Value).toArray below meth cd H locs 0 0 QQ (F0 mI 45 ls []) := by
          intro fu
          induction fu with
          | zero => intro sN hs hm; exact absurd hm (Nat.not_lt_zero _)
          | succ fu ih_ls2 =>
            intro sN hs hm H locs hH ls hl
            refine lv_iload_n hx hb dX6_digest_45 rfl (lv_at hl 1 rfl) ?_
            refine lv_aload_n hx hb dX6_digest_46 rfl (lv_at hl 0 rfl) ?_
            refine m_g0 X hH.mp dX6_digest_47 ?_
            refine lv_iconst (v := nI 0) hx hb dX6_digest_50 (by decide) ?_
            refine m_ld1 X hH.mp (by omega) dX6_digest_51 ?_
            refine n_top (y := nI (nS f1)) (hR.s0) ?_
            refine n_icmp_ge (tgt := 123) hx hb (by omega) (by omega) dX6_digest_52 (by decide) (fun c3 => ?_) (fun c3 => ?_)
            · have hse : nS f1 = sN := by omega
              rw [← hse] at hH
              refine lv_iconst (v := nI 0) hx hb dX6_digest_123 (by decide) ?_
              refine lv_istore_n (lv' := [(1, .int (nI 0)), (0, .ref (a 0))]) hx hb dX6_digest_124 rfl hl (by decide) rfl (fun ls hl => ?_)
              have ls5 : ∀ (fu : Nat) (wN : Nat) (x11u : Int32) (f3u : Nat → Int32) (f6u : Nat → Int32) (f7u : Nat → Int32), (wN ≤ nW f1) → nW f1 - wN < fu → ∀ (H : Heap) (locs : List Loc), HH G sT (mw G a x4 (nI 0) x7 x8 x11u x15 f1 f2 f3u f4 f5 f6u f7u f8 f9 f10 f11 (mxWd f1 (mxSt f1 (mxV f1 (mixJ 3389 x7) 9) (nS f1)) wN) ++ wr) H locs → ∀ ls : Array Slot, lv_has ls 3 [(0, .ref (a 0)), (1, .int (nI wN))] → W pR l eV (Rm 10 0 0) sT mI ([.ref (a 0)] : List Value).toArray below meth cd H locs 0 0 QQ (F0 mI 125 ls []) := by
                intro fu
                induction fu with
                | zero => intro wN x11u f3u f6u f7u hw hm; exact absurd hm (Nat.not_lt_zero _)
                | succ fu ih_ls5 =>
                  intro wN x11u f3u f6u f7u hw hm H locs hH ls hl
                  refine lv_iload_n hx hb dX6_digest_125 rfl (lv_at hl 1 rfl) ?_
                  refine lv_aload_n hx hb dX6_digest_126 rfl (lv_at hl 0 rfl) ?_
                  refine m_g0 X hH.mp dX6_digest_127 ?_
                  refine lv_iconst (v := nI 1) hx hb dX6_digest_130 (by decide) ?_
                  refine m_ld1 X hH.mp (by omega) dX6_digest_131 ?_
                  refine n_top (y := nI (nW f1)) (hR.w0) ?_
                  refine n_icmp_ge (tgt := 146) hx hb (by omega) (by omega) dX6_digest_132 (by decide) (fun c4 => ?_) (fun c4 => ?_)
                  · have hwe : nW f1 = wN := by omega
                    rw [← hwe] at hH
                    refine lv_aload_n hx hb dX6_digest_146 rfl (lv_at hl 0 rfl) ?_
                    refine lv_aload_n hx hb dX6_digest_147 rfl (lv_at hl 0 rfl) ?_
                    refine m_Mi (c_X6_smallest hE hR) X hH (lw_V q1716 q1718 qs51 q72 q1719) hdv_X6_smallest ⟨Nat.le_of_ble_eq_true rfl, Nat.le_of_ble_eq_true rfl⟩ ⟨Nat.le_refl _, Nat.le_refl _⟩ rfl hl.1 rfl (Nat.le_of_ble_eq_true rfl) dX6_digest_148 (fun r w H locs hq hH => ?_)
                    obtain ⟨g6, rfl, rfl⟩ := hq
                    refine m_Mv (c_X6_mix hE) X hH (lw_V q1776 q1778 qs59 q72 q1779) hdv_X6_mix ⟨Nat.le_of_ble_eq_true rfl, Nat.le_of_ble_eq_true rfl⟩ ⟨Nat.le_refl _, Nat.le_refl _⟩ rfl hl.1 rfl (Nat.le_of_ble_eq_true rfl) dX6_digest_151 (fun w H locs hq hH => ?_)
                    obtain rfl := hq
                    refine lv_aload_n hx hb dX6_digest_154 rfl (lv_at hl 0 rfl) ?_
                    refine lv_aload_n hx hb dX6_digest_155 rfl (lv_at hl 0 rfl) ?_
                    refine m_g4 X hH.mp dX6_digest_156 ?_
                    refine m_Mv (c_X6_mix hE) X hH (lw_V q1776 q1778 qs59 q72 q1779) hdv_X6_mix ⟨Nat.le_of_ble_eq_true rfl, Nat.le_of_ble_eq_true rfl⟩ ⟨Nat.le_refl _, Nat.le_refl _⟩ rfl hl.1 rfl (Nat.le_of_ble_eq_true rfl) dX6_digest_159 (fun w H locs hq hH => ?_)
                    obtain rfl := hq
                    refine lv_aload_n hx hb dX6_digest_162 rfl (lv_at hl 0 rfl) ?_
                    refine m_g17 X hH.mp dX6_digest_163 ?_
                    exact ret _ _ _ _ _ _ _ _ hH (⟨_, _, _, _, _, rfl, rfl⟩) (Nat.le_refl _) (Nat.le_refl _) dX6_digest_166
                  · refine lv_aload_n hx hb dX6_digest_135 rfl (lv_at hl 0 rfl) ?_
                    refine lv_iload_n hx hb dX6_digest_136 rfl (lv_at hl 1 rfl) ?_
                    refine m_Mv (c_X6_mixWord hE hR c4) X hH (lw_V q1781 q1783 qs60 q72 q1784) hdv_X6_mixWord ⟨Nat.le_of_ble_eq_true rfl, Nat.le_of_ble_eq_true rfl⟩ ⟨Nat.le_refl _, Nat.le_refl _⟩ rfl hl.1 rfl (Nat.le_of_ble_eq_true rfl) dX6_digest_137 (fun w H locs hq hH => ?_)
                    obtain ⟨z11, g3, g6, g7, rfl⟩ := hq
                    refine lv_iinc (v := nI (wN + 1)) (lv' := [(1, .int (nI (wN + 1))), (0, .ref (a 0))]) hx hb dX6_digest_140 hl (k := 1) rfl (nI_add _ 1) (by decide) rfl (fun ls hl => ?_)
                    refine lv_goto (tgt := 125) hx hb dX6_digest_143 (by decide) ?_
                    exact ih_ls5 (wN + 1) z11 g3 g6 g7 (by omega) (by omega) _ _ hH ls (lv_sub hl [1, 0] rfl)
              exact ls5 _ 0 x11 f3 f6v f7 (Nat.zero_le _) (Nat.lt_succ_self _) _ _ hH ls (lv_sub hl [1, 0] rfl)
            · have hL := hR.sl1 c3
              refine lv_iconst (v := nI 0) hx hb dX6_digest_55 (by decide) ?_
              refine lv_istore_n (lv' := [(2, .int (nI 0)), (0, .ref (a 0)), (1, .int (nI sN))]) hx hb dX6_digest_56 rfl hl (by decide) rfl (fun ls hl => ?_)
              have ls3 : ∀ (fu : Nat) (qM : Nat), (qM ≤ 6) → 6 - qM < fu → ∀ (H : Heap) (locs : List Loc), HH G sT (mw G a x4 (nI 0) x7 x8 x11 x15 f1 f2 f3 f4 f5 f6v f7 f8 f9 f10 f11 (mxS f1 sN (mxSt f1 (mxV f1 (mixJ 3389 x7) 9) sN) qM) ++ wr) H locs → ∀ ls : Array Slot, lv_has ls 3 [(0, .ref (a 0)), (1, .int (nI sN)), (2, .int (nI qM))] → W pR l eV (Rm 10 0 0) sT mI ([.ref (a 0)] : List Value).toArray below meth cd H locs 0 0 QQ (F0 mI 57 ls []) := by
                intro fu
                induction fu with
                | zero => intro qM hqm hm; exact absurd hm (Nat.not_lt_zero _)
                | succ fu ih_ls3 =>
                  intro qM hqm hm H locs hH ls hl
                  refine lv_iload_n hx hb dX6_digest_57 rfl (lv_at hl 2 rfl) ?_
                  refine lv_bipush (v := nI 6) hx hb dX6_digest_58 (by decide) ?_
                  refine n_icmp_ge (tgt := 79) hx hb (by omega) (by omega) dX6_digest_60 (by decide) (fun c5 => ?_) (fun c5 => ?_)
                  · have hq6 : qM = 6 := by omega
                    subst hq6
                    refine lv_iconst (v := nI 0) hx hb dX6_digest_79 (by decide) ?_
                    refine lv_istore_n (lv' := [(2, .int (nI 0)), (0, .ref (a 0)), (1, .int (nI sN))]) hx hb dX6_digest_80 rfl hl (by decide) rfl (fun ls hl => ?_)
                    have ls4 : ∀ (fu : Nat) (kN : Nat), (kN ≤ sL f1 sN) → 6 - kN < fu → ∀ (H : Heap) (locs : List Loc), HH G sT (mw G a x4 (nI 0) x7 x8 x11 x15 f1 f2 f3 f4 f5 f6v f7 f8 f9 f10 f11 (mxL f1 (7 + 9 * sN + 1) (mxS f1 sN (mxSt f1 (mxV f1 (mixJ 3389 x7) 9) sN) 6) kN) ++ wr) H locs → ∀ ls : Array Slot, lv_has ls 3 [(0, .ref (a 0)), (1, .int (nI sN)), (2, .int (nI kN))] → W pR l eV (Rm 10 0 0) sT mI ([.ref (a 0)] : List Value).toArray below meth cd H locs 0 0 QQ (F0 mI 81 ls []) := by
                      intro fu
                      induction fu with
                      | zero => intro kN hk hm; exact absurd hm (Nat.not_lt_zero _)
                      | succ fu ih_ls4 =>
                        intro kN hk hm H locs hH ls hl
                        refine lv_iload_n hx hb dX6_digest_81 rfl (lv_at hl 2 rfl) ?_
                        refine lv_aload_n hx hb dX6_digest_82 rfl (lv_at hl 0 rfl) ?_
                        refine m_g0 X hH.mp dX6_digest_83 ?_
                        refine lv_iload_n hx hb dX6_digest_86 rfl (lv_at hl 1 rfl) ?_
                        refine m_S (c_X6_stampAt hE) X hH.2 (lw_S q1551 q1552 q72 q1553) hds_X6_stampAt ⟨Nat.le_of_ble_eq_true rfl, Nat.le_of_ble_eq_true rfl⟩ ⟨Nat.le_refl _, Nat.le_refl _⟩ rfl hl.1 rfl (Nat.le_of_ble_eq_true rfl) dX6_digest_87 ?_
                        refine m_ld1 X hH.mp (by omega) dX6_digest_90 ?_
                        refine n_top (y := nI (sL f1 sN)) (hR.sl c3) ?_
                        refine n_icmp_ge (tgt := 117) hx hb (by omega) (by omega) dX6_digest_91 (by decide) (fun c6 => ?_) (fun c6 => ?_)
                        · have hke : sL f1 sN = kN := by omega
                          rw [← hke] at hH
                          refine lv_iinc (v := nI (sN + 1)) (lv' := [(1, .int (nI (sN + 1))), (0, .ref (a 0)), (2, .int (nI kN))]) hx hb dX6_digest_117 hl (k := 1) rfl (nI_add _ 1) (by decide) rfl (fun ls hl => ?_)
                          refine lv_goto (tgt := 45) hx hb dX6_digest_120 (by decide) ?_
                          exact ih_ls2 (sN + 1)  (by omega) (by omega) _ _ hH ls (lv_sub hl [1, 0] rfl)
                        · refine lv_aload_n hx hb dX6_digest_94 rfl (lv_at hl 0 rfl) ?_
                          refine lv_aload_n hx hb dX6_digest_95 rfl (lv_at hl 0 rfl) ?_
                          refine m_g0 X hH.mp dX6_digest_96 ?_
                          refine lv_iload_n hx hb dX6_digest_99 rfl (lv_at hl 1 rfl) ?_
                          refine m_S (c_X6_stampAt hE) X hH.2 (lw_S q1551 q1552 q72 q1553) hds_X6_stampAt ⟨Nat.le_of_ble_eq_true rfl, Nat.le_of_ble_eq_true rfl⟩ ⟨Nat.le_refl _, Nat.le_refl _⟩ rfl hl.1 rfl (Nat.le_of_ble_eq_true rfl) dX6_digest_100 ?_
                          refine lv_iconst (v := nI 1) hx hb dX6_digest_103 (by decide) ?_
                          refine n_iadd hx hb dX6_digest_104 ?_
                          refine lv_iload_n hx hb dX6_digest_105 rfl (lv_at hl 2 rfl) ?_
                          refine n_iadd hx hb dX6_digest_106 ?_
                          refine m_ld1 X hH.mp (by omega) dX6_digest_107 ?_
                          refine m_Mv (c_X6_mix hE) X hH (lw_V q1776 q1778 qs59 q72 q1779) hdv_X6_mix ⟨Nat.le_of_ble_eq_true rfl, Nat.le_of_ble_eq_true rfl⟩ ⟨Nat.le_refl _, Nat.le_refl _⟩ rfl hl.1 rfl (Nat.le_of_ble_eq_true rfl) dX6_digest_108 (fun w H locs hq hH => ?_)
                          obtain rfl := hq
                          refine lv_iinc (v := nI (kN + 1)) (lv' := [(2, .int (nI (kN + 1))), (0, .ref (a 0)), (1, .int (nI sN))]) hx hb dX6_digest_111 hl (k := 2) rfl (nI_add _ 1) (by decide) rfl (fun ls hl => ?_)
                          refine lv_goto (tgt := 81) hx hb dX6_digest_114 (by decide) ?_
                          exact ih_ls4 (kN + 1)  (by omega) (by omega) _ _ hH ls (lv_sub hl [1, 2, 0] rfl)
                    exact ls4 _ 0  (Nat.zero_le _) (Nat.lt_succ_self _) _ _ hH ls (lv_sub hl [1, 2, 0] rfl)
                  · refine lv_aload_n hx hb dX6_digest_63 rfl (lv_at hl 0 rfl) ?_
                    refine lv_aload_n hx hb dX6_digest_64 rfl (lv_at hl 0 rfl) ?_
                    refine lv_iload_n hx hb dX6_digest_65 rfl (lv_at hl 1 rfl) ?_
                    refine lv_iload_n hx hb dX6_digest_66 rfl (lv_at hl 2 rfl) ?_
                    refine m_R (c_X6_tellStamp hE hR c3 (by omega)) X hH.2 hH.mp (lw_V q1664 q1666 qs45 q72 q1667) hdv_X6_tellStamp ⟨Nat.le_of_ble_eq_true rfl, Nat.le_of_ble_eq_true rfl⟩ ⟨Nat.le_refl _, Nat.le_refl _⟩ rfl hl.1 rfl (Nat.le_of_ble_eq_true rfl) dX6_digest_67 ?_
                    refine m_Mv (c_X6_mix hE) X hH (lw_V q1776 q1778 qs59 q72 q1779) hdv_X6_mix ⟨Nat.le_of_ble_eq_true rfl, Nat.le_of_ble_eq_true rfl⟩ ⟨Nat.le_refl _, Nat.le_refl _⟩ rfl hl.1 rfl (Nat.le_of_ble_eq_true rfl) dX6_digest_70 (fun w H locs hq hH => ?_)
                    obtain rfl := hq
                    refine lv_iinc (v := nI (qM + 1)) (lv' := [(2, .int (nI (qM + 1))), (0, .ref (a 0)), (1, .int (nI sN))]) hx hb dX6_digest_73 hl (k := 2) rfl (nI_add _ 1) (by decide) rfl (fun ls hl => ?_)
                    refine lv_goto (tgt := 57) hx hb dX6_digest_76 (by decide) ?_
                    exact ih_ls3 (qM + 1)  (by omega) (by omega) _ _ hH ls (lv_sub hl [1, 2, 0] rfl)
              exact ls3 _ 0  (Nat.zero_le _) (Nat.lt_succ_self _) _ _ hH ls (lv_sub hl [1, 2, 0] rfl)
        exact ls2 _ 0  (Nat.zero_le _) (Nat.lt_succ_self _) _ _ hH ls (lv_sub hl [1, 0] rfl)
      · refine lv_aload_n hx hb dX6_digest_28 rfl (lv_at hl 0 rfl) ?_
        refine lv_aload_n hx hb dX6_digest_29 rfl (lv_at hl 0 rfl) ?_
        refine lv_iload_n hx hb dX6_digest_30 rfl (lv_at hl 1 rfl) ?_
        refine m_Mi (c_X6_tellValue (qN := qN) hE hR (by omega)) X hH (lw_V q1617 q1619 qs35 q72 q1620) hdv_X6_tellValue ⟨Nat.le_of_ble_eq_true rfl, Nat.le_of_ble_eq_true rfl⟩ ⟨Nat.le_refl _, Nat.le_refl _⟩ rfl hl.1 rfl (Nat.le_of_ble_eq_true rfl) dX6_digest_31 (fun r w H locs hq hH => ?_)
        obtain ⟨g6, rfl, rfl⟩ := hq
        refine m_Mv (c_X6_mix hE) X hH (lw_V q1776 q1778 qs59 q72 q1779) hdv_X6_mix ⟨Nat.le_of_ble_eq_true rfl, Nat.le_of_ble_eq_true rfl⟩ ⟨Nat.le_refl _, Nat.le_refl _⟩ rfl hl.1 rfl (Nat.le_of_ble_eq_true rfl) dX6_digest_34 (fun w H locs hq hH => ?_)
        obtain rfl := hq
        refine lv_iinc (v := nI (qN + 1)) (lv' := [(1, .int (nI (qN + 1))), (0, .ref (a 0))]) hx hb dX6_digest_37 hl (k := 1) rfl (nI_add _ 1) (by decide) rfl (fun ls hl => ?_)
        refine lv_goto (tgt := 22) hx hb dX6_digest_40 (by decide) ?_
        exact ih_ls1 (qN + 1) g6 (by omega) (by omega) _ _ hH ls (lv_sub hl [1, 0] rfl)
  exact ls1 _ 0 f6 (Nat.zero_le _) (Nat.lt_succ_self _) _ _ hH ls (lv_sub hl [1, 0] rfl)
end
