/-! MODEL, methods 12: orders -/
/-! SPEC 3: the search for the order with the fewest cleanings -/
abbrev Acc : Type := Int32 × (Nat → Nat)
/-- word w at place p of a path tr, the row R ahead of it -/
def stepW (n : Nat) (had : Int32) (p : Nat) (rec : (Nat → Int32) → (Nat → Nat) → Acc → Acc) (R : Nat → Int32) (tr : Nat → Nat) (w : Nat) (acc : Acc) : Acc :=
  if allB p (fun k => decide (tr k ≠ w)) && wrB R w (frM R) && (decide (acc.1 = -1) || decide (wroR R w 6 - had < acc.1)) then
    (if p + 1 = n then (wroR R w 6 - had, va_up tr p w) else rec (wroR R w) (va_up tr p w) acc) else acc
/-- the last j words at place p -/
def foldT (n : Nat) (had : Int32) (p : Nat) (rec : (Nat → Int32) → (Nat → Nat) → Acc → Acc) (R : Nat → Int32) (tr : Nat → Nat) : Nat → Acc → Acc
  | 0, acc => acc
  | j + 1, acc => foldT n had p rec R tr j (stepW n had p rec R tr (n - (j + 1)) acc)
def srD (n : Nat) (had : Int32) : Nat → (Nat → Int32) → (Nat → Nat) → Acc → Acc
  | 0, _, _, acc => acc
  | d + 1, R, tr, acc => foldT n had (n - (d + 1)) (srD n had d) R tr n acc
def pth (c : Nat → Nat) (q : Nat) : Nat → Nat := fun k => if k < q then c k - 1 else 0
/-- what is left to do with q places begun: at place i the words below c i are done, A i is the row there -/
def remF (n : Nat) (had : Int32) (A : Nat → Nat → Int32) (c : Nat → Nat) : Nat → Acc → Acc
  | 0, acc => acc
  | q + 1, acc => remF n had A c q (foldT n had q (srD n had (n - 1 - q)) (A q) (pth c q) (n - c q) acc)
def ordA (R : Nat → Int32) : Acc := if nW R = 0 then (0, fun _ => 0) else srD (nW R) (R 6) (nW R) R (fun _ => 0) (-1, fun _ => 0)
def msF (n : Nat) (c : Nat → Nat) : Nat → Nat
  | 0 => 0
  | q + 1 => msF n c q + (n + 1 - c q) * 10 ^ (7 - q)
theorem pth_congr {c c' : Nat → Nat} {q : Nat} (h : ∀ i, i < q → c' i = c i) : pth c' q = pth c q := by
  funext k
  unfold pth
  split
  · next e => rw [h k e]
  · rfl
theorem remF_congr {n : Nat} {had : Int32} {A A' : Nat → Nat → Int32} {c c' : Nat → Nat} : ∀ q acc, (∀ i, i < q → c' i = c i ∧ A' i = A i) → remF n had A' c' q acc = remF n had A c q acc := by
  intro q
  induction q with
  | zero => intro acc _; rfl
  | succ q ih =>
    intro acc h
    rw [remF, remF, (h q (by omega)).1, (h q (by omega)).2, pth_congr (fun i hi => (h i (by omega)).1)]
    exact ih _ (fun i hi => h i (by omega))
theorem msF_congr {n : Nat} {c c' : Nat → Nat} : ∀ q, (∀ i, i < q → c' i = c i) → msF n c' q = msF n c q := by
  intro q
  induction q with
  | zero => intro _; rfl
  | succ q ih => intro h; rw [msF, msF, h q (by omega), ih (fun i hi => h i (by omega))]
theorem rem_pop {n : Nat} {had : Int32} {A : Nat → Nat → Int32} {c : Nat → Nat} {q : Nat} {acc : Acc} (h : n ≤ c q) : remF n had A c (q + 1) acc = remF n had A c q acc := by
  rw [remF, show n - c q = 0 by omega]; rfl
theorem rem_step {n : Nat} {had : Int32} {A : Nat → Nat → Int32} {c : Nat → Nat} {q : Nat} {acc : Acc} (h : c q < n) : remF n had A c (q + 1) acc = remF n had A (va_up c q (c q + 1)) (q + 1) (stepW n had q (srD n had (n - 1 - q)) (A q) (pth c q) (c q) acc) := by
  obtain ⟨j, hj⟩ : ∃ j, n - c q = j + 1 := ⟨n - c q - 1, by omega⟩
  have e1 : pth (va_up c q (c q + 1)) q = pth c q := pth_congr (fun i hi => va_up_ne _ _ (by omega))
  rw [remF, remF, e1, va_up_self, hj, foldT, show n - (c q + 1) = j by omega, show n - (j + 1) = c q by omega]
  exact (remF_congr q _ (fun i hi => ⟨va_up_ne _ _ (by omega), rfl⟩)).symm
theorem rem_push {n : Nat} {had : Int32} {A : Nat → Nat → Int32} {c : Nat → Nat} {q w : Nat} {R' : Nat → Int32} {acc : Acc} (h : q + 1 < n) : remF n had (va_up A (q + 1) R') (va_up (va_up c q (w + 1)) (q + 1) 0) (q + 1 + 1) acc = remF n had A (va_up c q (w + 1)) (q + 1) (srD n had (n - 1 - q) R' (va_up (pth c q) q w) acc) := by
  obtain ⟨d, hd⟩ : ∃ d, n - 1 - q = d + 1 := ⟨n - 1 - q - 1, by omega⟩
  have e1 : pth (va_up (va_up c q (w + 1)) (q + 1) 0) (q + 1) = va_up (pth c q) q w := by
    funext k
    unfold pth va_up
    dsimp only
    by_cases h1 : k = q
    · rw [if_pos (by omega), if_neg (by omega), if_pos h1, if_pos h1]; rfl
    · by_cases h2 : k < q
      · rw [if_pos (by omega), if_neg (by omega), if_neg h1, if_neg h1, if_pos h2]
      · rw [if_neg (by omega), if_neg h1, if_neg h2]
  rw [remF, e1, va_up_self, va_up_self, Nat.sub_zero, hd, srD, show n - (d + 1) = q + 1 by omega, show n - 1 - (q + 1) = d by omega]
  exact remF_congr (q + 1) _ (fun i hi => ⟨va_up_ne _ _ (by omega), va_up_ne _ _ (by omega)⟩)
theorem p10 {q : Nat} (h : q < 7) : 10 ^ (7 - q) = 10 * 10 ^ (7 - (q + 1)) := by
  rw [show 7 - q = 7 - (q + 1) + 1 by omega, Nat.pow_succ, Nat.mul_comm]
theorem ms_step {n : Nat} {c : Nat → Nat} {q : Nat} (h : c q ≤ n) : msF n (va_up c q (c q + 1)) (q + 1) < msF n c (q + 1) := by
  rw [msF, msF, msF_congr (c := c) (c' := va_up c q (c q + 1)) q (fun i hi => va_up_ne _ _ (by omega)), va_up_self]
  have hp : 0 < 10 ^ (7 - q) := Nat.pow_pos (by decide)
  have : (n + 1 - (c q + 1)) * 10 ^ (7 - q) + 10 ^ (7 - q) = (n + 1 - c q) * 10 ^ (7 - q) := by
    rw [← Nat.succ_mul]; congr 1; omega
  omega
theorem ms_pop {n : Nat} {c : Nat → Nat} {q : Nat} (h : c q ≤ n) : msF n c q < msF n c (q + 1) := by
  rw [msF]
  have hp : 0 < (n + 1 - c q) * 10 ^ (7 - q) := Nat.mul_pos (by omega) (Nat.pow_pos (by decide))
  omega
theorem ms_push {n : Nat} {c : Nat → Nat} {q : Nat} (h : c q ≤ n) (hn : n ≤ 7) (hq : q < 6) : msF n (va_up (va_up c q (c q + 1)) (q + 1) 0) (q + 1 + 1) < msF n c (q + 1) := by
  rw [msF, msF_congr (c := va_up c q (c q + 1)) (c' := va_up (va_up c q (c q + 1)) (q + 1) 0) (q + 1) (fun i hi => va_up_ne _ _ (show i ≠ q + 1 by omega)), va_up_self, msF, msF, msF_congr (c := c) (c' := va_up c q (c q + 1)) q (fun i hi => va_up_ne _ _ (by omega)), va_up_self, p10 (q := q) (by omega)]
  have hp : 0 < 10 ^ (7 - (q + 1)) := Nat.pow_pos (by decide)
  generalize 10 ^ (7 - (q + 1)) = z at hp ⊢
  have h1 : (n + 1 - 0) * z ≤ 8 * z := Nat.mul_le_mul_right _ (by omega)
  have h2 : (n + 1 - (c q + 1)) * (10 * z) + 10 * z = (n + 1 - c q) * (10 * z) := by rw [← Nat.succ_mul]; congr 1; omega
  omega
theorem step_no {n : Nat} {had : Int32} {p : Nat} {rec : (Nat → Int32) → (Nat → Nat) → Acc → Acc} {R : Nat → Int32} {tr : Nat → Nat} {w : Nat} {acc : Acc} (h : (allB p (fun k => decide (tr k ≠ w)) && wrB R w (frM R) && (decide (acc.1 = -1) || decide (wroR R w 6 - had < acc.1))) = false) : stepW n had p rec R tr w acc = acc := by
  unfold stepW
  rw [h]; rfl
theorem step_yes {n : Nat} {had : Int32} {p : Nat} {rec : (Nat → Int32) → (Nat → Nat) → Acc → Acc} {R : Nat → Int32} {tr : Nat → Nat} {w : Nat} {acc : Acc} (h : (allB p (fun k => decide (tr k ≠ w)) && wrB R w (frM R) && (decide (acc.1 = -1) || decide (wroR R w 6 - had < acc.1))) = true) : stepW n had p rec R tr w acc = if p + 1 = n then (wroR R w 6 - had, va_up tr p w) else rec (wroR R w) (va_up tr p w) acc := by
  unfold stepW
  rw [h]; rfl
theorem m1p1 (x : Int32) : x + (-1) + nI 1 = x := by
  rw [Int32.add_assoc]; exact Int32.add_zero x
def usdB (f : Nat → Int32) (p : Nat) : Bool := !allB p (fun k => decide (f k ≠ f p))
section
variable {l : Launch} {G : GG} {E : State → Prop} {a : Nat → Nat} {x4 x5 x7 x8 x11 x15 : Int32} {f1 f2 f3 f4 f5 f6 f7 f8 f9 f10 f11 : Nat → Int32} {h : Int64} {wr : va_W}
theorem hdv_X6_isUsed : yX6_isUsed.cls = RX6 ∧ yX6_isUsed.cls ≠ "java/lang/invoke/MethodHandle" ∧ yX6_isUsed.cls ≠ "java/lang/invoke/VarHandle" ∧ (parseMethodDescriptor yX6_isUsed.desc).map (fun d => d.parameters.length) = some 1 := by decide +kernel
theorem c_X6_isUsed (hE : EnvOK G E) {pN : Nat} (hp : pN < 7) : RO l G E yX6_isUsed cX6_isUsed 4 .boolean 1 [.ref (a 0), .int (nI pN)] (va_P G.1 cls (mw G a x4 x5 x7 x8 x11 x15 f1 f2 f3 f4 f5 f6 f7 f8 f9 f10 f11 h)) (.int (bI (usdB f8 pN))) := by
  refine ROz hE (by decide) (Nat.le_of_ble_eq_true rfl) (bI_nar _) (fun pR eV sT mI below meth cd QQ ls X hP hl ret => ?_)
  obtain ⟨⟨hx, hb, hml, hown, hts⟩, ⟨hr, hlk⟩, -, -, -⟩ := id X
  have hl : lv_has ls 4 [(0, .ref (a 0)), (1, .int (nI pN))] := hl
  refine lv_iconst (v := nI 0) hx hb dX6_isUsed_0 (by decide) ?_
  refine lv_istore_n (lv' := [(2, .int (nI 0)), (0, .ref (a 0)), (1, .int (nI pN))]) hx hb dX6_isUsed_1 rfl hl (by decide) rfl (fun ls hl => ?_)
  refine lv_iconst (v := nI 0) hx hb dX6_isUsed_2 (by decide) ?_
  refine lv_istore_n (lv' := [(3, .int (nI 0)), (2, .int (nI 0)), (0, .ref (a 0)), (1, .int (nI pN))]) hx hb dX6_isUsed_3 rfl hl (by decide) rfl (fun ls hl => ?_)
  have hl : lv_has ls 4 [(3, .int (nI 0)), (2, .int (bI (!allB 0 (fun k => decide (f8 k ≠ f8 pN))))), (0, .ref (a 0)), (1, .int (nI pN))] := by rw [← (show (nI 0 : Int32) = bI (!allB 0 (fun k => decide (f8 k ≠ f8 pN))) from rfl)]; exact hl
  have lp : ∀ (fu : Nat) (kN : Nat), (kN ≤ pN) → pN - kN < fu → ∀ ls : Array Slot, lv_has ls 4 [(0, .ref (a 0)), (1, .int (nI pN)), (2, .int (bI (!allB kN (fun k => decide (f8 k ≠ f8 pN))))), (3, .int (nI kN))] → W pR l eV (Rm 1 0 0) sT mI ([.ref (a 0), .int (nI pN)] : List Value).toArray below meth cd sT.heap [] 0 0 QQ (F0 mI 4 ls []) := by
    intro fu
    induction fu with
    | zero => intro kN hk hm; exact absurd hm (Nat.not_lt_zero _)
    | succ fu ih_lp =>
      intro kN hk hm  ls hl
      refine lv_iload_n hx hb dX6_isUsed_4 rfl (lv_at hl 3 rfl) ?_
      refine lv_iload_n hx hb dX6_isUsed_5 rfl (lv_at hl 1 rfl) ?_
      refine n_icmp_ge (tgt := 40) hx hb (by omega) (by omega) dX6_isUsed_6 (by decide) (fun c1 => ?_) (fun c1 => ?_)
      · refine lv_iload_n hx hb dX6_isUsed_40 rfl (lv_at hl 2 rfl) ?_
        exact ret _ _ _ (by unfold usdB; rw [show pN = kN by omega]) dX6_isUsed_41
      · refine lv_iload_n hx hb dX6_isUsed_9 rfl (lv_at hl 2 rfl) ?_
        refine b_if_ne (tgt := 28) hx hb dX6_isUsed_10 (by decide) (fun c2 => ?_) (fun c2 => ?_)
        · refine lv_iconst (v := nI 1) hx hb dX6_isUsed_28 (by decide) ?_
          refine lv_goto (tgt := 33) hx hb dX6_isUsed_29 (by decide) ?_
          refine n_top (y := bI (!allB (kN + 1) (fun k => decide (f8 k ≠ f8 pN)))) (bI_t (by rw [allB]; simp only [Bool.not_and, c2, Bool.true_or])) ?_
          refine lv_istore_n (lv' := [(2, .int (bI (!allB (kN + 1) (fun k => decide (f8 k ≠ f8 pN))))), (0, .ref (a 0)), (1, .int (nI pN)), (3, .int (nI kN))]) hx hb dX6_isUsed_33 rfl hl (by decide) rfl (fun ls hl => ?_)
          refine lv_iinc (v := nI (kN + 1)) (lv' := [(3, .int (nI (kN + 1))), (2, .int (bI (!allB (kN + 1) (fun k => decide (f8 k ≠ f8 pN))))), (0, .ref (a 0)), (1, .int (nI pN))]) hx hb dX6_isUsed_34 hl (k := 3) rfl (nI_add _ 1) (by decide) rfl (fun ls hl => ?_)
          refine lv_goto (tgt := 4) hx hb dX6_isUsed_37 (by decide) ?_
          exact ih_lp (kN + 1)  (by omega) (by omega) ls (lv_sub hl [2, 3, 1, 0] rfl)
        · refine lv_aload_n hx hb dX6_isUsed_13 rfl (lv_at hl 0 rfl) ?_
          refine m_g12 X hP dX6_isUsed_14 ?_
          refine lv_iload_n hx hb dX6_isUsed_17 rfl (lv_at hl 3 rfl) ?_
          refine m_ld8 X hP (by omega) dX6_isUsed_18 ?_
          refine lv_aload_n hx hb dX6_isUsed_19 rfl (lv_at hl 0 rfl) ?_
          refine m_g12 X hP dX6_isUsed_20 ?_
          refine lv_iload_n hx hb dX6_isUsed_23 rfl (lv_at hl 1 rfl) ?_
          refine m_ld8 X hP (by omega) dX6_isUsed_24 ?_
          refine lv_icmp_ne (tgt := 32) hx hb dX6_isUsed_25 (by decide) (fun c3 => ?_) (fun c3 => ?_)
          · refine lv_iconst (v := nI 0) hx hb dX6_isUsed_32 (by decide) ?_
            refine n_top (y := bI (!allB (kN + 1) (fun k => decide (f8 k ≠ f8 pN)))) (bI_f (by rw [allB, Bool.not_and, c2, Bool.false_or, decide_eq_true c3]; rfl)) ?_
            refine lv_istore_n (lv' := [(2, .int (bI (!allB (kN + 1) (fun k => decide (f8 k ≠ f8 pN))))), (0, .ref (a 0)), (1, .int (nI pN)), (3, .int (nI kN))]) hx hb dX6_isUsed_33 rfl hl (by decide) rfl (fun ls hl => ?_)
            refine lv_iinc (v := nI (kN + 1)) (lv' := [(3, .int (nI (kN + 1))), (2, .int (bI (!allB (kN + 1) (fun k => decide (f8 k ≠ f8 pN))))), (0, .ref (a 0)), (1, .int (nI pN))]) hx hb dX6_isUsed_34 hl (k := 3) rfl (nI_add _ 1) (by decide) rfl (fun ls hl => ?_)
            refine lv_goto (tgt := 4) hx hb dX6_isUsed_37 (by decide) ?_
            exact ih_lp (kN + 1)  (by omega) (by omega) ls (lv_sub hl [2, 3, 1, 0] rfl)
          · refine lv_iconst (v := nI 1) hx hb dX6_isUsed_28 (by decide) ?_
            refine lv_goto (tgt := 33) hx hb dX6_isUsed_29 (by decide) ?_
            refine n_top (y := bI (!allB (kN + 1) (fun k => decide (f8 k ≠ f8 pN)))) (bI_t (by rw [allB, Bool.not_and, c2, Bool.false_or, decide_eq_false (fun z => z c3)]; rfl)) ?_
            refine lv_istore_n (lv' := [(2, .int (bI (!allB (kN + 1) (fun k => decide (f8 k ≠ f8 pN))))), (0, .ref (a 0)), (1, .int (nI pN)), (3, .int (nI kN))]) hx hb dX6_isUsed_33 rfl hl (by decide) rfl (fun ls hl => ?_)
            refine lv_iinc (v := nI (kN + 1)) (lv' := [(3, .int (nI (kN + 1))), (2, .int (bI (!allB (kN + 1) (fun k => decide (f8 k ≠ f8 pN))))), (0, .ref (a 0)), (1, .int (nI pN))]) hx hb dX6_isUsed_34 hl (k := 3) rfl (nI_add _ 1) (by decide) rfl (fun ls hl => ?_)
            refine lv_goto (tgt := 4) hx hb dX6_isUsed_37 (by decide) ?_
            exact ih_lp (kN + 1)  (by omega) (by omega) ls (lv_sub hl [2, 3, 1, 0] rfl)
  exact lp _ 0  (Nat.zero_le _) (Nat.lt_succ_self _) ls (lv_sub hl [2, 3, 1, 0] rfl)
theorem hdv_X6_orders : yX6_orders.cls = RX6 ∧ yX6_orders.cls ≠ "java/lang/invoke/MethodHandle" ∧ yX6_orders.cls ≠ "java/lang/invoke/VarHandle" ∧ (parseMethodDescriptor yX6_orders.desc).map (fun d => d.parameters.length) = some 0 := by decide +kernel
theorem c_X6_orders (hE : EnvOK G E) (hR : ROk f1) : MU vI l G E yX6_orders cX6_orders 7 (some .boolean) 7 0 0 [.ref (a 0)] (mw G a x4 x5 x7 x8 x11 x15 f1 f2 f3 f4 f5 f6 f7 f8 f9 f10 f11 h ++ wr) (fun r w => ∃ z11 g3 g4 g6 g7 g8 g9 g10, ((ordA f1).1 ≠ -1 → ∀ k, k < nW f1 → g10 k = nI ((ordA f1).2 k)) ∧ r = bI (decide ((ordA f1).1 ≠ -1)) ∧ w = mw G a x4 x5 x7 x8 z11 ((ordA f1).1) f1 f2 g3 g4 f5 g6 g7 g8 g9 g10 f11 h ++ wr) := by
  refine MUz hE (by decide) (Nat.le_of_ble_eq_true rfl) (fun pR eV sT mI below meth cd QQ ls X hH hl ret => ?_)
  obtain ⟨⟨hx, hb, hml, hown, hts⟩, ⟨hr, hlk⟩, -, -, -⟩ := id X
  have hl : lv_has ls 7 [(0, .ref (a 0))] := hl
  refine wgen (H := sT.heap) (locs := []) hH (fun H locs hH => ?_)
  have hm7 := hR.w1
  refine lv_aload_n hx hb dX6_orders_0 rfl (lv_at hl 0 rfl) ?_
  refine m_g0 X hH.mp dX6_orders_1 ?_
  refine lv_iconst (v := nI 1) hx hb dX6_orders_4 (by decide) ?_
  refine m_ld1 X hH.mp (by omega) dX6_orders_5 ?_
  refine n_top (y := nI (nW f1)) (hR.w0) ?_
  refine lv_istore_n (lv' := [(1, .int (nI (nW f1))), (0, .ref (a 0))]) hx hb dX6_orders_6 rfl hl (by decide) rfl (fun ls hl => ?_)
  refine lv_aload_n hx hb dX6_orders_7 rfl (lv_at hl 1 rfl) ?_
  refine m_g0 X hH.mp dX6_orders_8 ?_
  refine lv_bipush (v := nI 6) hx hb dX6_orders_11 (by decide) ?_
  refine m_ld1 X hH.mp (by omega) dX6_orders_13 ?_
  refine lv_istore_n (lv' := [(2, .int (f1 6)), (1, .int (nI (nW f1))), (0, .ref (a 0))]) hx hb dX6_orders_14 rfl hl (by decide) rfl (fun ls hl => ?_)
  refine lv_aload_n hx hb dX6_orders_15 rfl (lv_at hl 2 rfl) ?_
  refine lv_iload_n hx hb dX6_orders_16 rfl (lv_at hl 1 rfl) ?_
  refine lv_if_ne (tgt := 24) hx hb dX6_orders_17 (by decide) (fun c0 => ?_) (fun c0 => ?_)
  · have hn1 : 0 < nW f1 := by rcases Nat.eq_zero_or_pos (nW f1) with q | q; exact absurd (by rw [q]; rfl) c0; exact q
    have hoe : ordA f1 = srD (nW f1) (f1 6) (nW f1) f1 (fun _ => 0) (-1, fun _ => 0) := by unfold ordA; rw [if_neg (by omega)]
    refine lv_iconst (v := (-1)) hx hb dX6_orders_24 (by decide) ?_
    refine m_p15 X hH dX6_orders_25 (fun H locs hH => ?_)
    refine lv_iload_n hx hb dX6_orders_28 rfl (lv_at hl 1 rfl) ?_
    refine lv_if_ne (tgt := 34) hx hb dX6_orders_29 (by decide) (fun c9 => ?_) (fun c9 => absurd c9 c0)
    refine lv_aload_n hx hb dX6_orders_34 rfl (lv_at hl 2 rfl) ?_
    refine m_Mv (c_X6_keeps hE) X hH (lw_V q1539 q1541 qs24 q72 q1542) hdv_X6_keeps ⟨Nat.le_of_ble_eq_true rfl, Nat.le_of_ble_eq_true rfl⟩ ⟨Nat.le_refl _, Nat.le_refl _⟩ rfl hl.1 rfl (Nat.le_of_ble_eq_true rfl) dX6_orders_35 (fun w H locs hq hH => ?_)
    obtain rfl := hq
    refine lv_iconst (v := nI 0) hx hb dX6_orders_38 (by decide) ?_
    refine lv_istore_n (lv' := [(3, .int (nI 0)), (2, .int (f1 6)), (1, .int (nI (nW f1))), (0, .ref (a 0))]) hx hb dX6_orders_39 rfl hl (by decide) rfl (fun ls hl => ?_)
    have lc : ∀ (fu : Nat) (kN : Nat) (f4v : Nat → Int32), (kN ≤ 195) → (∀ k, k < kN → f4v k = f1 k) → 195 - kN < fu → ∀ (H : Heap) (locs : List Loc), HH G sT (mw G a x4 x5 x7 x8 x11 (-1) f1 f2 f1 f4v f5 f6 f7 f8 f9 f10 f11 h ++ wr) H locs → ∀ ls : Array Slot, lv_has ls 7 [(0, .ref (a 0)), (1, .int (nI (nW f1))), (2, .int (f1 6)), (3, .int (nI kN))] → W pR l eV (Rm 7 0 0) sT mI ([.ref (a 0)] : List Value).toArray below meth cd H locs 0 0 QQ (F0 mI 40 ls []) := by
      intro fu
      induction fu with
      | zero => intro kN f4v hk hg hm; exact absurd hm (Nat.not_lt_zero _)
      | succ fu ih_lc =>
        intro kN f4v hk hg hm H locs hH ls hl
        refine lv_iload_n hx hb dX6_orders_40 rfl (lv_at hl 3 rfl) ?_
        refine lv_sipush (v := nI 195) hx hb dX6_orders_41 (by decide) ?_
        refine n_icmp_ge (tgt := 65) hx hb (by omega) (by omega) dX6_orders_44 (by decide) (fun c8 => ?_) (fun c8 => ?_)
        · have hH := m_cg4 (g := f1) (fun k hk => (hg k (by omega)).symm) hH
          refine lv_iconst (v := nI 0) hx hb dX6_orders_65 (by decide) ?_
          refine lv_istore_n (lv' := [(3, .int (nI 0)), (0, .ref (a 0)), (1, .int (nI (nW f1))), (2, .int (f1 6))]) hx hb dX6_orders_66 rfl hl (by decide) rfl (fun ls hl => ?_)
          refine lv_aload_n hx hb dX6_orders_67 rfl (lv_at hl 1 rfl) ?_
          refine lv_iconst (v := nI 0) hx hb dX6_orders_68 (by decide) ?_
          refine m_Mv (c_X6_lays (pN := 0) hE (by omega)) X hH (lw_V q1739 q1741 qs54 q72 q1742) hdv_X6_lays ⟨Nat.le_of_ble_eq_true rfl, Nat.le_of_ble_eq_true rfl⟩ ⟨Nat.le_refl _, Nat.le_refl _⟩ rfl hl.1 rfl (Nat.le_of_ble_eq_true rfl) dX6_orders_69 (fun w H locs hq hH => ?_)
          obtain ⟨g9, -, hg9, rfl⟩ := hq
          have lp : ∀ (fu : Nat) (qN : Nat) (c : Nat → Nat) (A : Nat → Nat → Int32) (o : Nat → Nat) (x11v : Int32) (x15v : Int32) (f1v : Nat → Int32) (f6v : Nat → Int32) (f7v : Nat → Int32) (f8v : Nat → Int32) (f9v : Nat → Int32) (f10v : Nat → Int32), (qN ≤ nW f1) → (∀ i, i < qN → c i ≤ nW f1) → (∀ i, i + 1 < qN → 1 ≤ c i) → (∀ i, i < qN → f8v i = nI (c i) + (-1)) → (∀ i, i < qN → ROk (A i) ∧ nW (A i) = nW f1 ∧ ∀ k, k < 195 → f9v (195 * i + k) = A i k) → (¬ x15v = -1 → ∀ k, k < nW f1 → f10v k = nI (o k)) → (srD (nW f1) (f1 6) (nW f1) f1 (fun _ => 0) (-1, fun _ => 0) = remF (nW f1) (f1 6) A c qN (x15v, o)) → msF (nW f1) c qN < fu → ∀ (H : Heap) (locs : List Loc), HH G sT (mw G a x4 x5 x7 x8 x11v x15v f1v f2 f1 f1 f5 f6v f7v f8v f9v f10v f11 h ++ wr) H locs → ∀ ls : Array Slot, lv_has ls 7 [(0, .ref (a 0)), (1, .int (nI (nW f1))), (2, .int (f1 6)), (3, .int (nI qN + (-1)))] → W pR l eV (Rm 7 0 0) sT mI ([.ref (a 0)] : List Value).toArray below meth cd H locs 0 0 QQ (F0 mI 72 ls []) := by
            intro fu
            induction fu with
            | zero => intro qN c A o x11v x15v f1v f6v f7v f8v f9v f10v hq hc hc1 h8 hA h10 hst hm; exact absurd hm (Nat.not_lt_zero _)
            | succ fu ih_lp =>
              intro qN c A o x11v x15v f1v f6v f7v f8v f9v f10v hq hc hc1 h8 hA h10 hst hm H locs hH ls hl
              rcases qN with _ | qM
              · refine lv_iload_n hx hb dX6_orders_72 rfl (lv_at hl 3 rfl) ?_
                refine lv_if_lt (tgt := 249) hx hb dX6_orders_73 (by decide) (fun c1 => ?_) (fun c1 => absurd (by decide) c1)
                have hfin : ordA f1 = (x15v, o) := by rw [hoe, hst]; rfl
                refine lv_iconst (v := nI 0) hx hb dX6_orders_249 (by decide) ?_
                refine lv_istore (lv' := [(4, .int (nI 0)), (0, .ref (a 0)), (1, .int (nI (nW f1))), (2, .int (f1 6)), (3, .int (nI 0 + (-1)))]) hx hb dX6_orders_250 hl (by decide) rfl (fun ls hl => ?_)
                have ld : ∀ (fu : Nat) (kN : Nat) (f1z : Nat → Int32), (kN ≤ 195) → (∀ k, k < kN → f1z k = f1 k) → 195 - kN < fu → ∀ (H : Heap) (locs : List Loc), HH G sT (mw G a x4 x5 x7 x8 x11v x15v f1z f2 f1 f1 f5 f6v f7v f8v f9v f10v f11 h ++ wr) H locs → ∀ ls : Array Slot, lv_has ls 7 [(0, .ref (a 0)), (1, .int (nI (nW f1))), (2, .int (f1 6)), (3, .int (nI 0 + (-1))), (4, .int (nI kN))] → W pR l eV (Rm 7 0 0) sT mI ([.ref (a 0)] : List Value).toArray below meth cd H locs 0 0 QQ (F0 mI 252 ls []) := by
                  intro fu
                  induction fu with
                  | zero => intro kN f1z hk hg hm; exact absurd hm (Nat.not_lt_zero _)
                  | succ fu ih_ld =>
                    intro kN f1z hk hg hm H locs hH ls hl
                    refine lv_iload hx hb dX6_orders_252 (lv_at hl 4 rfl) ?_
                    refine lv_sipush (v := nI 195) hx hb dX6_orders_254 (by decide) ?_
                    refine n_icmp_ge (tgt := 280) hx hb (by omega) (by omega) dX6_orders_257 (by decide) (fun c8 => ?_) (fun c8 => ?_)
                    · have hH := m_cg1 (g := f1) (fun k hk => (hg k (by omega)).symm) hH
                      refine lv_aload_n hx hb dX6_orders_280 rfl (lv_at hl 0 rfl) ?_
                      refine m_g15 X hH.mp dX6_orders_281 ?_
                      refine lv_iconst (v := (-1)) hx hb dX6_orders_284 (by decide) ?_
                      have hx15 : x15v = (ordA f1).1 := by rw [hfin]
                      have h10o : (ordA f1).1 ≠ -1 → ∀ k, k < nW f1 → f10v k = nI ((ordA f1).2 k) := by rw [hfin]; exact h10
                      refine lv_icmp_eq (tgt := 292) hx hb dX6_orders_285 (by decide) (fun c4 => ?_) (fun c4 => ?_)
                      · refine lv_iconst (v := nI 0) hx hb dX6_orders_292 (by decide) ?_
                        refine n_top (y := bI (decide ((ordA f1).1 ≠ -1))) (bI_f (by rw [hfin]; exact decide_eq_false (fun z => z c4))) ?_
                        rw [hx15] at hH
                        exact ret _ _ _ _ _ _ _ _ hH (⟨_, _, _, _, _, _, _, _, h10o, rfl, rfl⟩) (bI_nar _) (Nat.le_refl _) (Nat.le_refl _) dX6_orders_293
                      · refine lv_iconst (v := nI 1) hx hb dX6_orders_288 (by decide) ?_
                        refine lv_goto (tgt := 293) hx hb dX6_orders_289 (by decide) ?_
                        refine n_top (y := bI (decide ((ordA f1).1 ≠ -1))) (bI_t (by rw [hfin]; exact decide_eq_true c4)) ?_
                        rw [hx15] at hH
                        exact ret _ _ _ _ _ _ _ _ hH (⟨_, _, _, _, _, _, _, _, h10o, rfl, rfl⟩) (bI_nar _) (Nat.le_refl _) (Nat.le_refl _) dX6_orders_293
                    · refine lv_aload_n hx hb dX6_orders_260 rfl (lv_at hl 0 rfl) ?_
                      refine m_g0 X hH.mp dX6_orders_261 ?_
                      refine lv_iload hx hb dX6_orders_264 (lv_at hl 4 rfl) ?_
                      refine lv_aload_n hx hb dX6_orders_266 rfl (lv_at hl 0 rfl) ?_
                      refine m_g3 X hH.mp dX6_orders_267 ?_
                      refine lv_iload hx hb dX6_orders_270 (lv_at hl 4 rfl) ?_
                      refine m_ld4 X hH.mp (by omega) dX6_orders_272 ?_
                      refine m_st1 X hH (by omega) dX6_orders_273 (fun f1_1 H locs ef1_1 hH => ?_)
                      refine lv_iinc (v := nI (kN + 1)) (lv' := [(4, .int (nI (kN + 1))), (0, .ref (a 0)), (1, .int (nI (nW f1))), (2, .int (f1 6)), (3, .int (nI 0 + (-1)))]) hx hb dX6_orders_274 hl (k := 4) rfl (nI_add _ 1) (by decide) rfl (fun ls hl => ?_)
                      refine lv_goto (tgt := 252) hx hb dX6_orders_277 (by decide) ?_
                      exact ih_ld (kN + 1) f1_1 (by omega) (fun k hk => by rw [ef1_1]; rcases Nat.lt_or_ge k kN with q | q; exact (by rw [pk_un (by omega)]; exact hg k q); exact (by rw [show k = kN by omega, pk_us])) (by omega) _ _ hH ls (lv_sub hl [1, 2, 3, 4, 0] rfl)
                exact ld _ 0 f1v (Nat.zero_le _) (fun k hk => absurd hk (Nat.not_lt_zero k)) (Nat.lt_succ_self _) _ _ hH ls (lv_sub hl [1, 2, 3, 4, 0] rfl)
              · have hl : lv_has ls 7 [(0, .ref (a 0)), (1, .int (nI (nW f1))), (2, .int (f1 6)), (3, .int (nI qM))] := by rw [← (show (nI (qM + 1) + (-1) : Int32) = nI qM from pk_m1 qM)]; exact hl
                have hcq := hc qM (by omega)
                obtain ⟨hAR, hAn, hAk⟩ := hA qM (by omega)
                have h8q := h8 qM (by omega)
                refine lv_iload_n hx hb dX6_orders_72 rfl (lv_at hl 3 rfl) ?_
                refine lv_if_lt (tgt := 249) hx hb dX6_orders_73 (by decide) (fun c1 => absurd c1 (nI_pos (by omega))) (fun c1 => ?_)
                refine lv_aload_n hx hb dX6_orders_76 rfl (lv_at hl 0 rfl) ?_
                refine m_g12 X hH.mp dX6_orders_77 ?_
                refine lv_iload_n hx hb dX6_orders_80 rfl (lv_at hl 3 rfl) ?_
                refine lv_dup2_11 hx hb dX6_orders_81 rfl rfl ?_
                refine m_ld8 X hH.mp (by omega) dX6_orders_82 ?_
                refine lv_iconst (v := nI 1) hx hb dX6_orders_83 (by decide) ?_
                refine lv_iadd hx hb dX6_orders_84 ?_
                refine n_top (y := nI (c qM)) (by rw [h8q, m1p1]) ?_
                refine m_st8 X hH (by omega) dX6_orders_85 (fun f8_2 H locs ef8_2 hH => ?_)
                have h8n : f8_2 qM = nI (c qM) := by rw [ef8_2, pk_us]
                have h8o : ∀ i, i < qM → f8_2 i = nI (c i - 1) := fun i hi => by rw [ef8_2, pk_un (by omega), h8 i (by omega)]; obtain ⟨z, hz⟩ : ∃ z, c i = z + 1 := ⟨c i - 1, by have := hc1 i (by omega); omega⟩; rw [hz, Nat.add_sub_cancel]; exact pk_m1 z
                have h8s : ∀ i, i < qM + 1 → f8_2 i = nI (va_up c qM (c qM + 1) i) + (-1) := fun i hi => by by_cases q : i = qM; exact (by rw [q, h8n, va_up_self, pk_m1]); exact (by rw [ef8_2, pk_un q, va_up_ne _ _ q]; exact h8 i hi)
                refine lv_aload_n hx hb dX6_orders_86 rfl (lv_at hl 0 rfl) ?_
                refine lv_iload_n hx hb dX6_orders_87 rfl (lv_at hl 3 rfl) ?_
                refine m_Mv (c_X6_picks (pN := qM) (RV := A qM) hE (by omega) hAk) X hH (lw_V q1743 q1745 qs55 q72 q1746) hdv_X6_picks ⟨Nat.le_of_ble_eq_true rfl, Nat.le_of_ble_eq_true rfl⟩ ⟨Nat.le_refl _, Nat.le_refl _⟩ rfl hl.1 rfl (Nat.le_of_ble_eq_true rfl) dX6_orders_88 (fun w H locs hq hH => ?_)
                obtain rfl := hq
                refine lv_aload_n hx hb dX6_orders_91 rfl (lv_at hl 0 rfl) ?_
                refine m_g12 X hH.mp dX6_orders_92 ?_
                refine lv_iload_n hx hb dX6_orders_95 rfl (lv_at hl 3 rfl) ?_
                refine m_ld8 X hH.mp (by omega) dX6_orders_96 ?_
                refine n_top (y := nI (c qM)) (h8n) ?_
                refine lv_iload_n hx hb dX6_orders_97 rfl (lv_at hl 1 rfl) ?_
                have hC9 : ∀ i, i < qM + 1 → c qM < nW f1 → va_up c qM (c qM + 1) i ≤ nW f1 := fun i hi hlt => by by_cases q : i = qM; exact (by rw [q, va_up_self]; omega); exact (by rw [va_up_ne _ _ q]; exact hc i hi)
                have hD9 : ∀ i, i < qM + 1 → 1 ≤ va_up c qM (c qM + 1) i := fun i hi => by by_cases q : i = qM; exact (by rw [q, va_up_self]; omega); exact (by rw [va_up_ne _ _ q]; exact hc1 i (by omega))
                refine n_icmp_ne (tgt := 107) hx hb (by omega) (by omega) dX6_orders_98 (by decide) (fun c2 => ?_) (fun c2 => ?_)
                · have hcl : c qM < nW f1 := by omega
                  refine lv_aload_n hx hb dX6_orders_107 rfl (lv_at hl 0 rfl) ?_
                  refine lv_iload_n hx hb dX6_orders_108 rfl (lv_at hl 3 rfl) ?_
                  refine m_R (c_X6_isUsed hE (by omega)) X hH.2 hH.mp (lw_V q1747 q1749 qs56 q72 q1750) hdv_X6_isUsed ⟨Nat.le_of_ble_eq_true rfl, Nat.le_of_ble_eq_true rfl⟩ ⟨Nat.le_refl _, Nat.le_refl _⟩ rfl hl.1 rfl (Nat.le_of_ble_eq_true rfl) dX6_orders_109 ?_
                  have hus : usdB f8_2 qM = !allB qM (fun k => decide (pth c qM k ≠ c qM)) := by unfold usdB; rw [allB_congr (q := fun k => decide (pth c qM k ≠ c qM)) (fun k hk => by rw [h8o k hk, h8n]; unfold pth; rw [if_pos hk]; exact decide_eq_decide.mpr (not_congr (nI_eq (by have := hc k (by omega); omega) (by omega))))]
                  refine b_if_ne (tgt := 72) hx hb dX6_orders_112 (by decide) (fun c3 => ?_) (fun c3 => ?_)
                  · have hl : lv_has ls 7 [(0, .ref (a 0)), (1, .int (nI (nW f1))), (2, .int (f1 6)), (3, .int (nI (qM + 1) + (-1)))] := by rw [← (show (nI qM : Int32) = nI (qM + 1) + (-1) from (pk_m1 qM).symm)]; exact hl
                    exact ih_lp (qM + 1) (va_up c qM (c qM + 1)) A o x11v x15v (A qM) f6v f7v f8_2 f9v f10v (hq) (fun i hi => hC9 i hi hcl) (fun i hi => hD9 i (by omega)) (h8s) (hA) (h10) (by rw [hst, rem_step (by omega), step_no (by rw [show allB qM (fun k => decide (pth c qM k ≠ c qM)) = false by rw [hus] at c3; simpa using c3]; rfl)]) (by have := ms_step hcq; omega) _ _ hH ls (lv_sub hl [0, 1, 2, 3] rfl)
                  · have hall : allB qM (fun k => decide (pth c qM k ≠ c qM)) = true := by rw [hus] at c3; simpa using c3
                    refine lv_aload_n hx hb dX6_orders_115 rfl (lv_at hl 0 rfl) ?_
                    refine lv_aload_n hx hb dX6_orders_116 rfl (lv_at hl 0 rfl) ?_
                    refine m_g12 X hH.mp dX6_orders_117 ?_
                    refine lv_iload_n hx hb dX6_orders_120 rfl (lv_at hl 3 rfl) ?_
                    refine m_ld8 X hH.mp (by omega) dX6_orders_121 ?_
                    refine n_top (y := nI (c qM)) (h8n) ?_
                    refine m_Mi (c_X6_canWrite hE hAR (by rw [hAn]; exact hcl)) X hH (lw_V q1680 q1682 qs47 q72 q1683) hdv_X6_canWrite ⟨Nat.le_of_ble_eq_true rfl, Nat.le_of_ble_eq_true rfl⟩ ⟨Nat.le_refl _, Nat.le_refl _⟩ rfl hl.1 rfl (Nat.le_of_ble_eq_true rfl) dX6_orders_122 (fun r w H locs hq hH => ?_)
                    obtain ⟨g6, g7, -, hg7, rfl, rfl⟩ := hq
                    refine b_if_eq (tgt := 72) hx hb dX6_orders_125 (by decide) (fun c4 => ?_) (fun c4 => ?_)
                    · have hl : lv_has ls 7 [(0, .ref (a 0)), (1, .int (nI (nW f1))), (2, .int (f1 6)), (3, .int (nI (qM + 1) + (-1)))] := by rw [← (show (nI qM : Int32) = nI (qM + 1) + (-1) from (pk_m1 qM).symm)]; exact hl
                      exact ih_lp (qM + 1) (va_up c qM (c qM + 1)) A o (nI (pmN (A qM) (c qM) (frM (A qM)))) x15v (A qM) g6 g7 f8_2 f9v f10v (hq) (fun i hi => hC9 i hi hcl) (fun i hi => hD9 i (by omega)) (h8s) (hA) (h10) (by rw [hst, rem_step (by omega), step_no (by rw [hall, c4]; rfl)]) (by have := ms_step hcq; omega) _ _ hH ls (lv_sub hl [0, 1, 2, 3] rfl)
                    · refine lv_aload_n hx hb dX6_orders_128 rfl (lv_at hl 0 rfl) ?_
                      refine lv_aload_n hx hb dX6_orders_129 rfl (lv_at hl 0 rfl) ?_
                      refine m_g0 X hH.mp dX6_orders_130 ?_
                      refine lv_aload_n hx hb dX6_orders_133 rfl (lv_at hl 0 rfl) ?_
                      refine m_g12 X hH.mp dX6_orders_134 ?_
                      refine lv_iload_n hx hb dX6_orders_137 rfl (lv_at hl 3 rfl) ?_
                      refine m_ld8 X hH.mp (by omega) dX6_orders_138 ?_
                      refine n_top (y := nI (c qM)) (h8n) ?_
                      refine m_S (c_X6_wordAt hE) X hH.2 (lw_S q1562 q1563 q72 q1564) hds_X6_wordAt ⟨Nat.le_of_ble_eq_true rfl, Nat.le_of_ble_eq_true rfl⟩ ⟨Nat.le_refl _, Nat.le_refl _⟩ rfl hl.1 rfl (Nat.le_of_ble_eq_true rfl) dX6_orders_139 ?_
                      refine lv_iconst (v := nI 1) hx hb dX6_orders_142 (by decide) ?_
                      refine n_iadd hx hb dX6_orders_143 ?_
                      refine m_ld1 X hH.mp (by omega) dX6_orders_144 ?_
                      refine m_Mv (c_X6_carries (pl := plP (A qM) (c qM) (frM (A qM))) hE (Nat.le_trans (pmN_le hAR) (hAR.wl1 (by rw [hAn]; exact hcl)).2) (fun i hi => ⟨hg7 i hi, by have h1 := plP_lt hAR hi; have h2 := hAR.s1; omega⟩)) X hH (lw_V q1692 q1694 qs50 q72 q1695) hdv_X6_carries ⟨Nat.le_of_ble_eq_true rfl, Nat.le_of_ble_eq_true rfl⟩ ⟨Nat.le_refl _, Nat.le_refl _⟩ rfl hl.1 rfl (Nat.le_of_ble_eq_true rfl) dX6_orders_145 (fun w H locs hq hH => ?_)
                      obtain rfl := hq
                      refine lv_aload_n hx hb dX6_orders_148 rfl (lv_at hl 0 rfl) ?_
                      refine m_g0 X hH.mp dX6_orders_149 ?_
                      refine lv_bipush (v := nI 6) hx hb dX6_orders_152 (by decide) ?_
                      refine m_ld1 X hH.mp (by omega) dX6_orders_154 ?_
                      refine lv_iload_n hx hb dX6_orders_155 rfl (lv_at hl 2 rfl) ?_
                      refine lv_isub hx hb dX6_orders_156 ?_
                      refine lv_istore (lv' := [(4, .int (((wroR (A qM) (c qM)) 6) - (f1 6))), (0, .ref (a 0)), (1, .int (nI (nW f1))), (2, .int (f1 6)), (3, .int (nI qM))]) hx hb dX6_orders_157 hl (by decide) rfl (fun ls hl => ?_)
                      refine lv_aload_n hx hb dX6_orders_159 rfl (lv_at hl 1 rfl) ?_
                      refine m_g15 X hH.mp dX6_orders_160 ?_
                      refine lv_iconst (v := (-1)) hx hb dX6_orders_163 (by decide) ?_
                      refine lv_icmp_eq (tgt := 176) hx hb dX6_orders_164 (by decide) (fun c5 => ?_) (fun c5 => ?_)
                      · have hless : (decide ((x15v, o).1 = -1) || decide (wroR (A qM) (c qM) 6 - f1 6 < (x15v, o).1)) = true := by simp [c5]
                        refine lv_iconst (v := nI 1) hx hb dX6_orders_176 (by decide) ?_
                        refine lv_goto (tgt := 181) hx hb dX6_orders_177 (by decide) ?_
                        refine lv_istore (lv' := [(5, .int (nI 1)), (4, .int (((wroR (A qM) (c qM)) 6) - (f1 6))), (0, .ref (a 0)), (1, .int (nI (nW f1))), (2, .int (f1 6)), (3, .int (nI qM))]) hx hb dX6_orders_181 hl (by decide) rfl (fun ls hl => ?_)
                        refine lv_iload hx hb dX6_orders_183 (lv_at hl 0 rfl) ?_
                        refine lv_if_eq (tgt := 233) hx hb dX6_orders_185 (by decide) (fun h => absurd h (by decide)) (fun _ => ?_)
                        refine lv_iload_n hx hb dX6_orders_188 rfl (lv_at hl 5 rfl) ?_
                        refine lv_iload_n hx hb dX6_orders_189 rfl (lv_at hl 3 rfl) ?_
                        refine lv_iconst (v := nI 1) hx hb dX6_orders_190 (by decide) ?_
                        refine n_isub hx hb (by omega) dX6_orders_191 ?_
                        refine n_icmp_ne (tgt := 233) hx hb (by omega) (by omega) dX6_orders_192 (by decide) (fun c7 => ?_) (fun c7 => ?_)
                        · refine lv_iload hx hb dX6_orders_233 (lv_at hl 0 rfl) ?_
                          refine lv_if_eq (tgt := 246) hx hb dX6_orders_235 (by decide) (fun h => absurd h (by decide)) (fun _ => ?_)
                          refine lv_iinc (v := nI (qM + 1)) (lv' := [(3, .int (nI (qM + 1))), (5, .int (nI 1)), (4, .int (((wroR (A qM) (c qM)) 6) - (f1 6))), (0, .ref (a 0)), (1, .int (nI (nW f1))), (2, .int (f1 6))]) hx hb dX6_orders_238 hl (k := 5) rfl (nI_add _ 1) (by decide) rfl (fun ls hl => ?_)
                          refine lv_aload_n hx hb dX6_orders_241 rfl (lv_at hl 3 rfl) ?_
                          refine lv_iload_n hx hb dX6_orders_242 rfl (lv_at hl 0 rfl) ?_
                          refine m_Mv (c_X6_lays (pN := qM + 1) hE (by omega)) X hH (lw_V q1739 q1741 qs54 q72 q1742) hdv_X6_lays ⟨Nat.le_of_ble_eq_true rfl, Nat.le_of_ble_eq_true rfl⟩ ⟨Nat.le_refl _, Nat.le_refl _⟩ rfl hl.1 rfl (Nat.le_of_ble_eq_true rfl) dX6_orders_243 (fun w H locs hq hH => ?_)
                          obtain ⟨g9, hlo9, hg9b, rfl⟩ := hq
                          refine lv_goto (tgt := 72) hx hb dX6_orders_246 (by decide) ?_
                          have hl : lv_has ls 7 [(3, .int (nI (qM + 1 + 1) + (-1))), (5, .int (nI 1)), (4, .int (((wroR (A qM) (c qM)) 6) - (f1 6))), (0, .ref (a 0)), (1, .int (nI (nW f1))), (2, .int (f1 6))] := by rw [← (show (nI (qM + 1) : Int32) = nI (qM + 1 + 1) + (-1) from (pk_m1 (qM + 1)).symm)]; exact hl
                          exact ih_lp (qM + 1 + 1) (va_up (va_up c qM (c qM + 1)) (qM + 1) 0) (va_up A (qM + 1) (wroR (A qM) (c qM))) o (nI (pmN (A qM) (c qM) (frM (A qM)))) x15v (wroR (A qM) (c qM)) g6 g7 (upd f8_2 (qM + 1) (-1)) g9 f10v (by omega) (fun i hi => by by_cases q : i = qM + 1; exact (by rw [q, va_up_self]; exact Nat.zero_le _); exact (by rw [va_up_ne _ _ q]; exact hC9 i (by omega) hcl)) (fun i hi => by rw [va_up_ne _ _ (show i ≠ qM + 1 by omega)]; exact hD9 i (by omega)) (fun i hi => by by_cases q : i = qM + 1; exact (by rw [q, pk_us, va_up_self]; rfl); exact (by rw [pk_un q, va_up_ne _ _ q]; exact h8s i (by omega))) (fun i hi => by by_cases q : i = qM + 1; exact (by rw [q, va_up_self]; exact ⟨wroR_ok hAR, (rn_congr (wroR_st hAR (Or.inl (by decide)))).trans hAn, hg9b⟩); exact (by rw [va_up_ne _ _ q]; exact ⟨(hA i (by omega)).1, (hA i (by omega)).2.1, fun k hk => by rw [hlo9 _ (by omega)]; exact (hA i (by omega)).2.2 k hk⟩)) (h10) (by rw [hst, rem_step (by omega), step_yes (by rw [hall, c4, hless]; rfl), if_neg (by omega), rem_push (by omega)]) (by have := ms_push hcq hm7 (by omega); omega) _ _ hH ls (lv_sub hl [3, 4, 5, 0] rfl)
                        · refine lv_aload_n hx hb dX6_orders_195 rfl (lv_at hl 2 rfl) ?_
                          refine lv_iload hx hb dX6_orders_196 (lv_at hl 1 rfl) ?_
                          refine m_p15 X hH dX6_orders_198 (fun H locs hH => ?_)
                          refine lv_iconst (v := nI 0) hx hb dX6_orders_201 (by decide) ?_
                          refine lv_istore (lv' := [(6, .int (nI 0)), (5, .int (nI 1)), (4, .int (((wroR (A qM) (c qM)) 6) - (f1 6))), (0, .ref (a 0)), (1, .int (nI (nW f1))), (2, .int (f1 6)), (3, .int (nI qM))]) hx hb dX6_orders_202 hl (by decide) rfl (fun ls hl => ?_)
                          have lb : ∀ (fu : Nat) (kN : Nat) (f10z : Nat → Int32), (kN ≤ nW f1) → (∀ k, k < kN → f10z k = f8_2 k) → nW f1 - kN < fu → ∀ (H : Heap) (locs : List Loc), HH G sT (mw G a x4 x5 x7 x8 (nI (pmN (A qM) (c qM) (frM (A qM)))) (((wroR (A qM) (c qM)) 6) - (f1 6)) (wroR (A qM) (c qM)) f2 f1 f1 f5 g6 g7 f8_2 f9v f10z f11 h ++ wr) H locs → ∀ ls : Array Slot, lv_has ls 7 [(0, .ref (a 0)), (1, .int (nI (nW f1))), (2, .int (f1 6)), (3, .int (nI qM)), (4, .int (((wroR (A qM) (c qM)) 6) - (f1 6))), (5, .int (nI 1)), (6, .int (nI kN))] → W pR l eV (Rm 7 0 0) sT mI ([.ref (a 0)] : List Value).toArray below meth cd H locs 0 0 QQ (F0 mI 204 ls []) := by
                            intro fu
                            induction fu with
                            | zero => intro kN f10z hk hgb hm; exact absurd hm (Nat.not_lt_zero _)
                            | succ fu ih_lb =>
                              intro kN f10z hk hgb hm H locs hH ls hl
                              refine lv_iload hx hb dX6_orders_204 (lv_at hl 6 rfl) ?_
                              refine lv_iload_n hx hb dX6_orders_206 rfl (lv_at hl 1 rfl) ?_
                              refine n_icmp_ge (tgt := 230) hx hb (by omega) (by omega) dX6_orders_207 (by decide) (fun c8 => ?_) (fun c8 => ?_)
                              · refine lv_goto (tgt := 246) hx hb dX6_orders_230 (by decide) ?_
                                refine lv_goto (tgt := 72) hx hb dX6_orders_246 (by decide) ?_
                                have hl : lv_has ls 7 [(0, .ref (a 0)), (1, .int (nI (nW f1))), (2, .int (f1 6)), (3, .int (nI (qM + 1) + (-1))), (4, .int (((wroR (A qM) (c qM)) 6) - (f1 6))), (5, .int (nI 1)), (6, .int (nI kN))] := by rw [← (show (nI qM : Int32) = nI (qM + 1) + (-1) from (pk_m1 qM).symm)]; exact hl
                                exact ih_lp (qM + 1) (va_up c qM (c qM + 1)) A (va_up (pth c qM) qM (c qM)) (nI (pmN (A qM) (c qM) (frM (A qM)))) (((wroR (A qM) (c qM)) 6) - (f1 6)) (wroR (A qM) (c qM)) g6 g7 f8_2 f9v f10z (hq) (fun i hi => hC9 i hi hcl) (fun i hi => hD9 i (by omega)) (h8s) (hA) (fun _ k hk => by rw [hgb k (by omega)]; unfold va_up pth; by_cases q : k = qM; exact (by rw [if_pos q, q, h8n]); exact (by rw [if_neg q, if_pos (by omega), h8o k (by omega)])) (by rw [hst, rem_step (by omega), step_yes (by rw [hall, c4, hless]; rfl), if_pos (by omega)]) (by have := ms_step hcq; omega) _ _ hH ls (lv_sub hl [0, 1, 2, 3] rfl)
                              · refine lv_aload_n hx hb dX6_orders_210 rfl (lv_at hl 0 rfl) ?_
                                refine m_g14 X hH.mp dX6_orders_211 ?_
                                refine lv_iload hx hb dX6_orders_214 (lv_at hl 6 rfl) ?_
                                refine lv_aload_n hx hb dX6_orders_216 rfl (lv_at hl 0 rfl) ?_
                                refine m_g12 X hH.mp dX6_orders_217 ?_
                                refine lv_iload hx hb dX6_orders_220 (lv_at hl 6 rfl) ?_
                                refine m_ld8 X hH.mp (by omega) dX6_orders_222 ?_
                                refine m_st10 X hH (by omega) dX6_orders_223 (fun f10_3 H locs ef10_3 hH => ?_)
                                refine lv_iinc (v := nI (kN + 1)) (lv' := [(6, .int (nI (kN + 1))), (0, .ref (a 0)), (1, .int (nI (nW f1))), (2, .int (f1 6)), (3, .int (nI qM)), (4, .int (((wroR (A qM) (c qM)) 6) - (f1 6))), (5, .int (nI 1))]) hx hb dX6_orders_224 hl (k := 6) rfl (nI_add _ 1) (by decide) rfl (fun ls hl => ?_)
                                refine lv_goto (tgt := 204) hx hb dX6_orders_227 (by decide) ?_
                                exact ih_lb (kN + 1) f10_3 (by omega) (fun k hk => by rw [ef10_3]; rcases Nat.lt_or_ge k kN with q | q; exact (by rw [pk_un (by omega)]; exact hgb k q); exact (by rw [show k = kN by omega, pk_us])) (by omega) _ _ hH ls (lv_sub hl [1, 2, 3, 4, 5, 6, 0] rfl)
                          exact lb _ 0 f10v (Nat.zero_le _) (fun k hk => absurd hk (Nat.not_lt_zero k)) (Nat.lt_succ_self _) _ _ hH ls (lv_sub hl [3, 4, 5, 6, 2, 1, 0] rfl)
                      · refine lv_iload hx hb dX6_orders_167 (lv_at hl 0 rfl) ?_
                        refine lv_aload_n hx hb dX6_orders_169 rfl (lv_at hl 1 rfl) ?_
                        refine m_g15 X hH.mp dX6_orders_170 ?_
                        refine lv_icmp_ge (tgt := 180) hx hb dX6_orders_173 (by decide) (fun c6 => ?_) (fun c6 => ?_)
                        · refine lv_iconst (v := nI 0) hx hb dX6_orders_180 (by decide) ?_
                          refine lv_istore (lv' := [(5, .int (nI 0)), (4, .int (((wroR (A qM) (c qM)) 6) - (f1 6))), (0, .ref (a 0)), (1, .int (nI (nW f1))), (2, .int (f1 6)), (3, .int (nI qM))]) hx hb dX6_orders_181 hl (by decide) rfl (fun ls hl => ?_)
                          refine lv_iload hx hb dX6_orders_183 (lv_at hl 0 rfl) ?_
                          refine lv_if_eq (tgt := 233) hx hb dX6_orders_185 (by decide) (fun _ => ?_) (fun h => absurd rfl h)
                          refine lv_iload hx hb dX6_orders_233 (lv_at hl 0 rfl) ?_
                          refine lv_if_eq (tgt := 246) hx hb dX6_orders_235 (by decide) (fun _ => ?_) (fun h => absurd rfl h)
                          refine lv_goto (tgt := 72) hx hb dX6_orders_246 (by decide) ?_
                          have hl : lv_has ls 7 [(5, .int (nI 0)), (4, .int (((wroR (A qM) (c qM)) 6) - (f1 6))), (0, .ref (a 0)), (1, .int (nI (nW f1))), (2, .int (f1 6)), (3, .int (nI (qM + 1) + (-1)))] := by rw [← (show (nI qM : Int32) = nI (qM + 1) + (-1) from (pk_m1 qM).symm)]; exact hl
                          exact ih_lp (qM + 1) (va_up c qM (c qM + 1)) A o (nI (pmN (A qM) (c qM) (frM (A qM)))) x15v (wroR (A qM) (c qM)) g6 g7 f8_2 f9v f10v (hq) (fun i hi => hC9 i hi hcl) (fun i hi => hD9 i (by omega)) (h8s) (hA) (h10) (by rw [hst, rem_step (by omega), step_no (by rw [hall, c4]; simp [c5, Int32.not_lt.mpr c6])]) (by have := ms_step hcq; omega) _ _ hH ls (lv_sub hl [2, 3, 4, 5] rfl)
                        · have hless : (decide ((x15v, o).1 = -1) || decide (wroR (A qM) (c qM) 6 - f1 6 < (x15v, o).1)) = true := by simp [Int32.not_le.mp c6]
                          refine lv_iconst (v := nI 1) hx hb dX6_orders_176 (by decide) ?_
                          refine lv_goto (tgt := 181) hx hb dX6_orders_177 (by decide) ?_
                          refine lv_istore (lv' := [(5, .int (nI 1)), (4, .int (((wroR (A qM) (c qM)) 6) - (f1 6))), (0, .ref (a 0)), (1, .int (nI (nW f1))), (2, .int (f1 6)), (3, .int (nI qM))]) hx hb dX6_orders_181 hl (by decide) rfl (fun ls hl => ?_)
                          refine lv_iload hx hb dX6_orders_183 (lv_at hl 0 rfl) ?_
                          refine lv_if_eq (tgt := 233) hx hb dX6_orders_185 (by decide) (fun h => absurd h (by decide)) (fun _ => ?_)
                          refine lv_iload_n hx hb dX6_orders_188 rfl (lv_at hl 5 rfl) ?_
                          refine lv_iload_n hx hb dX6_orders_189 rfl (lv_at hl 3 rfl) ?_
                          refine lv_iconst (v := nI 1) hx hb dX6_orders_190 (by decide) ?_
                          refine n_isub hx hb (by omega) dX6_orders_191 ?_
                          refine n_icmp_ne (tgt := 233) hx hb (by omega) (by omega) dX6_orders_192 (by decide) (fun c7 => ?_) (fun c7 => ?_)
                          · refine lv_iload hx hb dX6_orders_233 (lv_at hl 0 rfl) ?_
                            refine lv_if_eq (tgt := 246) hx hb dX6_orders_235 (by decide) (fun h => absurd h (by decide)) (fun _ => ?_)
                            refine lv_iinc (v := nI (qM + 1)) (lv' := [(3, .int (nI (qM + 1))), (5, .int (nI 1)), (4, .int (((wroR (A qM) (c qM)) 6) - (f1 6))), (0, .ref (a 0)), (1, .int (nI (nW f1))), (2, .int (f1 6))]) hx hb dX6_orders_238 hl (k := 5) rfl (nI_add _ 1) (by decide) rfl (fun ls hl => ?_)
                            refine lv_aload_n hx hb dX6_orders_241 rfl (lv_at hl 3 rfl) ?_
                            refine lv_iload_n hx hb dX6_orders_242 rfl (lv_at hl 0 rfl) ?_
                            refine m_Mv (c_X6_lays (pN := qM + 1) hE (by omega)) X hH (lw_V q1739 q1741 qs54 q72 q1742) hdv_X6_lays ⟨Nat.le_of_ble_eq_true rfl, Nat.le_of_ble_eq_true rfl⟩ ⟨Nat.le_refl _, Nat.le_refl _⟩ rfl hl.1 rfl (Nat.le_of_ble_eq_true rfl) dX6_orders_243 (fun w H locs hq hH => ?_)
                            obtain ⟨g9, hlo9, hg9b, rfl⟩ := hq
                            refine lv_goto (tgt := 72) hx hb dX6_orders_246 (by decide) ?_
                            have hl : lv_has ls 7 [(3, .int (nI (qM + 1 + 1) + (-1))), (5, .int (nI 1)), (4, .int (((wroR (A qM) (c qM)) 6) - (f1 6))), (0, .ref (a 0)), (1, .int (nI (nW f1))), (2, .int (f1 6))] := by rw [← (show (nI (qM + 1) : Int32) = nI (qM + 1 + 1) + (-1) from (pk_m1 (qM + 1)).symm)]; exact hl
                            exact ih_lp (qM + 1 + 1) (va_up (va_up c qM (c qM + 1)) (qM + 1) 0) (va_up A (qM + 1) (wroR (A qM) (c qM))) o (nI (pmN (A qM) (c qM) (frM (A qM)))) x15v (wroR (A qM) (c qM)) g6 g7 (upd f8_2 (qM + 1) (-1)) g9 f10v (by omega) (fun i hi => by by_cases q : i = qM + 1; exact (by rw [q, va_up_self]; exact Nat.zero_le _); exact (by rw [va_up_ne _ _ q]; exact hC9 i (by omega) hcl)) (fun i hi => by rw [va_up_ne _ _ (show i ≠ qM + 1 by omega)]; exact hD9 i (by omega)) (fun i hi => by by_cases q : i = qM + 1; exact (by rw [q, pk_us, va_up_self]; rfl); exact (by rw [pk_un q, va_up_ne _ _ q]; exact h8s i (by omega))) (fun i hi => by by_cases q : i = qM + 1; exact (by rw [q, va_up_self]; exact ⟨wroR_ok hAR, (rn_congr (wroR_st hAR (Or.inl (by decide)))).trans hAn, hg9b⟩); exact (by rw [va_up_ne _ _ q]; exact ⟨(hA i (by omega)).1, (hA i (by omega)).2.1, fun k hk => by rw [hlo9 _ (by omega)]; exact (hA i (by omega)).2.2 k hk⟩)) (h10) (by rw [hst, rem_step (by omega), step_yes (by rw [hall, c4, hless]; rfl), if_neg (by omega), rem_push (by omega)]) (by have := ms_push hcq hm7 (by omega); omega) _ _ hH ls (lv_sub hl [3, 4, 5, 0] rfl)
                          · refine lv_aload_n hx hb dX6_orders_195 rfl (lv_at hl 2 rfl) ?_
                            refine lv_iload hx hb dX6_orders_196 (lv_at hl 1 rfl) ?_
                            refine m_p15 X hH dX6_orders_198 (fun H locs hH => ?_)
                            refine lv_iconst (v := nI 0) hx hb dX6_orders_201 (by decide) ?_
                            refine lv_istore (lv' := [(6, .int (nI 0)), (5, .int (nI 1)), (4, .int (((wroR (A qM) (c qM)) 6) - (f1 6))), (0, .ref (a 0)), (1, .int (nI (nW f1))), (2, .int (f1 6)), (3, .int (nI qM))]) hx hb dX6_orders_202 hl (by decide) rfl (fun ls hl => ?_)
                            have lb : ∀ (fu : Nat) (kN : Nat) (f10z : Nat → Int32), (kN ≤ nW f1) → (∀ k, k < kN → f10z k = f8_2 k) → nW f1 - kN < fu → ∀ (H : Heap) (locs : List Loc), HH G sT (mw G a x4 x5 x7 x8 (nI (pmN (A qM) (c qM) (frM (A qM)))) (((wroR (A qM) (c qM)) 6) - (f1 6)) (wroR (A qM) (c qM)) f2 f1 f1 f5 g6 g7 f8_2 f9v f10z f11 h ++ wr) H locs → ∀ ls : Array Slot, lv_has ls 7 [(0, .ref (a 0)), (1, .int (nI (nW f1))), (2, .int (f1 6)), (3, .int (nI qM)), (4, .int (((wroR (A qM) (c qM)) 6) - (f1 6))), (5, .int (nI 1)), (6, .int (nI kN))] → W pR l eV (Rm 7 0 0) sT mI ([.ref (a 0)] : List Value).toArray below meth cd H locs 0 0 QQ (F0 mI 204 ls []) := by
                              intro fu
                              induction fu with
                              | zero => intro kN f10z hk hgb hm; exact absurd hm (Nat.not_lt_zero _)
                              | succ fu ih_lb =>
                                intro kN f10z hk hgb hm H locs hH ls hl
                                refine lv_iload hx hb dX6_orders_204 (lv_at hl 6 rfl) ?_
                                refine lv_iload_n hx hb dX6_orders_206 rfl (lv_at hl 1 rfl) ?_
                                refine n_icmp_ge (tgt := 230) hx hb (by omega) (by omega) dX6_orders_207 (by decide) (fun c8 => ?_) (fun c8 => ?_)
                                · refine lv_goto (tgt := 246) hx hb dX6_orders_230 (by decide) ?_
                                  refine lv_goto (tgt := 72) hx hb dX6_orders_246 (by decide) ?_
                                  have hl : lv_has ls 7 [(0, .ref (a 0)), (1, .int (nI (nW f1))), (2, .int (f1 6)), (3, .int (nI (qM + 1) + (-1))), (4, .int (((wroR (A qM) (c qM)) 6) - (f1 6))), (5, .int (nI 1)), (6, .int (nI kN))] := by rw [← (show (nI qM : Int32) = nI (qM + 1) + (-1) from (pk_m1 qM).symm)]; exact hl
                                  exact ih_lp (qM + 1) (va_up c qM (c qM + 1)) A (va_up (pth c qM) qM (c qM)) (nI (pmN (A qM) (c qM) (frM (A qM)))) (((wroR (A qM) (c qM)) 6) - (f1 6)) (wroR (A qM) (c qM)) g6 g7 f8_2 f9v f10z (hq) (fun i hi => hC9 i hi hcl) (fun i hi => hD9 i (by omega)) (h8s) (hA) (fun _ k hk => by rw [hgb k (by omega)]; unfold va_up pth; by_cases q : k = qM; exact (by rw [if_pos q, q, h8n]); exact (by rw [if_neg q, if_pos (by omega), h8o k (by omega)])) (by rw [hst, rem_step (by omega), step_yes (by rw [hall, c4, hless]; rfl), if_pos (by omega)]) (by have := ms_step hcq; omega) _ _ hH ls (lv_sub hl [0, 1, 2, 3] rfl)
                                · refine lv_aload_n hx hb dX6_orders_210 rfl (lv_at hl 0 rfl) ?_
                                  refine m_g14 X hH.mp dX6_orders_211 ?_
                                  refine lv_iload hx hb dX6_orders_214 (lv_at hl 6 rfl) ?_
                                  refine lv_aload_n hx hb dX6_orders_216 rfl (lv_at hl 0 rfl) ?_
                                  refine m_g12 X hH.mp dX6_orders_217 ?_
                                  refine lv_iload hx hb dX6_orders_220 (lv_at hl 6 rfl) ?_
                                  refine m_ld8 X hH.mp (by omega) dX6_orders_222 ?_
                                  refine m_st10 X hH (by omega) dX6_orders_223 (fun f10_4 H locs ef10_4 hH => ?_)
                                  refine lv_iinc (v := nI (kN + 1)) (lv' := [(6, .int (nI (kN + 1))), (0, .ref (a 0)), (1, .int (nI (nW f1))), (2, .int (f1 6)), (3, .int (nI qM)), (4, .int (((wroR (A qM) (c qM)) 6) - (f1 6))), (5, .int (nI 1))]) hx hb dX6_orders_224 hl (k := 6) rfl (nI_add _ 1) (by decide) rfl (fun ls hl => ?_)
                                  refine lv_goto (tgt := 204) hx hb dX6_orders_227 (by decide) ?_
                                  exact ih_lb (kN + 1) f10_4 (by omega) (fun k hk => by rw [ef10_4]; rcases Nat.lt_or_ge k kN with q | q; exact (by rw [pk_un (by omega)]; exact hgb k q); exact (by rw [show k = kN by omega, pk_us])) (by omega) _ _ hH ls (lv_sub hl [1, 2, 3, 4, 5, 6, 0] rfl)
                            exact lb _ 0 f10v (Nat.zero_le _) (fun k hk => absurd hk (Nat.not_lt_zero k)) (Nat.lt_succ_self _) _ _ hH ls (lv_sub hl [3, 4, 5, 6, 2, 1, 0] rfl)
                · refine lv_iinc (v := (nI qM) + (-1)) (lv' := [(3, .int ((nI qM) + (-1))), (0, .ref (a 0)), (1, .int (nI (nW f1))), (2, .int (f1 6))]) hx hb dX6_orders_101 hl (k := 3) rfl rfl (by decide) rfl (fun ls hl => ?_)
                  refine lv_goto (tgt := 72) hx hb dX6_orders_104 (by decide) ?_
                  exact ih_lp qM c A o x11v x15v (A qM) f6v f7v f8_2 f9v f10v (by omega) (fun i hi => hc i (by omega)) (fun i hi => hc1 i (by omega)) (fun i hi => by rw [ef8_2, pk_un (by omega)]; exact h8 i (by omega)) (fun i hi => hA i (by omega)) (h10) (by rw [hst, rem_pop (by omega)]) (by have := ms_pop hcq; omega) _ _ hH ls (lv_sub hl [1, 2, 3, 0] rfl)
          exact lp _ 1 (fun _ => 0) (fun _ => f1) (fun _ => 0) x11 (-1) f1 f6 f7 (upd f8 0 (-1)) g9 f10 (hn1) (fun i _ => Nat.zero_le _) (fun i hi => absurd hi (by omega)) (fun i hi => by rw [show i = 0 by omega, pk_us]; rfl) (fun i hi => ⟨hR, rfl, by rw [show i = 0 by omega]; exact hg9⟩) (fun z => absurd rfl z) (by unfold remF; obtain ⟨d, hd⟩ : ∃ d, nW f1 = d + 1 := ⟨nW f1 - 1, by omega⟩; rw [hd, srD]; show _ = remF _ _ _ _ 0 _; unfold remF; rw [show d + 1 - (d + 1) = 0 by omega, show d + 1 - 1 - 0 = d by omega]; rfl) (Nat.lt_succ_self _) _ _ hH ls (lv_sub hl [1, 2, 3, 0] rfl)
        · refine lv_aload_n hx hb dX6_orders_47 rfl (lv_at hl 0 rfl) ?_
          refine m_g3 X hH.mp dX6_orders_48 ?_
          refine lv_iload_n hx hb dX6_orders_51 rfl (lv_at hl 3 rfl) ?_
          refine lv_aload_n hx hb dX6_orders_52 rfl (lv_at hl 0 rfl) ?_
          refine m_g0 X hH.mp dX6_orders_53 ?_
          refine lv_iload_n hx hb dX6_orders_56 rfl (lv_at hl 3 rfl) ?_
          refine m_ld1 X hH.mp (by omega) dX6_orders_57 ?_
          refine m_st4 X hH (by omega) dX6_orders_58 (fun f4_5 H locs ef4_5 hH => ?_)
          refine lv_iinc (v := nI (kN + 1)) (lv' := [(3, .int (nI (kN + 1))), (0, .ref (a 0)), (1, .int (nI (nW f1))), (2, .int (f1 6))]) hx hb dX6_orders_59 hl (k := 3) rfl (nI_add _ 1) (by decide) rfl (fun ls hl => ?_)
          refine lv_goto (tgt := 40) hx hb dX6_orders_62 (by decide) ?_
          exact ih_lc (kN + 1) f4_5 (by omega) (fun k hk => by rw [ef4_5]; rcases Nat.lt_or_ge k kN with q | q; exact (by rw [pk_un (by omega)]; exact hg k q); exact (by rw [show k = kN by omega, pk_us])) (by omega) _ _ hH ls (lv_sub hl [1, 2, 3, 0] rfl)
    exact lc _ 0 f4 (Nat.zero_le _) (fun k hk => absurd hk (Nat.not_lt_zero k)) (Nat.lt_succ_self _) _ _ hH ls (lv_sub hl [3, 2, 1, 0] rfl)
  · have hn0 : nW f1 = 0 := (nI_eq (by omega) (by decide)).mp c0
    refine lv_iconst (v := nI 0) hx hb dX6_orders_20 (by decide) ?_
    refine lv_goto (tgt := 25) hx hb dX6_orders_21 (by decide) ?_
    refine m_p15 X hH dX6_orders_25 (fun H locs hH => ?_)
    refine lv_iload_n hx hb dX6_orders_28 rfl (lv_at hl 1 rfl) ?_
    refine lv_if_ne (tgt := 34) hx hb dX6_orders_29 (by decide) (fun c9 => absurd c0 c9) (fun c9 => ?_)
    refine lv_iconst (v := nI 1) hx hb dX6_orders_32 (by decide) ?_
    refine n_top (y := bI (decide ((ordA f1).1 ≠ -1))) (by unfold ordA; rw [if_pos hn0]; rfl) ?_
    exact ret _ _ _ _ _ _ _ _ hH (⟨x11, f3, f4, f6, f7, f8, f9, f10, fun _ k hk => absurd hk (by omega), rfl, by unfold ordA; rw [if_pos hn0]; rfl⟩) (bI_nar _) (Nat.le_refl _) (Nat.le_refl _) dX6_orders_33
end
