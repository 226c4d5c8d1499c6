/-! JDK 4: lists -/
section C4
variable {l : Launch} {G : GG} {E : State → Prop} {sa : Nat → Nat} {ws wr : va_W}
/-- a list's cells: its object, and its array of ten places once there is one -/
def lsW (G : GG) (a : Nat) (mc : Int32) (e n : Nat) (o : Option (Nat → Option Nat)) : va_W := oC a 10 [.int mc, .ref e, .int (nI n)] :: (match o with | none => [] | some f => [qC G e 10 f])
def lsK (sa : Nat → Nat) (e n : Nat) (o : Option (Nat → Option Nat)) : Prop := n ≤ 10 ∧ (o = none → n = 0 ∧ e = sa 0)
def elO (o : Option (Nat → Option Nat)) : Nat → Option Nat := o.getD (fun _ => none)
/-- a list of n elements e -/
def Lst (G : GG) (sa : Nat → Nat) (ws : va_W) (a n : Nat) (el : Nat → Nat) : Prop := ∃ mc e o, (∀ q ∈ lsW G a mc e n o, q ∈ ws) ∧ lsK sa e n o ∧ ∀ i, i < n → elO o i = some (el i)
theorem Lst.mono {ws' : va_W} {a n : Nat} {el : Nat → Nat} (h : Lst G sa ws a n el) (hs : ∀ q ∈ ws, q ∈ ws') : Lst G sa ws' a n el := by
  obtain ⟨mc, e, o, h1, h2, h3⟩ := h
  exact ⟨mc, e, o, fun q hq => hs q (h1 q hq), h2, h3⟩
theorem Lst.congr {a n : Nat} {el el' : Nat → Nat} (h : Lst G sa ws a n el) (e : ∀ i, i < n → el' i = el i) : Lst G sa ws a n el' := by
  obtain ⟨mc, e1, o, h1, h2, h3⟩ := h
  exact ⟨mc, e1, o, h1, h2, fun i hi => by rw [e i hi]; exact h3 i hi⟩
theorem Lst.of {a n e : Nat} {mc : Int32} {o : Option (Nat → Option Nat)} {el : Nat → Nat} (h1 : ∀ q ∈ lsW G a mc e n o, q ∈ ws) (h2 : lsK sa e n o) (h3 : ∀ i, i < n → elO o i = some (el i)) : Lst G sa ws a n el := ⟨mc, e, o, h1, h2, h3⟩
theorem Lst.len {a n : Nat} {el : Nat → Nat} (h : Lst G sa ws a n el) : n ≤ 10 := by obtain ⟨_, _, _, _, h2, _⟩ := h; exact h2.1
theorem Lst.some {a n i : Nat} {el : Nat → Nat} (h : Lst G sa ws a n el) (hi : i < n) : ∃ mc e f, oC a 10 [.int mc, .ref e, .int (nI n)] ∈ ws ∧ qC G e 10 f ∈ ws ∧ ∀ i, i < n → f i = some (el i) := by
  obtain ⟨mc, e, o, h1, h2, h3⟩ := h
  cases o with
  | none => exact absurd (h2.2 rfl).1 (by omega)
  | some f => exact ⟨mc, e, f, h1 _ List.mem_cons_self, h1 _ (List.mem_cons_of_mem _ List.mem_cons_self), h3⟩
variable {aN eN nN iN : Nat} {mc : Int32} {el : Nat → Nat}
theorem l_size (hE : EnvOK G E) (h : Lst G sa ws aN nN el) : RO l G E yJ2_size cJ2_size 1 .int 1 [.ref aN] (va_P G.1 cls ws) (.int (nI nN)) := by
  obtain ⟨mc, e, o, h1, -, -⟩ := h
  exact c_J2_size hE (h1 _ List.mem_cons_self)
theorem l_get (hE : EnvOK G E) (h : Lst G sa ws aN nN el) (hi : iN < nN) : RO l G E yJ2_get cJ2_get 2 (.object "java/lang/Object") 3 [.ref aN, .int (nI iN)] (va_P G.1 cls ws) (.ref (el iN)) := by
  obtain ⟨mc, e, f, h1, h2, h3⟩ := h.some hi
  have := c_J2_get (l := l) hE h1 h2 hi (h.len) (by decide)
  rw [h3 iN hi] at this
  exact this
theorem hds_J0_init : yJ0_init.cls ≠ "java/lang/invoke/MethodHandle" ∧ yJ0_init.cls ≠ "java/lang/invoke/VarHandle" ∧ (parseMethodDescriptor yJ0_init.desc).map (fun d => d.parameters.length) = some 0 := by decide +kernel
theorem c_J0_init (hE : EnvOK G E) : MU vV l G E yJ0_init cJ0_init 1 none 1 0 0 [.ref aN] (wr) (fun _ w => w = wr) := by
  refine MUc hE (by decide) (Nat.le_of_ble_eq_true rfl) (fun pR eV sT mI below meth cd QQ ls hin X hH hl ret => ?_)
  obtain ⟨⟨hx, hb, hml, hown, hts⟩, ⟨hr, hlk⟩, -, -, -⟩ := id X
  have hl : lv_has ls 1 [(0, .ref aN)] := hl
  refine wgen (H := sT.heap) (locs := []) hH (fun H locs hH => ?_)
  refine lv_aload_n hx hb dJ0_init_0 rfl (lv_at hl 0 rfl) ?_
  refine x_obj X hl.1 q124 q105 q106 (Nat.le_of_ble_eq_true rfl) (Nat.le_of_ble_eq_true rfl) dJ0_init_1 ?_
  exact ret _ _ _ _ _ _ _ hH (rfl) (Nat.le_of_ble_eq_true rfl) (Nat.le_of_ble_eq_true rfl) dJ0_init_4
theorem hds_J1_init : yJ1_init.cls ≠ "java/lang/invoke/MethodHandle" ∧ yJ1_init.cls ≠ "java/lang/invoke/VarHandle" ∧ (parseMethodDescriptor yJ1_init.desc).map (fun d => d.parameters.length) = some 0 := by decide +kernel
theorem c_J1_init (hE : EnvOK G E) : MU vV l G E yJ1_init cJ1_init 1 none 2 0 0 [.ref aN] ([oC aN 10 [.int (nI 0), .null, .int (nI 0)]] ++ wr) (fun _ w => w = [oC aN 10 [.int (nI 0), .null, .int (nI 0)]] ++ wr) := by
  refine MUc hE (by decide) (Nat.le_of_ble_eq_true rfl) (fun pR eV sT mI below meth cd QQ ls hin X hH hl ret => ?_)
  obtain ⟨⟨hx, hb, hml, hown, hts⟩, ⟨hr, hlk⟩, -, -, -⟩ := id X
  have hl : lv_has ls 1 [(0, .ref aN)] := hl
  refine wgen (H := sT.heap) (locs := []) hH (fun H locs hH => ?_)
  refine lv_aload_n hx hb dJ1_init_0 rfl (lv_at hl 0 rfl) ?_
  refine x_MI (c_J0_init (wr := [oC aN 10 [.int (nI 0), .null, .int (nI 0)]] ++ wr) hE) X hH q123 q64 q121 q122 rfl hds_J0_init ⟨Nat.le_of_ble_eq_true rfl, Nat.le_of_ble_eq_true rfl⟩ rfl hl.1 rfl (Nat.le_of_ble_eq_true rfl) ⟨(Nat.le_of_ble_eq_true rfl), (Nat.le_of_ble_eq_true rfl)⟩ dJ1_init_1 (fun w H locs hq hH => ?_)
  obtain rfl := hq
  have hH : HH G sT ([oC aN 10 [.int (nI 0), .null, .int (nI 0)]] ++ wr) H locs := hH
  refine lv_aload_n hx hb dJ1_init_4 rfl (lv_at hl 0 rfl) ?_
  refine lv_iconst (v := nI 0) hx hb dJ1_init_5 (by decide) ?_
  refine x_put X hH in_J2 tyJ2 tyJ2_ok nmJ2 0 rfl rfl 0 (by decide) q129 (fun _ h => h) rfl (ty := .int) (by decide +kernel) rfl rfl (Nat.le_of_ble_eq_true rfl) dJ1_init_6 (fun H locs hH => ?_)
  have hH : HH G sT ([oC aN 10 [.int (nI 0), .null, .int (nI 0)]] ++ wr) H locs := hH
  exact ret _ _ _ _ _ _ _ hH (rfl) (Nat.le_of_ble_eq_true rfl) (Nat.le_of_ble_eq_true rfl) dJ1_init_9
theorem hds_J2_init : yJ2_init.cls ≠ "java/lang/invoke/MethodHandle" ∧ yJ2_init.cls ≠ "java/lang/invoke/VarHandle" ∧ (parseMethodDescriptor yJ2_init.desc).map (fun d => d.parameters.length) = some 0 := by decide +kernel
theorem c_J2_init (hE : EnvOK G E) (hJ : EnvJ G E sa) : MU vV l G E yJ2_init cJ2_init 1 none 3 0 0 [.ref aN] ([oC aN 10 [.int (nI 0), .null, .int (nI 0)]] ++ wr) (fun _ w => w = lsW G aN (nI 0) (sa 0) 0 none ++ wr) := by
  refine MUc hE (by decide) (Nat.le_of_ble_eq_true rfl) (fun pR eV sT mI below meth cd QQ ls hin X hH hl ret => ?_)
  obtain ⟨⟨hx, hb, hml, hown, hts⟩, ⟨hr, hlk⟩, -, -, -⟩ := id X
  have hJs := X.J hJ
  have hl : lv_has ls 1 [(0, .ref aN)] := hl
  refine wgen (H := sT.heap) (locs := []) hH (fun H locs hH => ?_)
  refine lv_aload_n hx hb dJ2_init_0 rfl (lv_at hl 0 rfl) ?_
  refine x_MI (c_J1_init hE) X hH q120 q65 q118 q119 rfl hds_J1_init ⟨Nat.le_of_ble_eq_true rfl, Nat.le_of_ble_eq_true rfl⟩ rfl hl.1 rfl (Nat.le_of_ble_eq_true rfl) ⟨(Nat.le_of_ble_eq_true rfl), (Nat.le_of_ble_eq_true rfl)⟩ dJ2_init_1 (fun w H locs hq hH => ?_)
  obtain rfl := hq
  have hH : HH G sT ([oC aN 10 [.int (nI 0), .null, .int (nI 0)]] ++ wr) H locs := hH
  refine lv_aload_n hx hb dJ2_init_4 rfl (lv_at hl 0 rfl) ?_
  refine x_gets X hH.2 hJs.2.2.2.1.1 q125 (fun _ h => h) dJ2_init_5 ?_
  refine x_put X hH in_J2 tyJ2 tyJ2_ok nmJ2 0 rfl rfl 1 (by decide) q127 (fun _ h => h) rfl (ty := .array (.object "java/lang/Object")) (by decide +kernel) rfl rfl (Nat.le_of_ble_eq_true rfl) dJ2_init_8 (fun H locs hH => ?_)
  have hH : HH G sT ([oC aN 10 [.int (nI 0), .ref (sa 0), .int (nI 0)]] ++ wr) H locs := hH
  exact ret _ _ _ _ _ _ _ hH (rfl) (Nat.le_of_ble_eq_true rfl) (Nat.le_of_ble_eq_true rfl) dJ2_init_11
theorem max10 {k : Nat} (h : k ≤ 10) : (if nI 10 < nI k then nI k else nI 10) = nI 10 := if_neg (nI_nlt h (by decide))
theorem hdv_J2_grow_2 : yJ2_grow_2.cls = RJ2 ∧ yJ2_grow_2.cls ≠ "java/lang/invoke/MethodHandle" ∧ yJ2_grow_2.cls ≠ "java/lang/invoke/VarHandle" ∧ (parseMethodDescriptor yJ2_grow_2.desc).map (fun d => d.parameters.length) = some 1 := by decide +kernel
theorem c_J2_grow_2 (hE : EnvOK G E) (hJ : EnvJ G E sa) {kN : Nat} (hk : kN ≤ 10) : MU vA l G E yJ2_grow_2 cJ2_grow_2 4 (some (.array (.object "java/lang/Object"))) 1 1 10 [.ref aN, .int (nI kN)] ([oC aN 10 [.int mc, .ref (sa 0), .int (nI 0)]] ++ wr) (fun r w => w = [oC aN 10 [.int mc, .ref r, .int (nI 0)], qC G r 10 (fun _ => none)] ++ wr) := by
  refine MUa hE (by decide) (Nat.le_of_ble_eq_true rfl) (Or.inr ⟨_, rfl⟩) (fun pR eV sT mI below meth cd QQ ls X hH hl ret => ?_)
  obtain ⟨⟨hx, hb, hml, hown, hts⟩, ⟨hr, hlk⟩, -, -, -⟩ := id X
  have hJs := X.J hJ
  have hl : lv_has ls 4 [(0, .ref aN), (1, .int (nI kN))] := hl
  refine wgen (H := sT.heap) (locs := []) hH (fun H locs hH => ?_)
  refine lv_aload_n hx hb dJ2_grow_2_0 rfl (lv_at hl 0 rfl) ?_
  refine x_get X hH.1.1 in_J2 (mem_k 0 rfl) rfl 1 (by decide) q127 (fun _ h => h) rfl dJ2_grow_2_1 ?_
  obtain ⟨fvT, hT⟩ := hJs.2.2.2.1.2.2
  refine va_tlen hx hb hT hH.2 (v := nI 0) rfl dJ2_grow_2_4 ?_
  refine lv_istore_n (lv' := [(2, .int (nI 0)), (0, .ref aN), (1, .int (nI kN))]) hx hb dJ2_grow_2_5 rfl hl (by decide) rfl (fun ls hl => ?_)
  refine lv_iload_n hx hb dJ2_grow_2_6 rfl (lv_at hl 0 rfl) ?_
  refine lv_if_gt (tgt := 20) hx hb dJ2_grow_2_7 (by decide) (fun c1 => absurd c1 (by decide)) (fun c1 => ?_)
  refine lv_aload_n hx hb dJ2_grow_2_10 rfl (lv_at hl 1 rfl) ?_
  refine x_get X hH.1.1 in_J2 (mem_k 0 rfl) rfl 1 (by decide) q127 (fun _ h => h) rfl dJ2_grow_2_11 ?_
  refine x_gets X hH.2 hJs.2.2.2.1.1 q125 (fun _ h => h) dJ2_grow_2_14 ?_
  refine lv_acmp_eq (rx := some (sa 0)) (ry := some (sa 0)) (tgt := 45) hx hb dJ2_grow_2_17 (by decide) (fun c2 => ?_) (fun c2 => absurd rfl c2)
  refine lv_aload_n hx hb dJ2_grow_2_45 rfl (lv_at hl 1 rfl) ?_
  refine lv_bipush (v := nI 10) hx hb dJ2_grow_2_46 (by decide) ?_
  refine lv_iload_n hx hb dJ2_grow_2_48 rfl (lv_at hl 2 rfl) ?_
  refine x_max X hl.1 q807 q486 q86 q487 (Nat.le_of_ble_eq_true rfl) (Nat.le_of_ble_eq_true rfl) ⟨(Nat.le_of_ble_eq_true rfl), (Nat.le_of_ble_eq_true rfl)⟩ dJ2_grow_2_49 ?_
  refine n_top (y := nI 10) (max10 hk) ?_
  refine x_newq X hH (t0 := 2) rfl q808 hJs.2.1.1 (by decide) (Nat.le_of_ble_eq_true rfl) (Nat.le_of_ble_eq_true rfl) dJ2_grow_2_52 (fun q H hH => ?_)
  refine x_widen (k2 := 1) (n2 := 10) (Nat.le_of_ble_eq_true rfl) (Nat.le_of_ble_eq_true rfl) ?_
  have hH : HH G sT ([qC G q 10 (fun _ => none), oC aN 10 [.int mc, .ref (sa 0), .int (nI 0)]] ++ wr) H locs := hH
  refine lv_dup_x1 hx hb dJ2_grow_2_55 rfl rfl ?_
  refine x_put X hH in_J2 tyJ2 tyJ2_ok nmJ2 1 rfl rfl 1 (by decide) q127 (fun _ h => h) rfl (ty := .array (.object "java/lang/Object")) (by decide +kernel) rfl rfl (Nat.le_of_ble_eq_true rfl) dJ2_grow_2_56 (fun H locs hH => ?_)
  have hH : HH G sT ([qC G q 10 (fun _ => none), oC aN 10 [.int mc, .ref q, .int (nI 0)]] ++ wr) H locs := hH
  have hH : HH G sT ([oC aN 10 [.int mc, .ref q, .int (nI 0)], qC G q 10 (fun _ => none)] ++ wr) H locs := HH.pickN hH 2 [1, 0] rfl (by decide) rfl
  exact ret _ _ _ _ _ _ _ _ hH (rfl) (Nat.le_of_ble_eq_true rfl) (Nat.le_of_ble_eq_true rfl) dJ2_grow_2_59
theorem hdv_J2_grow : yJ2_grow.cls = RJ2 ∧ yJ2_grow.cls ≠ "java/lang/invoke/MethodHandle" ∧ yJ2_grow.cls ≠ "java/lang/invoke/VarHandle" ∧ (parseMethodDescriptor yJ2_grow.desc).map (fun d => d.parameters.length) = some 0 := by decide +kernel
theorem c_J2_grow (hE : EnvOK G E) (hJ : EnvJ G E sa) : MU vA l G E yJ2_grow cJ2_grow 1 (some (.array (.object "java/lang/Object"))) 2 1 10 [.ref aN] ([oC aN 10 [.int mc, .ref (sa 0), .int (nI 0)]] ++ wr) (fun r w => w = [oC aN 10 [.int mc, .ref r, .int (nI 0)], qC G r 10 (fun _ => none)] ++ wr) := by
  refine MUa hE (by decide) (Nat.le_of_ble_eq_true rfl) (Or.inr ⟨_, rfl⟩) (fun pR eV sT mI below meth cd QQ ls X hH hl ret => ?_)
  obtain ⟨⟨hx, hb, hml, hown, hts⟩, ⟨hr, hlk⟩, -, -, -⟩ := id X
  have hJs := X.J hJ
  have hl : lv_has ls 1 [(0, .ref aN)] := hl
  refine wgen (H := sT.heap) (locs := []) hH (fun H locs hH => ?_)
  refine lv_aload_n hx hb dJ2_grow_0 rfl (lv_at hl 0 rfl) ?_
  refine lv_aload_n hx hb dJ2_grow_1 rfl (lv_at hl 0 rfl) ?_
  refine x_get X hH.1.1 in_J2 (mem_k 0 rfl) rfl 2 (by decide) q128 (fun _ h => h) rfl dJ2_grow_2 ?_
  refine lv_iconst (v := nI 1) hx hb dJ2_grow_5 (by decide) ?_
  refine n_iadd hx hb dJ2_grow_6 ?_
  refine x_MVa (c_J2_grow_2 hE hJ (by decide)) X hH (x_rc X hH.1.1 (mem_k 0 rfl) rfl) (lw_V q771 q773 qs7 q66 q774) hdv_J2_grow_2 ⟨Nat.le_of_ble_eq_true rfl, Nat.le_of_ble_eq_true rfl⟩ rfl hl.1 rfl (Nat.le_of_ble_eq_true rfl) ⟨(Nat.le_of_ble_eq_true rfl), (Nat.le_of_ble_eq_true rfl)⟩ dJ2_grow_7 (fun r w H locs hq hH => ?_)
  obtain rfl := hq
  refine x_widen (k2 := 1) (n2 := 10) (Nat.le_of_ble_eq_true rfl) (Nat.le_of_ble_eq_true rfl) ?_
  have hH : HH G sT ([oC aN 10 [.int mc, .ref r, .int (nI 0)], qC G r 10 (fun _ => none)] ++ wr) H locs := hH
  exact ret _ _ _ _ _ _ _ _ hH (rfl) (Nat.le_of_ble_eq_true rfl) (Nat.le_of_ble_eq_true rfl) dJ2_grow_10
variable {fr : Nat → Option Nat}
theorem hdv_J2_add_2 : yJ2_add_2.cls = RJ2 ∧ yJ2_add_2.cls ≠ "java/lang/invoke/MethodHandle" ∧ yJ2_add_2.cls ≠ "java/lang/invoke/VarHandle" ∧ (parseMethodDescriptor yJ2_add_2.desc).map (fun d => d.parameters.length) = some 3 := by decide +kernel
theorem c_J2_add_2s (hE : EnvOK G E) (hJ : EnvJ G E sa) {xN ci : Nat} {vs : List Value} {rC : vw_C} (hv : oC xN ci vs ∈ wr) (hc : cls[ci]? = some rC) (hca : Cond.castable rC.1 "java/lang/Object" ∈ lw_tbl) (hn : nN < 10) : MU vV l G E yJ2_add_2 cJ2_add_2 4 none 3 1 10 [.ref aN, .ref xN, .ref eN, .int (nI nN)] ([oC aN 10 [.int mc, .ref eN, .int (nI nN)], qC G eN 10 fr] ++ wr) (fun _ w => w = [oC aN 10 [.int mc, .ref eN, .int (nI (nN + 1))], qC G eN 10 (va_up fr nN (some xN))] ++ wr) := by
  refine MUv hE (by decide) (Nat.le_of_ble_eq_true rfl) (fun pR eV sT mI below meth cd QQ ls X hH hl ret => ?_)
  obtain ⟨⟨hx, hb, hml, hown, hts⟩, ⟨hr, hlk⟩, -, -, -⟩ := id X
  have hJs := X.J hJ
  have hl : lv_has ls 4 [(0, .ref aN), (1, .ref xN), (2, .ref eN), (3, .int (nI nN))] := hl
  refine wgen (H := sT.heap) (locs := []) hH (fun H locs hH => ?_)
  refine lv_iload_n hx hb dJ2_add_2_0 rfl (lv_at hl 3 rfl) ?_
  refine lv_aload_n hx hb dJ2_add_2_1 rfl (lv_at hl 2 rfl) ?_
  refine x_alen X hH.1.1 (mem_k 1 rfl) (t0 := 2) rfl dJ2_add_2_2 ?_
  refine n_icmp_ne (tgt := 11) hx hb (by omega) (by omega) dJ2_add_2_3 (by decide) (fun c1 => ?_) (fun c1 => absurd c1 (by omega))
  refine lv_aload_n hx hb dJ2_add_2_11 rfl (lv_at hl 2 rfl) ?_
  refine lv_iload_n hx hb dJ2_add_2_12 rfl (lv_at hl 3 rfl) ?_
  refine lv_aload_n hx hb dJ2_add_2_13 rfl (lv_at hl 1 rfl) ?_
  refine x_aast X hH 1 rfl (t0 := 2) rfl (hJs.nw hca rfl) (mem_r hv) hc (by omega) (by decide) dJ2_add_2_14 (fun g_1 H locs eg_1 hH => ?_)
  have hH : HH G sT ([oC aN 10 [.int mc, .ref eN, .int (nI nN)], qC G eN 10 g_1] ++ wr) H locs := hH
  refine lv_aload_n hx hb dJ2_add_2_15 rfl (lv_at hl 0 rfl) ?_
  refine lv_iload_n hx hb dJ2_add_2_16 rfl (lv_at hl 3 rfl) ?_
  refine lv_iconst (v := nI 1) hx hb dJ2_add_2_17 (by decide) ?_
  refine n_iadd hx hb dJ2_add_2_18 ?_
  refine x_put X hH in_J2 tyJ2 tyJ2_ok nmJ2 0 rfl rfl 2 (by decide) q128 (fun _ h => h) rfl (ty := .int) (by decide +kernel) rfl rfl (Nat.le_of_ble_eq_true rfl) dJ2_add_2_19 (fun H locs hH => ?_)
  have hH : HH G sT ([oC aN 10 [.int mc, .ref eN, .int (nI (nN + 1))], qC G eN 10 g_1] ++ wr) H locs := hH
  exact ret _ _ _ _ _ _ _ hH (by rw [eg_1]) (Nat.le_of_ble_eq_true rfl) (Nat.le_of_ble_eq_true rfl) dJ2_add_2_22
theorem c_J2_add_2n (hE : EnvOK G E) (hJ : EnvJ G E sa) {xN ci : Nat} {vs : List Value} {rC : vw_C} (hv : oC xN ci vs ∈ wr) (hc : cls[ci]? = some rC) (hca : Cond.castable rC.1 "java/lang/Object" ∈ lw_tbl) : MU vV l G E yJ2_add_2 cJ2_add_2 4 none 3 1 10 [.ref aN, .ref xN, .ref (sa 0), .int (nI 0)] ([oC aN 10 [.int mc, .ref (sa 0), .int (nI 0)]] ++ wr) (fun _ w => ∃ q, w = [oC aN 10 [.int mc, .ref q, .int (nI 1)], qC G q 10 (va_up (fun _ => none) 0 (some xN))] ++ wr) := by
  refine MUv hE (by decide) (Nat.le_of_ble_eq_true rfl) (fun pR eV sT mI below meth cd QQ ls X hH hl ret => ?_)
  obtain ⟨⟨hx, hb, hml, hown, hts⟩, ⟨hr, hlk⟩, -, -, -⟩ := id X
  have hJs := X.J hJ
  have hl : lv_has ls 4 [(0, .ref aN), (1, .ref xN), (2, .ref (sa 0)), (3, .int (nI 0))] := hl
  refine wgen (H := sT.heap) (locs := []) hH (fun H locs hH => ?_)
  refine lv_iload_n hx hb dJ2_add_2_0 rfl (lv_at hl 3 rfl) ?_
  refine lv_aload_n hx hb dJ2_add_2_1 rfl (lv_at hl 2 rfl) ?_
  obtain ⟨fvT, hT⟩ := hJs.2.2.2.1.2.2
  refine va_tlen hx hb hT hH.2 (v := nI 0) rfl dJ2_add_2_2 ?_
  refine n_icmp_ne (tgt := 11) hx hb (by omega) (by omega) dJ2_add_2_3 (by decide) (fun c1 => absurd rfl c1) (fun c1 => ?_)
  refine lv_aload_n hx hb dJ2_add_2_6 rfl (lv_at hl 0 rfl) ?_
  refine x_MVa (c_J2_grow hE hJ) X hH (x_rc X hH.1.1 (mem_k 0 rfl) rfl) (lw_V q767 q769 qs6 q66 q770) hdv_J2_grow ⟨Nat.le_of_ble_eq_true rfl, Nat.le_of_ble_eq_true rfl⟩ rfl hl.1 rfl (Nat.le_of_ble_eq_true rfl) ⟨(Nat.le_of_ble_eq_true rfl), (Nat.le_of_ble_eq_true rfl)⟩ dJ2_add_2_7 (fun r w H locs hq hH => ?_)
  obtain rfl := hq
  refine x_widen (k2 := 1) (n2 := 10) (Nat.le_of_ble_eq_true rfl) (Nat.le_of_ble_eq_true rfl) ?_
  have hH : HH G sT ([oC aN 10 [.int mc, .ref r, .int (nI 0)], qC G r 10 (fun _ => none)] ++ wr) H locs := hH
  refine lv_astore_n (lv' := [(2, .ref r), (0, .ref aN), (1, .ref xN), (3, .int (nI 0))]) hx hb dJ2_add_2_10 rfl hl (by decide) rfl (fun ls hl => ?_)
  refine lv_aload_n hx hb dJ2_add_2_11 rfl (lv_at hl 0 rfl) ?_
  refine lv_iload_n hx hb dJ2_add_2_12 rfl (lv_at hl 3 rfl) ?_
  refine lv_aload_n hx hb dJ2_add_2_13 rfl (lv_at hl 2 rfl) ?_
  refine x_aast X hH 1 rfl (t0 := 2) rfl (hJs.nw hca rfl) (mem_r hv) hc (by decide) (by decide) dJ2_add_2_14 (fun g_1 H locs eg_1 hH => ?_)
  have hH : HH G sT ([oC aN 10 [.int mc, .ref r, .int (nI 0)], qC G r 10 g_1] ++ wr) H locs := hH
  refine lv_aload_n hx hb dJ2_add_2_15 rfl (lv_at hl 1 rfl) ?_
  refine lv_iload_n hx hb dJ2_add_2_16 rfl (lv_at hl 3 rfl) ?_
  refine lv_iconst (v := nI 1) hx hb dJ2_add_2_17 (by decide) ?_
  refine n_iadd hx hb dJ2_add_2_18 ?_
  refine x_put X hH in_J2 tyJ2 tyJ2_ok nmJ2 0 rfl rfl 2 (by decide) q128 (fun _ h => h) rfl (ty := .int) (by decide +kernel) rfl rfl (Nat.le_of_ble_eq_true rfl) dJ2_add_2_19 (fun H locs hH => ?_)
  have hH : HH G sT ([oC aN 10 [.int mc, .ref r, .int (nI (0 + 1))], qC G r 10 g_1] ++ wr) H locs := hH
  exact ret _ _ _ _ _ _ _ hH (⟨r, by rw [eg_1]⟩) (Nat.le_of_ble_eq_true rfl) (Nat.le_of_ble_eq_true rfl) dJ2_add_2_22
theorem hdv_J2_add : yJ2_add.cls = RJ2 ∧ yJ2_add.cls ≠ "java/lang/invoke/MethodHandle" ∧ yJ2_add.cls ≠ "java/lang/invoke/VarHandle" ∧ (parseMethodDescriptor yJ2_add.desc).map (fun d => d.parameters.length) = some 1 := by decide +kernel
theorem c_J2_add_s (hE : EnvOK G E) (hJ : EnvJ G E sa) {xN ci : Nat} {vs : List Value} {rC : vw_C} (hv : oC xN ci vs ∈ wr) (hc : cls[ci]? = some rC) (hca : Cond.castable rC.1 "java/lang/Object" ∈ lw_tbl) (hn : nN < 10) : MU vI l G E yJ2_add cJ2_add 2 (some .boolean) 4 1 10 [.ref aN, .ref xN] ([oC aN 10 [.int mc, .ref eN, .int (nI nN)], qC G eN 10 fr] ++ wr) (fun r w => r = nI 1 ∧ w = [oC aN 10 [.int (mc + nI 1), .ref eN, .int (nI (nN + 1))], qC G eN 10 (va_up fr nN (some xN))] ++ wr) := by
  refine MUz hE (by decide) (Nat.le_of_ble_eq_true rfl) (fun pR eV sT mI below meth cd QQ ls X hH hl ret => ?_)
  obtain ⟨⟨hx, hb, hml, hown, hts⟩, ⟨hr, hlk⟩, -, -, -⟩ := id X
  have hJs := X.J hJ
  have hl : lv_has ls 2 [(0, .ref aN), (1, .ref xN)] := hl
  refine wgen (H := sT.heap) (locs := []) hH (fun H locs hH => ?_)
  refine lv_aload_n hx hb dJ2_add_0 rfl (lv_at hl 0 rfl) ?_
  refine lv_dup hx hb dJ2_add_1 rfl ?_
  refine x_get X hH.1.1 in_J2 (mem_k 0 rfl) rfl 0 (by decide) q130 (fun x h => u_same (hts _ q131) x h) rfl dJ2_add_2 ?_
  refine lv_iconst (v := nI 1) hx hb dJ2_add_5 (by decide) ?_
  refine lv_iadd hx hb dJ2_add_6 ?_
  refine x_put X hH in_J2 tyJ2 tyJ2_ok nmJ2 0 rfl rfl 0 (by decide) q130 (fun x h => u_same (hts _ q131) x h) rfl (ty := .int) (by decide +kernel) rfl rfl (Nat.le_of_ble_eq_true rfl) dJ2_add_7 (fun H locs hH => ?_)
  have hH : HH G sT ([oC aN 10 [.int (mc + (nI 1)), .ref eN, .int (nI nN)], qC G eN 10 fr] ++ wr) H locs := hH
  refine lv_aload_n hx hb dJ2_add_10 rfl (lv_at hl 0 rfl) ?_
  refine lv_aload_n hx hb dJ2_add_11 rfl (lv_at hl 1 rfl) ?_
  refine lv_aload_n hx hb dJ2_add_12 rfl (lv_at hl 0 rfl) ?_
  refine x_get X hH.1.1 in_J2 (mem_k 0 rfl) rfl 1 (by decide) q127 (fun _ h => h) rfl dJ2_add_13 ?_
  refine lv_aload_n hx hb dJ2_add_16 rfl (lv_at hl 0 rfl) ?_
  refine x_get X hH.1.1 in_J2 (mem_k 0 rfl) rfl 2 (by decide) q128 (fun _ h => h) rfl dJ2_add_17 ?_
  refine x_MVv (c_J2_add_2s hE hJ hv hc hca hn) X hH (x_rc X hH.1.1 (mem_k 0 rfl) rfl) (lw_V q763 q765 qs5 q66 q766) hdv_J2_add_2 ⟨Nat.le_of_ble_eq_true rfl, Nat.le_of_ble_eq_true rfl⟩ rfl hl.1 rfl (Nat.le_of_ble_eq_true rfl) ⟨(Nat.le_of_ble_eq_true rfl), (Nat.le_of_ble_eq_true rfl)⟩ dJ2_add_20 (fun w H locs hq hH => ?_)
  obtain rfl := hq
  refine x_widen (k2 := 1) (n2 := 10) (Nat.le_of_ble_eq_true rfl) (Nat.le_of_ble_eq_true rfl) ?_
  have hH : HH G sT ([oC aN 10 [.int (mc + nI 1), .ref eN, .int (nI (nN + 1))], qC G eN 10 (va_up fr nN (some xN))] ++ wr) H locs := hH
  refine lv_iconst (v := nI 1) hx hb dJ2_add_23 (by decide) ?_
  exact ret _ _ _ _ _ _ _ _ hH (⟨rfl, rfl⟩) (by decide) (Nat.le_of_ble_eq_true rfl) (Nat.le_of_ble_eq_true rfl) dJ2_add_24
theorem c_J2_add_n (hE : EnvOK G E) (hJ : EnvJ G E sa) {xN ci : Nat} {vs : List Value} {rC : vw_C} (hv : oC xN ci vs ∈ wr) (hc : cls[ci]? = some rC) (hca : Cond.castable rC.1 "java/lang/Object" ∈ lw_tbl) : MU vI l G E yJ2_add cJ2_add 2 (some .boolean) 4 1 10 [.ref aN, .ref xN] ([oC aN 10 [.int mc, .ref (sa 0), .int (nI 0)]] ++ wr) (fun r w => ∃ q, r = nI 1 ∧ w = [oC aN 10 [.int (mc + nI 1), .ref q, .int (nI 1)], qC G q 10 (va_up (fun _ => none) 0 (some xN))] ++ wr) := by
  refine MUz hE (by decide) (Nat.le_of_ble_eq_true rfl) (fun pR eV sT mI below meth cd QQ ls X hH hl ret => ?_)
  obtain ⟨⟨hx, hb, hml, hown, hts⟩, ⟨hr, hlk⟩, -, -, -⟩ := id X
  have hJs := X.J hJ
  have hl : lv_has ls 2 [(0, .ref aN), (1, .ref xN)] := hl
  refine wgen (H := sT.heap) (locs := []) hH (fun H locs hH => ?_)
  refine lv_aload_n hx hb dJ2_add_0 rfl (lv_at hl 0 rfl) ?_
  refine lv_dup hx hb dJ2_add_1 rfl ?_
  refine x_get X hH.1.1 in_J2 (mem_k 0 rfl) rfl 0 (by decide) q130 (fun x h => u_same (hts _ q131) x h) rfl dJ2_add_2 ?_
  refine lv_iconst (v := nI 1) hx hb dJ2_add_5 (by decide) ?_
  refine lv_iadd hx hb dJ2_add_6 ?_
  refine x_put X hH in_J2 tyJ2 tyJ2_ok nmJ2 0 rfl rfl 0 (by decide) q130 (fun x h => u_same (hts _ q131) x h) rfl (ty := .int) (by decide +kernel) rfl rfl (Nat.le_of_ble_eq_true rfl) dJ2_add_7 (fun H locs hH => ?_)
  have hH : HH G sT ([oC aN 10 [.int (mc + (nI 1)), .ref (sa 0), .int (nI 0)]] ++ wr) H locs := hH
  refine lv_aload_n hx hb dJ2_add_10 rfl (lv_at hl 0 rfl) ?_
  refine lv_aload_n hx hb dJ2_add_11 rfl (lv_at hl 1 rfl) ?_
  refine lv_aload_n hx hb dJ2_add_12 rfl (lv_at hl 0 rfl) ?_
  refine x_get X hH.1.1 in_J2 (mem_k 0 rfl) rfl 1 (by decide) q127 (fun _ h => h) rfl dJ2_add_13 ?_
  refine lv_aload_n hx hb dJ2_add_16 rfl (lv_at hl 0 rfl) ?_
  refine x_get X hH.1.1 in_J2 (mem_k 0 rfl) rfl 2 (by decide) q128 (fun _ h => h) rfl dJ2_add_17 ?_
  refine x_MVv (c_J2_add_2n hE hJ hv hc hca) X hH (x_rc X hH.1.1 (mem_k 0 rfl) rfl) (lw_V q763 q765 qs5 q66 q766) hdv_J2_add_2 ⟨Nat.le_of_ble_eq_true rfl, Nat.le_of_ble_eq_true rfl⟩ rfl hl.1 rfl (Nat.le_of_ble_eq_true rfl) ⟨(Nat.le_of_ble_eq_true rfl), (Nat.le_of_ble_eq_true rfl)⟩ dJ2_add_20 (fun w H locs hq hH => ?_)
  obtain ⟨q, rfl⟩ := hq
  refine x_widen (k2 := 1) (n2 := 10) (Nat.le_of_ble_eq_true rfl) (Nat.le_of_ble_eq_true rfl) ?_
  have hH : HH G sT ([oC aN 10 [.int (mc + nI 1), .ref q, .int (nI 1)], qC G q 10 (va_up (fun _ => none) 0 (some xN))] ++ wr) H locs := hH
  refine lv_iconst (v := nI 1) hx hb dJ2_add_23 (by decide) ?_
  exact ret _ _ _ _ _ _ _ _ hH (⟨q, rfl, rfl⟩) (by decide) (Nat.le_of_ble_eq_true rfl) (Nat.le_of_ble_eq_true rfl) dJ2_add_24
theorem l_add (hE : EnvOK G E) (hJ : EnvJ G E sa) {xN ci : Nat} {vs : List Value} {rC : vw_C} (hv : oC xN ci vs ∈ wr) (hc : cls[ci]? = some rC) (hca : Cond.castable rC.1 "java/lang/Object" ∈ lw_tbl) {o : Option (Nat → Option Nat)} (hk : lsK sa eN nN o) (hn : nN < 10) : MU vI l G E yJ2_add cJ2_add 2 (some .boolean) 4 1 10 [.ref aN, .ref xN] (lsW G aN mc eN nN o ++ wr) (fun r w => ∃ e', w = lsW G aN (mc + nI 1) e' (nN + 1) (some (va_up (elO o) nN (some xN))) ++ wr) := by
  cases o with
  | none =>
    obtain ⟨h1, h2⟩ := hk.2 rfl
    subst h1 h2
    exact MU.imp (c_J2_add_n hE hJ hv hc hca) (fun r w h => by obtain ⟨q, -, h⟩ := h; exact ⟨q, h⟩)
  | some f => exact MU.imp (c_J2_add_s hE hJ hv hc hca hn) (fun r w h => ⟨_, h.2⟩)
/-- a list without its element i -/
def remO (f : Nat → Option Nat) (i : Nat) : Nat → Option Nat := fun k => if k < i then f k else f (k + 1)
theorem remO_last {f : Nat → Option Nat} {n i k : Nat} (hi : n - 1 ≤ i) (hk : k < n - 1) (v : Option Nat) : va_up f (n - 1) v k = remO f i k := by
  unfold remO
  rw [va_up_ne _ _ (show k ≠ n - 1 by omega), if_pos (by omega)]
theorem remO_cpy {f : Nat → Option Nat} {n i k : Nat} (hi : i < n - 1) (hk : k < n - 1) (v : Option Nat) : va_up (va_cpy f f (i + 1) i (n - 1 - i)) (n - 1) v k = remO f i k := by
  unfold remO
  rw [va_up_ne _ _ (show k ≠ n - 1 by omega)]
  unfold va_cpy
  by_cases h : k < i
  · rw [if_neg (by omega), if_pos h]
  · rw [if_pos (by omega), if_neg h, show i + 1 + (k - i) = k + 1 by omega]
theorem hdv_J2_fastRemove : yJ2_fastRemove.cls = RJ2 ∧ yJ2_fastRemove.cls ≠ "java/lang/invoke/MethodHandle" ∧ yJ2_fastRemove.cls ≠ "java/lang/invoke/VarHandle" ∧ (parseMethodDescriptor yJ2_fastRemove.desc).map (fun d => d.parameters.length) = some 2 := by decide +kernel
theorem c_J2_fastRemove (hE : EnvOK G E) (hJ : EnvJ G E sa) {ci : Nat} {rC : vw_C} (hc : cls[ci]? = some rC) (hca : Cond.castable rC.1 "java/lang/Object" ∈ lw_tbl) (hel : ∀ i, i < nN → ∀ y, fr i = some y → ∃ vs, oC y ci vs ∈ wr) (hi : iN < nN) (hn : nN ≤ 10) : MU vV l G E yJ2_fastRemove cJ2_fastRemove 4 none 1 0 0 [.ref aN, .ref eN, .int (nI iN)] ([oC aN 10 [.int mc, .ref eN, .int (nI nN)], qC G eN 10 fr] ++ wr) (fun _ w => ∃ g, (∀ k, k < nN - 1 → g k = remO fr iN k) ∧ w = [oC aN 10 [.int (mc + nI 1), .ref eN, .int (nI (nN - 1))], qC G eN 10 g] ++ wr) := by
  refine MUv hE (by decide) (Nat.le_of_ble_eq_true rfl) (fun pR eV sT mI below meth cd QQ ls X hH hl ret => ?_)
  obtain ⟨⟨hx, hb, hml, hown, hts⟩, ⟨hr, hlk⟩, -, -, -⟩ := id X
  have hJs := X.J hJ
  have hl : lv_has ls 4 [(0, .ref aN), (1, .ref eN), (2, .int (nI iN))] := hl
  refine wgen (H := sT.heap) (locs := []) hH (fun H locs hH => ?_)
  refine lv_aload_n hx hb dJ2_fastRemove_0 rfl (lv_at hl 0 rfl) ?_
  refine lv_dup hx hb dJ2_fastRemove_1 rfl ?_
  refine x_get X hH.1.1 in_J2 (mem_k 0 rfl) rfl 0 (by decide) q130 (fun x h => u_same (hts _ q131) x h) rfl dJ2_fastRemove_2 ?_
  refine lv_iconst (v := nI 1) hx hb dJ2_fastRemove_5 (by decide) ?_
  refine lv_iadd hx hb dJ2_fastRemove_6 ?_
  refine x_put X hH in_J2 tyJ2 tyJ2_ok nmJ2 0 rfl rfl 0 (by decide) q130 (fun x h => u_same (hts _ q131) x h) rfl (ty := .int) (by decide +kernel) rfl rfl (Nat.le_of_ble_eq_true rfl) dJ2_fastRemove_7 (fun H locs hH => ?_)
  have hH : HH G sT ([oC aN 10 [.int (mc + (nI 1)), .ref eN, .int (nI nN)], qC G eN 10 fr] ++ wr) H locs := hH
  refine lv_aload_n hx hb dJ2_fastRemove_10 rfl (lv_at hl 0 rfl) ?_
  refine x_get X hH.1.1 in_J2 (mem_k 0 rfl) rfl 2 (by decide) q128 (fun _ h => h) rfl dJ2_fastRemove_11 ?_
  refine lv_iconst (v := nI 1) hx hb dJ2_fastRemove_14 (by decide) ?_
  refine n_isub hx hb (by omega) dJ2_fastRemove_15 ?_
  refine lv_dup hx hb dJ2_fastRemove_16 rfl ?_
  refine lv_istore_n (lv' := [(3, .int (nI (nN - 1))), (0, .ref aN), (1, .ref eN), (2, .int (nI iN))]) hx hb dJ2_fastRemove_17 rfl hl (by decide) rfl (fun ls hl => ?_)
  refine lv_iload_n hx hb dJ2_fastRemove_18 rfl (lv_at hl 3 rfl) ?_
  refine n_icmp_le (tgt := 34) hx hb (by omega) (by omega) dJ2_fastRemove_19 (by decide) (fun c1 => ?_) (fun c1 => ?_)
  · refine lv_aload_n hx hb dJ2_fastRemove_34 rfl (lv_at hl 2 rfl) ?_
    refine lv_aload_n hx hb dJ2_fastRemove_35 rfl (lv_at hl 1 rfl) ?_
    refine lv_iload_n hx hb dJ2_fastRemove_36 rfl (lv_at hl 0 rfl) ?_
    refine lv_dup_x1 hx hb dJ2_fastRemove_37 rfl rfl ?_
    refine x_put X hH in_J2 tyJ2 tyJ2_ok nmJ2 0 rfl rfl 2 (by decide) q128 (fun _ h => h) rfl (ty := .int) (by decide +kernel) rfl rfl (Nat.le_of_ble_eq_true rfl) dJ2_fastRemove_38 (fun H locs hH => ?_)
    have hH : HH G sT ([oC aN 10 [.int (mc + (nI 1)), .ref eN, .int (nI (nN - 1))], qC G eN 10 fr] ++ wr) H locs := hH
    refine lv_null hx hb dJ2_fastRemove_41 ?_
    refine x_aastN X hH 1 rfl (t0 := 2) rfl (by omega) (by decide) dJ2_fastRemove_42 (fun g_1 H locs eg_1 hH => ?_)
    have hH : HH G sT ([oC aN 10 [.int (mc + (nI 1)), .ref eN, .int (nI (nN - 1))], qC G eN 10 g_1] ++ wr) H locs := hH
    exact ret _ _ _ _ _ _ _ hH (⟨_, fun k hk => by rw [eg_1]; exact remO_last (n := nN) (by omega) hk none, rfl⟩) (Nat.le_of_ble_eq_true rfl) (Nat.le_of_ble_eq_true rfl) dJ2_fastRemove_43
  · refine lv_aload_n hx hb dJ2_fastRemove_22 rfl (lv_at hl 2 rfl) ?_
    refine lv_iload_n hx hb dJ2_fastRemove_23 rfl (lv_at hl 3 rfl) ?_
    refine lv_iconst (v := nI 1) hx hb dJ2_fastRemove_24 (by decide) ?_
    refine n_iadd hx hb dJ2_fastRemove_25 ?_
    refine lv_aload_n hx hb dJ2_fastRemove_26 rfl (lv_at hl 2 rfl) ?_
    refine lv_iload_n hx hb dJ2_fastRemove_27 rfl (lv_at hl 3 rfl) ?_
    refine lv_iload_n hx hb dJ2_fastRemove_28 rfl (lv_at hl 0 rfl) ?_
    refine lv_iload_n hx hb dJ2_fastRemove_29 rfl (lv_at hl 3 rfl) ?_
    refine n_isub hx hb (by omega) dJ2_fastRemove_30 ?_
    refine x_copyq X hl.1 q886 q508 q507 q87 hH 1 (mem_k 1 rfl) rfl (by omega) (by omega) hc (fun i hi y hy => by obtain ⟨vs, hv⟩ := hel _ (by omega) y hy; exact ⟨vs, mem_r hv⟩) (hJs.nw hca rfl) (by decide) (by decide) (Nat.le_of_ble_eq_true rfl) (Nat.le_of_ble_eq_true rfl) dJ2_fastRemove_31 (fun H locs hH => ?_)
    have hH : HH G sT ([oC aN 10 [.int (mc + (nI 1)), .ref eN, .int (nI nN)], qC G eN 10 (va_cpy fr fr (iN + 1) iN ((nN - 1) - iN))] ++ wr) H locs := hH
    refine lv_aload_n hx hb dJ2_fastRemove_34 rfl (lv_at hl 2 rfl) ?_
    refine lv_aload_n hx hb dJ2_fastRemove_35 rfl (lv_at hl 1 rfl) ?_
    refine lv_iload_n hx hb dJ2_fastRemove_36 rfl (lv_at hl 0 rfl) ?_
    refine lv_dup_x1 hx hb dJ2_fastRemove_37 rfl rfl ?_
    refine x_put X hH in_J2 tyJ2 tyJ2_ok nmJ2 0 rfl rfl 2 (by decide) q128 (fun _ h => h) rfl (ty := .int) (by decide +kernel) rfl rfl (Nat.le_of_ble_eq_true rfl) dJ2_fastRemove_38 (fun H locs hH => ?_)
    have hH : HH G sT ([oC aN 10 [.int (mc + (nI 1)), .ref eN, .int (nI (nN - 1))], qC G eN 10 (va_cpy fr fr (iN + 1) iN ((nN - 1) - iN))] ++ wr) H locs := hH
    refine lv_null hx hb dJ2_fastRemove_41 ?_
    refine x_aastN X hH 1 rfl (t0 := 2) rfl (by omega) (by decide) dJ2_fastRemove_42 (fun g_2 H locs eg_2 hH => ?_)
    have hH : HH G sT ([oC aN 10 [.int (mc + (nI 1)), .ref eN, .int (nI (nN - 1))], qC G eN 10 g_2] ++ wr) H locs := hH
    exact ret _ _ _ _ _ _ _ hH (⟨_, fun k hk => by rw [eg_2]; exact remO_cpy (n := nN) (by omega) hk none, rfl⟩) (Nat.le_of_ble_eq_true rfl) (Nat.le_of_ble_eq_true rfl) dJ2_fastRemove_43
theorem hdv_J2_remove : yJ2_remove.cls = RJ2 ∧ yJ2_remove.cls ≠ "java/lang/invoke/MethodHandle" ∧ yJ2_remove.cls ≠ "java/lang/invoke/VarHandle" ∧ (parseMethodDescriptor yJ2_remove.desc).map (fun d => d.parameters.length) = some 1 := by decide +kernel
theorem c_J2_remove (hE : EnvOK G E) (hJ : EnvJ G E sa) {ci : Nat} {rC : vw_C} (hc : cls[ci]? = some rC) (hca : Cond.castable rC.1 "java/lang/Object" ∈ lw_tbl) (hel : ∀ i, i < nN → ∀ y, fr i = some y → ∃ vs, oC y ci vs ∈ wr) {yN : Nat} (hi : iN < nN) (hn : nN ≤ 10) (hy : fr iN = some yN) : MU vA l G E yJ2_remove cJ2_remove 4 (some (.object "java/lang/Object")) 3 0 0 [.ref aN, .int (nI iN)] ([oC aN 10 [.int mc, .ref eN, .int (nI nN)], qC G eN 10 fr] ++ wr) (fun r w => r = yN ∧ ∃ g, (∀ k, k < nN - 1 → g k = remO fr iN k) ∧ w = [oC aN 10 [.int (mc + nI 1), .ref eN, .int (nI (nN - 1))], qC G eN 10 g] ++ wr) := by
  refine MUa hE (by decide) (Nat.le_of_ble_eq_true rfl) (Or.inl ⟨_, rfl⟩) (fun pR eV sT mI below meth cd QQ ls X hH hl ret => ?_)
  obtain ⟨⟨hx, hb, hml, hown, hts⟩, ⟨hr, hlk⟩, -, -, -⟩ := id X
  have hJs := X.J hJ
  have hl : lv_has ls 4 [(0, .ref aN), (1, .int (nI iN))] := hl
  refine wgen (H := sT.heap) (locs := []) hH (fun H locs hH => ?_)
  refine lv_iload_n hx hb dJ2_remove_0 rfl (lv_at hl 1 rfl) ?_
  refine lv_aload_n hx hb dJ2_remove_1 rfl (lv_at hl 0 rfl) ?_
  refine x_get X hH.1.1 in_J2 (mem_k 0 rfl) rfl 2 (by decide) q128 (fun _ h => h) rfl dJ2_remove_2 ?_
  refine x_RS (c_J19_checkIndex hE hi (by omega)) X hH.2 trivial (lw_S q892 q893 q93 q894) hds_J19_checkIndex ⟨Nat.le_of_ble_eq_true rfl, Nat.le_of_ble_eq_true rfl⟩ rfl hl.1 rfl (Nat.le_of_ble_eq_true rfl) ⟨(Nat.le_of_ble_eq_true rfl), (Nat.le_of_ble_eq_true rfl)⟩ dJ2_remove_5 ?_
  refine lv_pop hx hb dJ2_remove_8 rfl ?_
  refine lv_aload_n hx hb dJ2_remove_9 rfl (lv_at hl 0 rfl) ?_
  refine x_get X hH.1.1 in_J2 (mem_k 0 rfl) rfl 1 (by decide) q127 (fun _ h => h) rfl dJ2_remove_10 ?_
  refine lv_astore_n (lv' := [(2, .ref eN), (0, .ref aN), (1, .int (nI iN))]) hx hb dJ2_remove_13 rfl hl (by decide) rfl (fun ls hl => ?_)
  refine lv_aload_n hx hb dJ2_remove_14 rfl (lv_at hl 0 rfl) ?_
  refine lv_iload_n hx hb dJ2_remove_15 rfl (lv_at hl 2 rfl) ?_
  refine x_aald X hH.1.1 (mem_k 1 rfl) (t0 := 2) rfl (by omega) (by decide) dJ2_remove_16 ?_
  refine x_rf (y := yN) (hy) ?_
  refine lv_astore_n (lv' := [(3, .ref yN), (2, .ref eN), (0, .ref aN), (1, .int (nI iN))]) hx hb dJ2_remove_17 rfl hl (by decide) rfl (fun ls hl => ?_)
  refine lv_aload_n hx hb dJ2_remove_18 rfl (lv_at hl 2 rfl) ?_
  refine lv_aload_n hx hb dJ2_remove_19 rfl (lv_at hl 1 rfl) ?_
  refine lv_iload_n hx hb dJ2_remove_20 rfl (lv_at hl 3 rfl) ?_
  refine x_MVv (c_J2_fastRemove hE hJ hc hca hel hi hn) X hH (x_rc X hH.1.1 (mem_k 0 rfl) rfl) (lw_V q1308 q1310 qs22 q66 q1311) hdv_J2_fastRemove ⟨Nat.le_of_ble_eq_true rfl, Nat.le_of_ble_eq_true rfl⟩ rfl hl.1 rfl (Nat.le_of_ble_eq_true rfl) ⟨(Nat.le_of_ble_eq_true rfl), (Nat.le_of_ble_eq_true rfl)⟩ dJ2_remove_21 (fun w H locs hq hH => ?_)
  obtain ⟨g, hg, rfl⟩ := hq
  have hH : HH G sT ([oC aN 10 [.int (mc + nI 1), .ref eN, .int (nI (nN - 1))], qC G eN 10 g] ++ wr) H locs := hH
  refine lv_aload_n hx hb dJ2_remove_24 rfl (lv_at hl 0 rfl) ?_
  exact ret _ _ _ _ _ _ _ _ hH (⟨rfl, g, hg, rfl⟩) (Nat.le_of_ble_eq_true rfl) (Nat.le_of_ble_eq_true rfl) dJ2_remove_25
theorem l_remove (hE : EnvOK G E) (hJ : EnvJ G E sa) {ci : Nat} {rC : vw_C} (hc : cls[ci]? = some rC) (hca : Cond.castable rC.1 "java/lang/Object" ∈ lw_tbl) {o : Option (Nat → Option Nat)} (hk : lsK sa eN nN o) (h3 : ∀ i, i < nN → elO o i = some (el i)) (hel : ∀ i, i < nN → ∃ vs, oC (el i) ci vs ∈ wr) (hi : iN < nN) : MU vA l G E yJ2_remove cJ2_remove 4 (some (.object "java/lang/Object")) 3 0 0 [.ref aN, .int (nI iN)] (lsW G aN mc eN nN o ++ wr) (fun _ w => ∃ o', lsK sa eN (nN - 1) o' ∧ (∀ i, i < nN - 1 → elO o' i = some (if i < iN then el i else el (i + 1))) ∧ w = lsW G aN (mc + nI 1) eN (nN - 1) o' ++ wr) := by
  cases o with
  | none => exact absurd (hk.2 rfl).1 (by omega)
  | some f =>
    refine MU.imp (c_J2_remove hE hJ hc hca (fun i hi' y hy => ?_) hi hk.1 (h3 iN hi)) (fun r w h => ?_)
    · have := h3 i hi'
      have e : y = el i := Option.some.inj (hy.symm.trans this)
      rw [e]; exact hel i hi'
    · obtain ⟨-, g, hg, hw⟩ := h
      refine ⟨some g, ⟨Nat.le_trans (Nat.sub_le _ _) hk.1, fun q => by cases q⟩, fun i hi' => ?_, hw⟩
      show g i = _
      rw [hg i hi']
      unfold remO
      split
      · exact h3 i (by omega)
      · exact h3 (i + 1) (by omega)
theorem hds_J3_copyOf_3 : yJ3_copyOf_3.cls ≠ "java/lang/invoke/MethodHandle" ∧ yJ3_copyOf_3.cls ≠ "java/lang/invoke/VarHandle" ∧ (parseMethodDescriptor yJ3_copyOf_3.desc).map (fun d => d.parameters.length) = some 3 := by decide +kernel
theorem c_J3_copyOf_3s (hE : EnvOK G E) (hJ : EnvJ G E sa) {ci : Nat} {rC : vw_C} (hc : cls[ci]? = some rC) (hca : Cond.castable rC.1 "java/lang/Object" ∈ lw_tbl) (hel : ∀ i, i < nN → ∀ y, fr i = some y → ∃ vs, oC y ci vs ∈ wr) (h1 : qC G eN 10 fr ∈ wr) (hn : nN ≤ 10) : MU vA l G E yJ3_copyOf_3 cJ3_copyOf_3 4 (some (.array (.object "java/lang/Object"))) 1 1 10 [.ref eN, .int (nI nN), .ref (sa 4)] (wr) (fun r w => ∃ g, (∀ k, k < nN → g k = fr k) ∧ w = [qC G r nN g] ++ wr) := by
  refine MUa hE (by decide) (Nat.le_of_ble_eq_true rfl) (Or.inr ⟨_, rfl⟩) (fun pR eV sT mI below meth cd QQ ls X hH hl ret => ?_)
  obtain ⟨⟨hx, hb, hml, hown, hts⟩, ⟨hr, hlk⟩, -, -, -⟩ := id X
  have hJs := X.J hJ
  have hl : lv_has ls 4 [(0, .ref eN), (1, .int (nI nN)), (2, .ref (sa 4))] := hl
  refine wgen (H := sT.heap) (locs := []) hH (fun H locs hH => ?_)
  refine lv_aload_n hx hb dJ3_copyOf_3_0 rfl (lv_at hl 2 rfl) ?_
  refine x_ldcM X q805 hJs.2.2.1.2.2 dJ3_copyOf_3_1 ?_
  refine lv_acmp_ne (rx := some (sa 4)) (ry := some (sa 4)) (tgt := 13) hx hb dJ3_copyOf_3_3 (by decide) (fun c1 => absurd rfl c1) (fun c1 => ?_)
  refine lv_iload_n hx hb dJ3_copyOf_3_6 rfl (lv_at hl 1 rfl) ?_
  refine x_newq X hH (t0 := 2) rfl q806 hJs.2.1.1 (by omega) (Nat.le_of_ble_eq_true rfl) (show 0 + nN ≤ 10 by omega) dJ3_copyOf_3_7 (fun q H hH => ?_)
  refine x_widen (k2 := 1) (n2 := nN + 0) (by omega) (by omega) ?_
  have hH : HH G sT ([qC G q nN (fun _ => none)] ++ wr) H locs := hH
  refine lv_goto (tgt := 24) hx hb dJ3_copyOf_3_10 (by decide) ?_
  refine lv_astore_n (lv' := [(3, .ref q), (0, .ref eN), (1, .int (nI nN)), (2, .ref (sa 4))]) hx hb dJ3_copyOf_3_24 rfl hl (by decide) rfl (fun ls hl => ?_)
  refine lv_aload_n hx hb dJ3_copyOf_3_25 rfl (lv_at hl 1 rfl) ?_
  refine lv_iconst (v := nI 0) hx hb dJ3_copyOf_3_26 (by decide) ?_
  refine lv_aload_n hx hb dJ3_copyOf_3_27 rfl (lv_at hl 0 rfl) ?_
  refine lv_iconst (v := nI 0) hx hb dJ3_copyOf_3_28 (by decide) ?_
  refine lv_aload_n hx hb dJ3_copyOf_3_29 rfl (lv_at hl 1 rfl) ?_
  refine x_alen X hH.1.1 (mem_r h1) (t0 := 2) rfl dJ3_copyOf_3_30 ?_
  refine lv_iload_n hx hb dJ3_copyOf_3_31 rfl (lv_at hl 2 rfl) ?_
  refine x_min X hl.1 q503 q504 q86 q505 (Nat.le_of_ble_eq_true rfl) (Nat.le_of_ble_eq_true rfl) ⟨(show 1 ≤ 1 by omega), (show nN + 0 ≤ 10 by omega)⟩ dJ3_copyOf_3_32 ?_
  refine n_top (y := nI nN) (min_le (by omega) (by decide)) ?_
  refine x_copyq X hl.1 q506 q508 q507 q87 hH 0 (mem_r h1) rfl (by omega) (by omega) hc (fun i hi y hy => by obtain ⟨vs, hv⟩ := hel i hi y (by rw [Nat.zero_add] at hy; exact hy); exact ⟨vs, mem_r hv⟩) (hJs.nw hca rfl) (by decide) (by omega) (Nat.le_of_ble_eq_true rfl) (Nat.le_of_ble_eq_true rfl) dJ3_copyOf_3_35 (fun H locs hH => ?_)
  have hH : HH G sT ([qC G q nN (va_cpy fr (fun _ => none) 0 0 nN)] ++ wr) H locs := hH
  refine lv_aload_n hx hb dJ3_copyOf_3_38 rfl (lv_at hl 0 rfl) ?_
  exact ret _ _ _ _ _ _ _ _ hH (⟨_, fun k hk => by have := cpyAt (f := fr) (g := fun _ => none) (sp := 0) (dp := 0) hk; rw [Nat.zero_add] at this; exact this, rfl⟩) (show 1 ≤ 1 by omega) (show nN + 0 ≤ 10 by omega) dJ3_copyOf_3_39
theorem c_J3_copyOf_3n (hE : EnvOK G E) (hJ : EnvJ G E sa) : MU vA l G E yJ3_copyOf_3 cJ3_copyOf_3 4 (some (.array (.object "java/lang/Object"))) 1 1 10 [.ref (sa 0), .int (nI 0), .ref (sa 4)] (wr) (fun r w => ∃ g, w = [qC G r 0 g] ++ wr) := by
  refine MUa hE (by decide) (Nat.le_of_ble_eq_true rfl) (Or.inr ⟨_, rfl⟩) (fun pR eV sT mI below meth cd QQ ls X hH hl ret => ?_)
  obtain ⟨⟨hx, hb, hml, hown, hts⟩, ⟨hr, hlk⟩, -, -, -⟩ := id X
  have hJs := X.J hJ
  have hl : lv_has ls 4 [(0, .ref (sa 0)), (1, .int (nI 0)), (2, .ref (sa 4))] := hl
  refine wgen (H := sT.heap) (locs := []) hH (fun H locs hH => ?_)
  refine lv_aload_n hx hb dJ3_copyOf_3_0 rfl (lv_at hl 2 rfl) ?_
  refine x_ldcM X q805 hJs.2.2.1.2.2 dJ3_copyOf_3_1 ?_
  refine lv_acmp_ne (rx := some (sa 4)) (ry := some (sa 4)) (tgt := 13) hx hb dJ3_copyOf_3_3 (by decide) (fun c1 => absurd rfl c1) (fun c1 => ?_)
  refine lv_iload_n hx hb dJ3_copyOf_3_6 rfl (lv_at hl 1 rfl) ?_
  refine x_newq X hH (t0 := 2) rfl q806 hJs.2.1.1 (by decide) (Nat.le_of_ble_eq_true rfl) (Nat.le_of_ble_eq_true rfl) dJ3_copyOf_3_7 (fun q H hH => ?_)
  refine x_widen (k2 := 1) (n2 := 0) (Nat.le_of_ble_eq_true rfl) (Nat.le_of_ble_eq_true rfl) ?_
  have hH : HH G sT ([qC G q 0 (fun _ => none)] ++ wr) H locs := hH
  refine lv_goto (tgt := 24) hx hb dJ3_copyOf_3_10 (by decide) ?_
  refine lv_astore_n (lv' := [(3, .ref q), (0, .ref (sa 0)), (1, .int (nI 0)), (2, .ref (sa 4))]) hx hb dJ3_copyOf_3_24 rfl hl (by decide) rfl (fun ls hl => ?_)
  refine lv_aload_n hx hb dJ3_copyOf_3_25 rfl (lv_at hl 1 rfl) ?_
  refine lv_iconst (v := nI 0) hx hb dJ3_copyOf_3_26 (by decide) ?_
  refine lv_aload_n hx hb dJ3_copyOf_3_27 rfl (lv_at hl 0 rfl) ?_
  refine lv_iconst (v := nI 0) hx hb dJ3_copyOf_3_28 (by decide) ?_
  refine lv_aload_n hx hb dJ3_copyOf_3_29 rfl (lv_at hl 1 rfl) ?_
  obtain ⟨fvT, hT⟩ := hJs.2.2.2.1.2.2
  refine va_tlen hx hb hT hH.2 (v := nI 0) rfl dJ3_copyOf_3_30 ?_
  refine lv_iload_n hx hb dJ3_copyOf_3_31 rfl (lv_at hl 2 rfl) ?_
  refine x_min X hl.1 q503 q504 q86 q505 (Nat.le_of_ble_eq_true rfl) (Nat.le_of_ble_eq_true rfl) ⟨(Nat.le_of_ble_eq_true rfl), (Nat.le_of_ble_eq_true rfl)⟩ dJ3_copyOf_3_32 ?_
  refine n_top (y := nI 0) (rfl) ?_
  refine x_copyg X hl.1 q506 q508 q507 q87 hH 0 hT rfl (by omega) (by omega) (by decide) (Nat.le_of_ble_eq_true rfl) (Nat.le_of_ble_eq_true rfl) dJ3_copyOf_3_35 (fun H locs hH => ?_)
  have hH : HH G sT ([qC G q 0 (va_cpy (fun _ => none) (fun _ => none) 0 0 0)] ++ wr) H locs := hH
  refine lv_aload_n hx hb dJ3_copyOf_3_38 rfl (lv_at hl 0 rfl) ?_
  exact ret _ _ _ _ _ _ _ _ hH (⟨_, rfl⟩) (Nat.le_of_ble_eq_true rfl) (Nat.le_of_ble_eq_true rfl) dJ3_copyOf_3_39
theorem hds_J3_copyOf_2 : yJ3_copyOf_2.cls ≠ "java/lang/invoke/MethodHandle" ∧ yJ3_copyOf_2.cls ≠ "java/lang/invoke/VarHandle" ∧ (parseMethodDescriptor yJ3_copyOf_2.desc).map (fun d => d.parameters.length) = some 2 := by decide +kernel
theorem c_J3_copyOf_2s (hE : EnvOK G E) (hJ : EnvJ G E sa) {ci : Nat} {rC : vw_C} (hc : cls[ci]? = some rC) (hca : Cond.castable rC.1 "java/lang/Object" ∈ lw_tbl) (hel : ∀ i, i < nN → ∀ y, fr i = some y → ∃ vs, oC y ci vs ∈ wr) (h1 : qC G eN 10 fr ∈ wr) (hn : nN ≤ 10) : MU vA l G E yJ3_copyOf_2 cJ3_copyOf_2 2 (some (.array (.object "java/lang/Object"))) 2 1 10 [.ref eN, .int (nI nN)] (wr) (fun r w => ∃ g, (∀ k, k < nN → g k = fr k) ∧ w = [qC G r nN g] ++ wr) := by
  refine MUa hE (by decide) (Nat.le_of_ble_eq_true rfl) (Or.inr ⟨_, rfl⟩) (fun pR eV sT mI below meth cd QQ ls X hH hl ret => ?_)
  obtain ⟨⟨hx, hb, hml, hown, hts⟩, ⟨hr, hlk⟩, -, -, -⟩ := id X
  have hJs := X.J hJ
  have hl : lv_has ls 2 [(0, .ref eN), (1, .int (nI nN))] := hl
  refine wgen (H := sT.heap) (locs := []) hH (fun H locs hH => ?_)
  refine lv_aload_n hx hb dJ3_copyOf_2_0 rfl (lv_at hl 0 rfl) ?_
  refine lv_iload_n hx hb dJ3_copyOf_2_1 rfl (lv_at hl 1 rfl) ?_
  refine lv_aload_n hx hb dJ3_copyOf_2_2 rfl (lv_at hl 0 rfl) ?_
  refine x_getC X hl.1 q779 hJs.2.2.1.2.1 q1821 q780 q801 hJs.2.2.1.2.2 (x_arc X hH.1.1 h1 hJs.2.2.1.2.2) (Nat.le_of_ble_eq_true rfl) (Nat.le_of_ble_eq_true rfl) dJ3_copyOf_2_3 ?_
  refine x_MSa (c_J3_copyOf_3s hE hJ hc hca hel h1 hn) X hH (lw_S q802 q803 q68 q804) hds_J3_copyOf_3 ⟨Nat.le_of_ble_eq_true rfl, Nat.le_of_ble_eq_true rfl⟩ rfl hl.1 rfl (Nat.le_of_ble_eq_true rfl) ⟨(Nat.le_of_ble_eq_true rfl), (Nat.le_of_ble_eq_true rfl)⟩ dJ3_copyOf_2_6 (fun r w H locs hq hH => ?_)
  obtain ⟨g, hg, rfl⟩ := hq
  refine x_widen (k2 := 1) (n2 := 10) (Nat.le_of_ble_eq_true rfl) (Nat.le_of_ble_eq_true rfl) ?_
  have hH : HH G sT ([qC G r nN g] ++ wr) H locs := hH
  exact ret _ _ _ _ _ _ _ _ hH (⟨g, hg, rfl⟩) (Nat.le_of_ble_eq_true rfl) (Nat.le_of_ble_eq_true rfl) dJ3_copyOf_2_9
theorem c_J3_copyOf_2n (hE : EnvOK G E) (hJ : EnvJ G E sa) : MU vA l G E yJ3_copyOf_2 cJ3_copyOf_2 2 (some (.array (.object "java/lang/Object"))) 2 1 10 [.ref (sa 0), .int (nI 0)] (wr) (fun r w => ∃ g, w = [qC G r 0 g] ++ wr) := by
  refine MUa hE (by decide) (Nat.le_of_ble_eq_true rfl) (Or.inr ⟨_, rfl⟩) (fun pR eV sT mI below meth cd QQ ls X hH hl ret => ?_)
  obtain ⟨⟨hx, hb, hml, hown, hts⟩, ⟨hr, hlk⟩, -, -, -⟩ := id X
  have hJs := X.J hJ
  have hl : lv_has ls 2 [(0, .ref (sa 0)), (1, .int (nI 0))] := hl
  refine wgen (H := sT.heap) (locs := []) hH (fun H locs hH => ?_)
  refine lv_aload_n hx hb dJ3_copyOf_2_0 rfl (lv_at hl 0 rfl) ?_
  refine lv_iload_n hx hb dJ3_copyOf_2_1 rfl (lv_at hl 1 rfl) ?_
  refine lv_aload_n hx hb dJ3_copyOf_2_2 rfl (lv_at hl 0 rfl) ?_
  refine x_getC X hl.1 q779 hJs.2.2.1.2.1 q1821 q780 q801 hJs.2.2.1.2.2 (x_arcT hH.2 hJs.2.2.2.1.2.1) (Nat.le_of_ble_eq_true rfl) (Nat.le_of_ble_eq_true rfl) dJ3_copyOf_2_3 ?_
  refine x_MSa (c_J3_copyOf_3n hE hJ) X hH (lw_S q802 q803 q68 q804) hds_J3_copyOf_3 ⟨Nat.le_of_ble_eq_true rfl, Nat.le_of_ble_eq_true rfl⟩ rfl hl.1 rfl (Nat.le_of_ble_eq_true rfl) ⟨(Nat.le_of_ble_eq_true rfl), (Nat.le_of_ble_eq_true rfl)⟩ dJ3_copyOf_2_6 (fun r w H locs hq hH => ?_)
  obtain ⟨g, rfl⟩ := hq
  refine x_widen (k2 := 1) (n2 := 10) (Nat.le_of_ble_eq_true rfl) (Nat.le_of_ble_eq_true rfl) ?_
  have hH : HH G sT ([qC G r 0 g] ++ wr) H locs := hH
  exact ret _ _ _ _ _ _ _ _ hH (⟨g, rfl⟩) (Nat.le_of_ble_eq_true rfl) (Nat.le_of_ble_eq_true rfl) dJ3_copyOf_2_9
theorem hdv_J2_toArray : yJ2_toArray.cls = RJ2 ∧ yJ2_toArray.cls ≠ "java/lang/invoke/MethodHandle" ∧ yJ2_toArray.cls ≠ "java/lang/invoke/VarHandle" ∧ (parseMethodDescriptor yJ2_toArray.desc).map (fun d => d.parameters.length) = some 0 := by decide +kernel
theorem c_J2_toArray_s (hE : EnvOK G E) (hJ : EnvJ G E sa) (h0 : oC aN 10 [.int mc, .ref eN, .int (nI nN)] ∈ wr) {ci : Nat} {rC : vw_C} (hc : cls[ci]? = some rC) (hca : Cond.castable rC.1 "java/lang/Object" ∈ lw_tbl) (hel : ∀ i, i < nN → ∀ y, fr i = some y → ∃ vs, oC y ci vs ∈ wr) (h1 : qC G eN 10 fr ∈ wr) (hn : nN ≤ 10) : MU vA l G E yJ2_toArray cJ2_toArray 1 (some (.array (.object "java/lang/Object"))) 3 1 10 [.ref aN] (wr) (fun r w => ∃ g, (∀ k, k < nN → g k = fr k) ∧ w = [qC G r nN g] ++ wr) := by
  refine MUa hE (by decide) (Nat.le_of_ble_eq_true rfl) (Or.inr ⟨_, rfl⟩) (fun pR eV sT mI below meth cd QQ ls X hH hl ret => ?_)
  obtain ⟨⟨hx, hb, hml, hown, hts⟩, ⟨hr, hlk⟩, -, -, -⟩ := id X
  have hJs := X.J hJ
  have hl : lv_has ls 1 [(0, .ref aN)] := hl
  refine wgen (H := sT.heap) (locs := []) hH (fun H locs hH => ?_)
  refine lv_aload_n hx hb dJ2_toArray_0 rfl (lv_at hl 0 rfl) ?_
  refine x_get X hH.1.1 in_J2 h0 rfl 1 (by decide) q127 (fun _ h => h) rfl dJ2_toArray_1 ?_
  refine lv_aload_n hx hb dJ2_toArray_4 rfl (lv_at hl 0 rfl) ?_
  refine x_get X hH.1.1 in_J2 h0 rfl 2 (by decide) q128 (fun _ h => h) rfl dJ2_toArray_5 ?_
  refine x_MSa (c_J3_copyOf_2s hE hJ hc hca hel h1 hn) X hH (lw_S q776 q777 q68 q778) hds_J3_copyOf_2 ⟨Nat.le_of_ble_eq_true rfl, Nat.le_of_ble_eq_true rfl⟩ rfl hl.1 rfl (Nat.le_of_ble_eq_true rfl) ⟨(Nat.le_of_ble_eq_true rfl), (Nat.le_of_ble_eq_true rfl)⟩ dJ2_toArray_8 (fun r w H locs hq hH => ?_)
  obtain ⟨g, hg, rfl⟩ := hq
  refine x_widen (k2 := 1) (n2 := 10) (Nat.le_of_ble_eq_true rfl) (Nat.le_of_ble_eq_true rfl) ?_
  have hH : HH G sT ([qC G r nN g] ++ wr) H locs := hH
  exact ret _ _ _ _ _ _ _ _ hH (⟨g, hg, rfl⟩) (Nat.le_of_ble_eq_true rfl) (Nat.le_of_ble_eq_true rfl) dJ2_toArray_11
theorem c_J2_toArray_n (hE : EnvOK G E) (hJ : EnvJ G E sa) (h0 : oC aN 10 [.int mc, .ref (sa 0), .int (nI 0)] ∈ wr) : MU vA l G E yJ2_toArray cJ2_toArray 1 (some (.array (.object "java/lang/Object"))) 3 1 10 [.ref aN] (wr) (fun r w => ∃ g, w = [qC G r 0 g] ++ wr) := by
  refine MUa hE (by decide) (Nat.le_of_ble_eq_true rfl) (Or.inr ⟨_, rfl⟩) (fun pR eV sT mI below meth cd QQ ls X hH hl ret => ?_)
  obtain ⟨⟨hx, hb, hml, hown, hts⟩, ⟨hr, hlk⟩, -, -, -⟩ := id X
  have hJs := X.J hJ
  have hl : lv_has ls 1 [(0, .ref aN)] := hl
  refine wgen (H := sT.heap) (locs := []) hH (fun H locs hH => ?_)
  refine lv_aload_n hx hb dJ2_toArray_0 rfl (lv_at hl 0 rfl) ?_
  refine x_get X hH.1.1 in_J2 h0 rfl 1 (by decide) q127 (fun _ h => h) rfl dJ2_toArray_1 ?_
  refine lv_aload_n hx hb dJ2_toArray_4 rfl (lv_at hl 0 rfl) ?_
  refine x_get X hH.1.1 in_J2 h0 rfl 2 (by decide) q128 (fun _ h => h) rfl dJ2_toArray_5 ?_
  refine x_MSa (c_J3_copyOf_2n hE hJ) X hH (lw_S q776 q777 q68 q778) hds_J3_copyOf_2 ⟨Nat.le_of_ble_eq_true rfl, Nat.le_of_ble_eq_true rfl⟩ rfl hl.1 rfl (Nat.le_of_ble_eq_true rfl) ⟨(Nat.le_of_ble_eq_true rfl), (Nat.le_of_ble_eq_true rfl)⟩ dJ2_toArray_8 (fun r w H locs hq hH => ?_)
  obtain ⟨g, rfl⟩ := hq
  refine x_widen (k2 := 1) (n2 := 10) (Nat.le_of_ble_eq_true rfl) (Nat.le_of_ble_eq_true rfl) ?_
  have hH : HH G sT ([qC G r 0 g] ++ wr) H locs := hH
  exact ret _ _ _ _ _ _ _ _ hH (⟨g, rfl⟩) (Nat.le_of_ble_eq_true rfl) (Nat.le_of_ble_eq_true rfl) dJ2_toArray_11
theorem l_toArray (hE : EnvOK G E) (hJ : EnvJ G E sa) {ci : Nat} {rC : vw_C} (hc : cls[ci]? = some rC) (hca : Cond.castable rC.1 "java/lang/Object" ∈ lw_tbl) (hL : Lst G sa wr aN nN el) (hel : ∀ i, i < nN → ∃ vs, oC (el i) ci vs ∈ wr) : MU vA l G E yJ2_toArray cJ2_toArray 1 (some (.array (.object "java/lang/Object"))) 3 1 10 [.ref aN] wr (fun r w => ∃ g, (∀ k, k < nN → g k = some (el k)) ∧ w = [qC G r nN g] ++ wr) := by
  obtain ⟨mc, e, o, h1, h2, h3⟩ := hL
  cases o with
  | none =>
    obtain ⟨e1, e2⟩ := h2.2 rfl
    subst e1 e2
    exact MU.imp (c_J2_toArray_n hE hJ (h1 _ List.mem_cons_self)) (fun r w h => by obtain ⟨g, hw⟩ := h; exact ⟨g, fun k hk => absurd hk (Nat.not_lt_zero _), hw⟩)
  | some f =>
    refine MU.imp (c_J2_toArray_s hE hJ (h1 _ List.mem_cons_self) hc hca (fun i hi y hy => ?_) (h1 _ (List.mem_cons_of_mem _ List.mem_cons_self)) h2.1) (fun r w h => ?_)
    · have e : y = el i := Option.some.inj (hy.symm.trans (h3 i hi))
      rw [e]; exact hel i hi
    · obtain ⟨g, hg, hw⟩ := h
      exact ⟨g, fun k hk => by rw [hg k hk]; exact h3 k hk, hw⟩
variable {bN : Nat}
theorem hwF {b : ByteArray} {n : Nat} {r : Option FieldType} (h : Cond.code yJ2_toArray b n r ∈ lw_all) (hl : Cond.methodLink "java/util/ArrayList" 42 yColl ∈ lw_all) : GoodIn lw_all (va_wsF "java/util/ArrayList" 42 RJ2 yColl yJ2_toArray (ws_ yJ2_toArray b n r)) := by
  refine lw_app ?_ (lw_meth h)
  intro w hw
  simp only [List.mem_cons, List.not_mem_nil, or_false] at hw
  rcases hw with e | e | e | e
  · rw [e]; exact hl
  · rw [e]; exact q881
  · rw [e]; exact q883
  · rw [e]; exact q66
theorem hdv_J2_addAll : yJ2_addAll.cls = RJ2 ∧ yJ2_addAll.cls ≠ "java/lang/invoke/MethodHandle" ∧ yJ2_addAll.cls ≠ "java/lang/invoke/VarHandle" ∧ (parseMethodDescriptor yJ2_addAll.desc).map (fun d => d.parameters.length) = some 1 := by decide +kernel
theorem c_J2_addAll (hE : EnvOK G E) (hJ : EnvJ G E sa) {ci : Nat} {rC : vw_C} (hc : cls[ci]? = some rC) (hca : Cond.castable rC.1 "java/lang/Object" ∈ lw_tbl) (hL : Lst G sa wr aN nN el) (hel : ∀ i, i < nN → ∃ vs, oC (el i) ci vs ∈ wr) : MU vI l G E yJ2_addAll cJ2_addAll 6 (some .boolean) 4 2 20 [.ref bN, .ref aN] ([oC bN 10 [.int mc, .ref (sa 0), .int (nI 0)]] ++ wr) (fun r w => ∃ mc1 e1 o1, lsK sa e1 nN o1 ∧ (∀ i, i < nN → elO o1 i = some (el i)) ∧ w = lsW G bN mc1 e1 nN o1 ++ wr) := by
  refine MUz hE (by decide) (Nat.le_of_ble_eq_true rfl) (fun pR eV sT mI below meth cd QQ ls X hH hl ret => ?_)
  obtain ⟨⟨hx, hb, hml, hown, hts⟩, ⟨hr, hlk⟩, -, -, -⟩ := id X
  have hJs := X.J hJ
  have hl : lv_has ls 6 [(0, .ref bN), (1, .ref aN)] := hl
  refine wgen (H := sT.heap) (locs := []) hH (fun H locs hH => ?_)
  have hn := hL.len
  obtain ⟨mc0, e0, o0, hm0, -, -⟩ := id hL
  refine lv_aload_n hx hb dJ2_addAll_0 rfl (lv_at hl 1 rfl) ?_
  refine x_MFa (n := 0) (l_toArray (wr := [oC bN 10 [.int mc, .ref (sa 0), .int (nI 0)]] ++ wr) hE hJ hc hca (hL.mono (fun _ h => mem_r h)) (fun i hi => by obtain ⟨vs, hv⟩ := hel i hi; exact ⟨vs, mem_r hv⟩)) X hH (x_rc X hH.1.1 (mem_r (hm0 _ List.mem_cons_self)) rfl) (x_at X 10 rfl) (hwF q885 q862) hJs.2.2.1.1 (by decide +kernel) ⟨Nat.le_of_ble_eq_true rfl, Nat.le_of_ble_eq_true rfl⟩ rfl hl.1 rfl (Nat.le_of_ble_eq_true rfl) ⟨(Nat.le_of_ble_eq_true rfl), (Nat.le_of_ble_eq_true rfl)⟩ dJ2_addAll_1 (fun r w H locs hq hH => ?_)
  obtain ⟨g, hg, rfl⟩ := hq
  refine x_widen (k2 := 1) (n2 := 10) (Nat.le_of_ble_eq_true rfl) (Nat.le_of_ble_eq_true rfl) ?_
  have hH : HH G sT ([qC G r nN g, oC bN 10 [.int mc, .ref (sa 0), .int (nI 0)]] ++ wr) H locs := hH
  refine lv_astore_n (lv' := [(2, .ref r), (0, .ref bN), (1, .ref aN)]) hx hb dJ2_addAll_6 rfl hl (by decide) rfl (fun ls hl => ?_)
  refine lv_aload_n hx hb dJ2_addAll_7 rfl (lv_at hl 1 rfl) ?_
  refine lv_dup hx hb dJ2_addAll_8 rfl ?_
  refine x_get X hH.1.1 in_J2 (mem_k 1 rfl) rfl 0 (by decide) q130 (fun x h => u_same (hts _ q131) x h) rfl dJ2_addAll_9 ?_
  refine lv_iconst (v := nI 1) hx hb dJ2_addAll_12 (by decide) ?_
  refine lv_iadd hx hb dJ2_addAll_13 ?_
  refine x_put X hH in_J2 tyJ2 tyJ2_ok nmJ2 1 rfl rfl 0 (by decide) q130 (fun x h => u_same (hts _ q131) x h) rfl (ty := .int) (by decide +kernel) rfl rfl (Nat.le_of_ble_eq_true rfl) dJ2_addAll_14 (fun H locs hH => ?_)
  have hH : HH G sT ([qC G r nN g, oC bN 10 [.int (mc + (nI 1)), .ref (sa 0), .int (nI 0)]] ++ wr) H locs := hH
  refine lv_aload_n hx hb dJ2_addAll_17 rfl (lv_at hl 0 rfl) ?_
  refine x_alen X hH.1.1 (mem_k 0 rfl) (t0 := 2) rfl dJ2_addAll_18 ?_
  refine lv_istore_n (lv' := [(3, .int (nI nN)), (2, .ref r), (0, .ref bN), (1, .ref aN)]) hx hb dJ2_addAll_19 rfl hl (by decide) rfl (fun ls hl => ?_)
  refine lv_iload_n hx hb dJ2_addAll_20 rfl (lv_at hl 0 rfl) ?_
  refine lv_if_ne (tgt := 26) hx hb dJ2_addAll_21 (by decide) (fun c1 => ?_) (fun c1 => ?_)
  · have c1 : nN ≠ 0 := fun q => c1 (by rw [q]; rfl)
    refine lv_iload_n hx hb dJ2_addAll_26 rfl (lv_at hl 0 rfl) ?_
    refine lv_aload_n hx hb dJ2_addAll_27 rfl (lv_at hl 2 rfl) ?_
    refine x_get X hH.1.1 in_J2 (mem_k 1 rfl) rfl 1 (by decide) q127 (fun _ h => h) rfl dJ2_addAll_28 ?_
    refine lv_dup hx hb dJ2_addAll_31 rfl ?_
    refine lv_astore (lv' := [(4, .ref (sa 0)), (3, .int (nI nN)), (2, .ref r), (0, .ref bN), (1, .ref aN)]) hx hb dJ2_addAll_32 hl (by decide) rfl (fun ls hl => ?_)
    obtain ⟨fvT, hT⟩ := hJs.2.2.2.1.2.2
    refine va_tlen hx hb hT hH.2 (v := nI 0) rfl dJ2_addAll_34 ?_
    refine lv_aload_n hx hb dJ2_addAll_35 rfl (lv_at hl 3 rfl) ?_
    refine x_get X hH.1.1 in_J2 (mem_k 1 rfl) rfl 2 (by decide) q128 (fun _ h => h) rfl dJ2_addAll_36 ?_
    refine lv_dup hx hb dJ2_addAll_39 rfl ?_
    refine lv_istore (lv' := [(5, .int (nI 0)), (4, .ref (sa 0)), (3, .int (nI nN)), (2, .ref r), (0, .ref bN), (1, .ref aN)]) hx hb dJ2_addAll_40 hl (by decide) rfl (fun ls hl => ?_)
    refine n_isub hx hb (by omega) dJ2_addAll_42 ?_
    refine n_icmp_le (tgt := 56) hx hb (by omega) (by omega) dJ2_addAll_43 (by decide) (fun c2 => absurd c2 (by omega)) (fun c2 => ?_)
    refine lv_aload_n hx hb dJ2_addAll_46 rfl (lv_at hl 4 rfl) ?_
    refine lv_iload hx hb dJ2_addAll_47 (lv_at hl 0 rfl) ?_
    refine lv_iload_n hx hb dJ2_addAll_49 rfl (lv_at hl 2 rfl) ?_
    refine n_iadd hx hb dJ2_addAll_50 ?_
    have hH : HH G sT ([oC bN 10 [.int (mc + (nI 1)), .ref (sa 0), .int (nI 0)], qC G r nN g] ++ wr) H locs := HH.pickN hH 2 [1, 0] rfl (by decide) rfl
    refine x_MVa (c_J2_grow_2 (wr := ([qC G r nN g] ++ wr)) hE hJ (kN := 0 + nN) (by omega)) X hH (x_rc X hH.1.1 (mem_k 0 rfl) rfl) (lw_V q771 q773 qs7 q66 q774) hdv_J2_grow_2 ⟨Nat.le_of_ble_eq_true rfl, Nat.le_of_ble_eq_true rfl⟩ rfl hl.1 rfl (Nat.le_of_ble_eq_true rfl) ⟨(Nat.le_of_ble_eq_true rfl), (Nat.le_of_ble_eq_true rfl)⟩ dJ2_addAll_51 (fun r1 w H locs hq hH => ?_)
    obtain rfl := hq
    refine x_widen (k2 := 2) (n2 := 20) (Nat.le_of_ble_eq_true rfl) (Nat.le_of_ble_eq_true rfl) ?_
    have hH : HH G sT ([oC bN 10 [.int (mc + nI 1), .ref r1, .int (nI 0)], qC G r1 10 (fun _ => none), qC G r nN g] ++ wr) H locs := hH
    refine lv_astore (lv' := [(4, .ref r1), (5, .int (nI 0)), (3, .int (nI nN)), (2, .ref r), (0, .ref bN), (1, .ref aN)]) hx hb dJ2_addAll_54 hl (by decide) rfl (fun ls hl => ?_)
    refine lv_aload_n hx hb dJ2_addAll_56 rfl (lv_at hl 3 rfl) ?_
    refine lv_iconst (v := nI 0) hx hb dJ2_addAll_57 (by decide) ?_
    refine lv_aload hx hb dJ2_addAll_58 (lv_at hl 0 rfl) ?_
    refine lv_iload hx hb dJ2_addAll_60 (lv_at hl 1 rfl) ?_
    refine lv_iload_n hx hb dJ2_addAll_62 rfl (lv_at hl 2 rfl) ?_
    refine x_copyq X hl.1 q886 q508 q507 q87 hH 1 (mem_k 2 rfl) rfl (by omega) (by omega) hc (fun i hi y hy => by rw [Nat.zero_add, hg i hi] at hy; obtain ⟨vs, hv⟩ := hel i hi; rw [← Option.some.inj hy]; exact ⟨vs, mem_r hv⟩) (hJs.nw hca rfl) (by omega) (by decide) (Nat.le_of_ble_eq_true rfl) (Nat.le_of_ble_eq_true rfl) dJ2_addAll_63 (fun H locs hH => ?_)
    have hH : HH G sT ([oC bN 10 [.int (mc + nI 1), .ref r1, .int (nI 0)], qC G r1 10 (va_cpy g (fun _ => none) 0 0 nN), qC G r nN g] ++ wr) H locs := hH
    refine lv_aload_n hx hb dJ2_addAll_66 rfl (lv_at hl 4 rfl) ?_
    refine lv_iload hx hb dJ2_addAll_67 (lv_at hl 1 rfl) ?_
    refine lv_iload_n hx hb dJ2_addAll_69 rfl (lv_at hl 2 rfl) ?_
    refine n_iadd hx hb dJ2_addAll_70 ?_
    refine x_put X hH in_J2 tyJ2 tyJ2_ok nmJ2 0 rfl rfl 2 (by decide) q128 (fun _ h => h) rfl (ty := .int) (by decide +kernel) rfl rfl (Nat.le_of_ble_eq_true rfl) dJ2_addAll_71 (fun H locs hH => ?_)
    have hH : HH G sT ([oC bN 10 [.int (mc + nI 1), .ref r1, .int (nI (0 + nN))], qC G r1 10 (va_cpy g (fun _ => none) 0 0 nN), qC G r nN g] ++ wr) H locs := hH
    refine lv_iconst (v := nI 1) hx hb dJ2_addAll_74 (by decide) ?_
    have hH : HH G sT ([oC bN 10 [.int (mc + nI 1), .ref r1, .int (nI nN)], qC G r1 10 (va_cpy g (fun _ => none) 0 0 nN), qC G r nN g] ++ wr) H locs := by rw [← (show (nI (0 + nN) : Int32) = nI nN from by rw [Nat.zero_add])]; exact hH
    have hH : HH G sT ([qC G r nN g, oC bN 10 [.int (mc + nI 1), .ref r1, .int (nI nN)], qC G r1 10 (va_cpy g (fun _ => none) 0 0 nN)] ++ wr) H locs := HH.pickN hH 3 [2, 0, 1] rfl (by decide) rfl
    have hH : HH G sT ([oC bN 10 [.int (mc + nI 1), .ref r1, .int (nI nN)], qC G r1 10 (va_cpy g (fun _ => none) 0 0 nN)] ++ wr) H locs := HH.behind (Y := [qC G r nN g]) hH
    exact ret _ _ _ _ _ _ _ _ hH (⟨_, _, some _, ⟨by omega, fun q => by cases q⟩, fun i hi => by have := cpyAt (f := g) (g := fun _ => none) (sp := 0) (dp := 0) hi; rw [Nat.zero_add] at this; exact this.trans (hg i hi), rfl⟩) (by decide) (Nat.le_of_ble_eq_true rfl) (Nat.le_of_ble_eq_true rfl) dJ2_addAll_75
  · have c1 := nI_eq0 (by omega) c1
    refine lv_iconst (v := nI 0) hx hb dJ2_addAll_24 (by decide) ?_
    have hH : HH G sT ([oC bN 10 [.int (mc + (nI 1)), .ref (sa 0), .int (nI 0)]] ++ wr) H locs := HH.behind (Y := [qC G r nN g]) hH
    have hH : HH G sT ([oC bN 10 [.int (mc + (nI 1)), .ref (sa 0), .int (nI nN)]] ++ wr) H locs := by rw [← (show (nI 0 : Int32) = nI nN from by rw [c1])]; exact hH
    exact ret _ _ _ _ _ _ _ _ hH (⟨_, _, none, ⟨by omega, fun _ => ⟨c1, rfl⟩⟩, fun i hi => absurd hi (by omega), rfl⟩) (by decide) (Nat.le_of_ble_eq_true rfl) (Nat.le_of_ble_eq_true rfl) dJ2_addAll_25
end C4
