/-! JDK 3: strings built -/
section C3
variable {l : Launch} {G : GG} {E : State → Prop} {sa : Nat → Nat} {ws wr : va_W}
/-- a string of n small letters -/
def Str (G : GG) (ws : va_W) (a : Nat) (t : Nat → Nat) (n : Nat) : Prop := ∃ q f h z, oC a 13 [.ref q, .int (nI 0), .int h, .int z] ∈ ws ∧ bC G q n f ∈ ws ∧ (∀ k, k < n → f k = nI (t k) ∧ t k < 128) ∧ n < 2 ^ 20
theorem Str.mono {ws' : va_W} {a n : Nat} {t : Nat → Nat} (h : Str G ws a t n) (hs : ∀ q ∈ ws, q ∈ ws') : Str G ws' a t n := by
  obtain ⟨q, f, x, z, h1, h2, h3⟩ := h
  exact ⟨q, f, x, z, hs _ h1, hs _ h2, h3⟩
theorem Str.congr {a n : Nat} {t t' : Nat → Nat} (h : Str G ws a t n) (e : ∀ k, k < n → t' k = t k) : Str G ws a t' n := by
  obtain ⟨q, f, x, z, h1, h2, h3, h4⟩ := h
  exact ⟨q, f, x, z, h1, h2, fun k hk => by rw [e k hk]; exact h3 k hk, h4⟩
theorem min_le {x y : Nat} (h : y ≤ x) (hx : x < 2 ^ 31) : (if nI y < nI x then nI y else nI x) = nI y := by
  rcases Nat.lt_or_ge y x with q | q
  · split
    · rfl
    · rename_i h2; exact absurd (nI_lt q (by omega)) h2
  · rw [show x = y by omega, ite_self]
theorem cpyAt {α : Type} {f g : Nat → α} {sp dp n k : Nat} (h : k < n) : va_cpy f g sp dp n (dp + k) = f (sp + k) := by
  unfold va_cpy
  rw [if_pos ⟨Nat.le_add_right _ _, by omega⟩, Nat.add_sub_cancel_left]
theorem updNe {f : Nat → Int32} {i k : Nat} {x : Int32} (h : k ≠ i) : upd f i x k = f k := if_neg h
theorem updEq {f : Nat → Int32} {i : Nat} {x : Int32} : upd f i x i = x := if_pos rfl
variable {bN qN nN : Nat} {fb : Nat → Int32}
theorem hds_J10_init : yJ10_init.cls ≠ "java/lang/invoke/MethodHandle" ∧ yJ10_init.cls ≠ "java/lang/invoke/VarHandle" ∧ (parseMethodDescriptor yJ10_init.desc).map (fun d => d.parameters.length) = some 1 := by decide +kernel
theorem c_J10_init (hE : EnvOK G E) (hJ : EnvJ G E sa) : MU vV l G E yJ10_init cJ10_init 2 none 1 1 16 [.ref bN, .int (nI 16)] ([oC bN 12 [.null, .int (nI 0), .int (nI 0), .int (nI 0)]] ++ wr) (fun _ w => ∃ q, w = [oC bN 12 [.ref q, .int (nI 0), .int (nI 0), .int (nI 0)], bC G q 16 (fun _ => nI 0)] ++ wr) := by
  refine MUc hE (by decide) (Nat.le_of_ble_eq_true rfl) (fun pR eV sT mI below meth cd QQ ls hin X hH hl ret => ?_)
  obtain ⟨⟨hx, hb, hml, hown, hts⟩, ⟨hr, hlk⟩, -, -, -⟩ := id X
  have hJs := X.J hJ
  have hl : lv_has ls 2 [(0, .ref bN), (1, .int (nI 16))] := hl
  refine wgen (H := sT.heap) (locs := []) hH (fun H locs hH => ?_)
  refine lv_aload_n hx hb dJ10_init_0 rfl (lv_at hl 0 rfl) ?_
  refine x_obj X hl.1 q437 q105 q106 (Nat.le_of_ble_eq_true rfl) (Nat.le_of_ble_eq_true rfl) dJ10_init_1 ?_
  refine x_gets X hH.2 hJs.2.2.2.2.1.1 q438 (fun _ h => h) dJ10_init_4 ?_
  refine lv_if_eq (tgt := 25) hx hb dJ10_init_7 (by decide) (fun h => absurd h (by decide)) (fun _ => ?_)
  refine lv_aload_n hx hb dJ10_init_10 rfl (lv_at hl 0 rfl) ?_
  refine lv_iload_n hx hb dJ10_init_11 rfl (lv_at hl 1 rfl) ?_
  refine x_newb X hH (by decide) (Nat.le_of_ble_eq_true rfl) (Nat.le_of_ble_eq_true rfl) dJ10_init_12 (fun q H hH => ?_)
  refine x_widen (k2 := 1) (n2 := 16) (Nat.le_of_ble_eq_true rfl) (Nat.le_of_ble_eq_true rfl) ?_
  have hH : HH G sT ([bC G q 16 (fun _ => nI 0), oC bN 12 [.null, .int (nI 0), .int (nI 0), .int (nI 0)]] ++ wr) H locs := hH
  refine x_put X hH in_J11 tyJ11 tyJ11_ok nmJ11 1 rfl rfl 0 (by decide) q447 (fun _ h => h) rfl (ty := .array (.byte)) (by decide +kernel) rfl rfl (Nat.le_of_ble_eq_true rfl) dJ10_init_14 (fun H locs hH => ?_)
  have hH : HH G sT ([bC G q 16 (fun _ => nI 0), oC bN 12 [.ref q, .int (nI 0), .int (nI 0), .int (nI 0)]] ++ wr) H locs := hH
  refine lv_aload_n hx hb dJ10_init_17 rfl (lv_at hl 0 rfl) ?_
  refine lv_iconst (v := nI 0) hx hb dJ10_init_18 (by decide) ?_
  refine x_put X hH in_J11 tyJ11 tyJ11_ok nmJ11 1 rfl rfl 1 (by decide) q448 (fun _ h => h) rfl (ty := .byte) (by decide +kernel) (by decide) rfl (Nat.le_of_ble_eq_true rfl) dJ10_init_19 (fun H locs hH => ?_)
  have hH : HH G sT ([bC G q 16 (fun _ => nI 0), oC bN 12 [.ref q, .int (nI 0), .int (nI 0), .int (nI 0)]] ++ wr) H locs := hH
  refine lv_goto (tgt := 38) hx hb dJ10_init_22 (by decide) ?_
  have hH : HH G sT ([oC bN 12 [.ref q, .int (nI 0), .int (nI 0), .int (nI 0)], bC G q 16 (fun _ => nI 0)] ++ wr) H locs := HH.pickN hH 2 [1, 0] rfl (by decide) rfl
  exact ret _ _ _ _ _ _ _ hH (⟨q, rfl⟩) (Nat.le_of_ble_eq_true rfl) (Nat.le_of_ble_eq_true rfl) dJ10_init_38
theorem hds_J11_init : yJ11_init.cls ≠ "java/lang/invoke/MethodHandle" ∧ yJ11_init.cls ≠ "java/lang/invoke/VarHandle" ∧ (parseMethodDescriptor yJ11_init.desc).map (fun d => d.parameters.length) = some 0 := by decide +kernel
theorem c_J11_init (hE : EnvOK G E) (hJ : EnvJ G E sa) : MU vV l G E yJ11_init cJ11_init 1 none 2 1 16 [.ref bN] ([oC bN 12 [.null, .int (nI 0), .int (nI 0), .int (nI 0)]] ++ wr) (fun _ w => ∃ q, w = [oC bN 12 [.ref q, .int (nI 0), .int (nI 0), .int (nI 0)], bC G q 16 (fun _ => nI 0)] ++ wr) := by
  refine MUc hE (by decide) (Nat.le_of_ble_eq_true rfl) (fun pR eV sT mI below meth cd QQ ls hin X hH hl ret => ?_)
  obtain ⟨⟨hx, hb, hml, hown, hts⟩, ⟨hr, hlk⟩, -, -, -⟩ := id X
  have hJs := X.J hJ
  have hl : lv_has ls 1 [(0, .ref bN)] := hl
  refine wgen (H := sT.heap) (locs := []) hH (fun H locs hH => ?_)
  refine lv_aload_n hx hb dJ11_init_0 rfl (lv_at hl 0 rfl) ?_
  refine lv_bipush (v := nI 16) hx hb dJ11_init_1 (by decide) ?_
  refine x_MI (c_J10_init hE hJ) X hH q436 q81 q434 q435 rfl hds_J10_init ⟨Nat.le_of_ble_eq_true rfl, Nat.le_of_ble_eq_true rfl⟩ rfl hl.1 rfl (Nat.le_of_ble_eq_true rfl) ⟨(Nat.le_of_ble_eq_true rfl), (Nat.le_of_ble_eq_true rfl)⟩ dJ11_init_3 (fun w H locs hq hH => ?_)
  obtain ⟨q, rfl⟩ := hq
  refine x_widen (k2 := 1) (n2 := 16) (Nat.le_of_ble_eq_true rfl) (Nat.le_of_ble_eq_true rfl) ?_
  have hH : HH G sT ([oC bN 12 [.ref q, .int (nI 0), .int (nI 0), .int (nI 0)], bC G q 16 (fun _ => nI 0)] ++ wr) H locs := hH
  exact ret _ _ _ _ _ _ _ hH (⟨q, rfl⟩) (Nat.le_of_ble_eq_true rfl) (Nat.le_of_ble_eq_true rfl) dJ11_init_6
theorem hdv_J10_length : yJ10_length.cls = RJ10 ∧ yJ10_length.cls ≠ "java/lang/invoke/MethodHandle" ∧ yJ10_length.cls ≠ "java/lang/invoke/VarHandle" ∧ (parseMethodDescriptor yJ10_length.desc).map (fun d => d.parameters.length) = some 0 := by decide +kernel
theorem c_J10_length (hE : EnvOK G E) (h0 : oC bN 12 [.ref qN, .int (nI 0), .int (nI 0), .int (nI nN)] ∈ ws) : RO l G E yJ10_length cJ10_length 1 .int 1 [.ref bN] (va_P G.1 cls (ws)) (.int (nI nN)) := by
  refine ROi hE (by decide) (Nat.le_of_ble_eq_true rfl) (fun pR eV sT mI below meth cd QQ ls X hP hl ret => ?_)
  obtain ⟨⟨hx, hb, hml, hown, hts⟩, ⟨hr, hlk⟩, -, -, -⟩ := id X
  have hl : lv_has ls 1 [(0, .ref bN)] := hl
  refine lv_aload_n hx hb dJ10_length_0 rfl (lv_at hl 0 rfl) ?_
  refine x_get X hP in_J11 h0 rfl 3 (by decide) q450 (fun _ h => h) rfl dJ10_length_1 ?_
  exact ret _ _ _ (rfl) dJ10_length_4
theorem hdv_J10_getValue : yJ10_getValue.cls = RJ10 ∧ yJ10_getValue.cls ≠ "java/lang/invoke/MethodHandle" ∧ yJ10_getValue.cls ≠ "java/lang/invoke/VarHandle" ∧ (parseMethodDescriptor yJ10_getValue.desc).map (fun d => d.parameters.length) = some 0 := by decide +kernel
theorem c_J10_getValue (hE : EnvOK G E) (h0 : oC bN 12 [.ref qN, .int (nI 0), .int (nI 0), .int (nI nN)] ∈ ws) : RO l G E yJ10_getValue cJ10_getValue 1 (.array .byte) 1 [.ref bN] (va_P G.1 cls (ws)) (.ref qN) := by
  refine ROa hE (by decide) (Nat.le_of_ble_eq_true rfl) (Or.inr ⟨_, rfl⟩) (Or.inr ⟨_, rfl⟩) (fun pR eV sT mI below meth cd QQ ls X hP hl ret => ?_)
  obtain ⟨⟨hx, hb, hml, hown, hts⟩, ⟨hr, hlk⟩, -, -, -⟩ := id X
  have hl : lv_has ls 1 [(0, .ref bN)] := hl
  refine lv_aload_n hx hb dJ10_getValue_0 rfl (lv_at hl 0 rfl) ?_
  refine x_get X hP in_J11 h0 rfl 0 (by decide) q447 (fun _ h => h) rfl dJ10_getValue_1 ?_
  exact ret _ _ _ (rfl) dJ10_getValue_4
theorem hdv_J10_isLatin1 : yJ10_isLatin1.cls = RJ10 ∧ yJ10_isLatin1.cls ≠ "java/lang/invoke/MethodHandle" ∧ yJ10_isLatin1.cls ≠ "java/lang/invoke/VarHandle" ∧ (parseMethodDescriptor yJ10_isLatin1.desc).map (fun d => d.parameters.length) = some 0 := by decide +kernel
theorem c_J10_isLatin1 (hE : EnvOK G E) (hJ : EnvJ G E sa) (h0 : oC bN 12 [.ref qN, .int (nI 0), .int (nI 0), .int (nI nN)] ∈ ws) : RO l G E yJ10_isLatin1 cJ10_isLatin1 1 .boolean 1 [.ref bN] (va_P G.1 cls (ws)) (.int (nI 1)) := by
  refine ROz hE (by decide) (Nat.le_of_ble_eq_true rfl) (by decide) (fun pR eV sT mI below meth cd QQ ls X hP hl ret => ?_)
  obtain ⟨⟨hx, hb, hml, hown, hts⟩, ⟨hr, hlk⟩, -, -, -⟩ := id X
  have hJs := X.J hJ
  have hl : lv_has ls 1 [(0, .ref bN)] := hl
  refine x_gets X va_S.rf hJs.2.2.2.2.1.1 q438 (fun _ h => h) dJ10_isLatin1_0 ?_
  refine lv_if_eq (tgt := 17) hx hb dJ10_isLatin1_3 (by decide) (fun h => absurd h (by decide)) (fun _ => ?_)
  refine lv_aload_n hx hb dJ10_isLatin1_6 rfl (lv_at hl 0 rfl) ?_
  refine x_get X hP in_J11 h0 rfl 1 (by decide) q448 (fun _ h => h) rfl dJ10_isLatin1_7 ?_
  refine lv_if_ne (tgt := 17) hx hb dJ10_isLatin1_10 (by decide) (fun h => absurd rfl h) (fun _ => ?_)
  refine lv_iconst (v := nI 1) hx hb dJ10_isLatin1_13 (by decide) ?_
  refine lv_goto (tgt := 18) hx hb dJ10_isLatin1_14 (by decide) ?_
  exact ret _ _ _ (rfl) dJ10_isLatin1_18
theorem hdv_J11_length : yJ11_length.cls = RJ11 ∧ yJ11_length.cls ≠ "java/lang/invoke/MethodHandle" ∧ yJ11_length.cls ≠ "java/lang/invoke/VarHandle" ∧ (parseMethodDescriptor yJ11_length.desc).map (fun d => d.parameters.length) = some 0 := by decide +kernel
theorem c_J11_length (hE : EnvOK G E) (h0 : oC bN 12 [.ref qN, .int (nI 0), .int (nI 0), .int (nI nN)] ∈ ws) : RO l G E yJ11_length cJ11_length 1 .int 2 [.ref bN] (va_P G.1 cls (ws)) (.int (nI nN)) := by
  refine ROi hE (by decide) (Nat.le_of_ble_eq_true rfl) (fun pR eV sT mI below meth cd QQ ls X hP hl ret => ?_)
  obtain ⟨⟨hx, hb, hml, hown, hts⟩, ⟨hr, hlk⟩, -, -, -⟩ := id X
  have hl : lv_has ls 1 [(0, .ref bN)] := hl
  refine lv_aload_n hx hb dJ11_length_0 rfl (lv_at hl 0 rfl) ?_
  refine x_RSU (n := 0) (c_J10_length hE h0) X va_S.rf hP (x_rc X hP h0 rfl) q464 q1787 q459 q465 q81 q466 (x_at X 12 rfl) (by decide +kernel) ⟨Nat.le_of_ble_eq_true rfl, Nat.le_of_ble_eq_true rfl⟩ rfl hl.1 rfl (Nat.le_of_ble_eq_true rfl) ⟨Nat.le_refl _, Nat.le_refl _⟩ dJ11_length_1 ?_
  exact ret _ _ _ (rfl) dJ11_length_4
theorem ens_le {m : Nat} (h : m ≤ 16) : ¬ (0 < nI m - nI 16 >>> (nI 0 &&& 31)) := by
  have : ∀ m, m ≤ 16 → ¬ (0 < nI m - nI 16 >>> (nI 0 &&& 31)) := by decide +kernel
  exact this m h
theorem hdv_J10_ensureCapacityInternal : yJ10_ensureCapacityInternal.cls = RJ10 ∧ yJ10_ensureCapacityInternal.cls ≠ "java/lang/invoke/MethodHandle" ∧ yJ10_ensureCapacityInternal.cls ≠ "java/lang/invoke/VarHandle" ∧ (parseMethodDescriptor yJ10_ensureCapacityInternal.desc).map (fun d => d.parameters.length) = some 1 := by decide +kernel
theorem c_J10_ensureCapacityInternal (hE : EnvOK G E) {mN : Nat} (h0 : oC bN 12 [.ref qN, .int (nI 0), .int (nI 0), .int (nI nN)] ∈ ws) (h1 : bC G qN 16 fb ∈ ws) (hm : mN ≤ 16) : RN l G E yJ10_ensureCapacityInternal cJ10_ensureCapacityInternal 3 1 [.ref bN, .int (nI mN)] (va_P G.1 cls (ws)) := by
  refine ROv hE (by decide) (Nat.le_of_ble_eq_true rfl) (fun pR eV sT mI below meth cd QQ ls X hP hl ret => ?_)
  obtain ⟨⟨hx, hb, hml, hown, hts⟩, ⟨hr, hlk⟩, -, -, -⟩ := id X
  have hl : lv_has ls 3 [(0, .ref bN), (1, .int (nI mN))] := hl
  refine lv_aload_n hx hb dJ10_ensureCapacityInternal_0 rfl (lv_at hl 0 rfl) ?_
  refine x_get X hP in_J11 h0 rfl 0 (by decide) q447 (fun _ h => h) rfl dJ10_ensureCapacityInternal_1 ?_
  refine x_alen X hP h1 (t0 := 1) rfl dJ10_ensureCapacityInternal_4 ?_
  refine lv_aload_n hx hb dJ10_ensureCapacityInternal_5 rfl (lv_at hl 0 rfl) ?_
  refine x_get X hP in_J11 h0 rfl 1 (by decide) q448 (fun _ h => h) rfl dJ10_ensureCapacityInternal_6 ?_
  refine lv_ishr hx hb dJ10_ensureCapacityInternal_9 ?_
  refine lv_istore_n (lv' := [(2, .int ((nI 16) >>> ((nI 0) &&& 31))), (0, .ref bN), (1, .int (nI mN))]) hx hb dJ10_ensureCapacityInternal_10 rfl hl (by decide) rfl (fun ls hl => ?_)
  refine lv_iload_n hx hb dJ10_ensureCapacityInternal_11 rfl (lv_at hl 2 rfl) ?_
  refine lv_iload_n hx hb dJ10_ensureCapacityInternal_12 rfl (lv_at hl 0 rfl) ?_
  refine lv_isub hx hb dJ10_ensureCapacityInternal_13 ?_
  refine lv_if_le (tgt := 38) hx hb dJ10_ensureCapacityInternal_14 (by decide) (fun c1 => ?_) (fun c1 => absurd (Int32.not_le.mp c1) (ens_le hm))
  exact ret _ _ trivial dJ10_ensureCapacityInternal_38
theorem hdv_J10_append : yJ10_append.cls = RJ10 ∧ yJ10_append.cls ≠ "java/lang/invoke/MethodHandle" ∧ yJ10_append.cls ≠ "java/lang/invoke/VarHandle" ∧ (parseMethodDescriptor yJ10_append.desc).map (fun d => d.parameters.length) = some 1 := by decide +kernel
theorem c_J10_append (hE : EnvOK G E) (hJ : EnvJ G E sa) {cN : Nat} (hn : nN < 16) (hc : cN < 128) : MU vA l G E yJ10_append cJ10_append 2 (some (.object "java/lang/AbstractStringBuilder")) 2 0 0 [.ref bN, .int (nI cN)] ([oC bN 12 [.ref qN, .int (nI 0), .int (nI 0), .int (nI nN)], bC G qN 16 fb] ++ wr) (fun r w => bN = r ∧ w = [oC bN 12 [.ref qN, .int (nI 0), .int (nI 0), .int (nI (nN + 1))], bC G qN 16 (upd fb nN (nI cN))] ++ wr) := by
  refine MUa hE (by decide) (Nat.le_of_ble_eq_true rfl) (Or.inl ⟨_, rfl⟩) (fun pR eV sT mI below meth cd QQ ls X hH hl ret => ?_)
  obtain ⟨⟨hx, hb, hml, hown, hts⟩, ⟨hr, hlk⟩, -, -, -⟩ := id X
  have hJs := X.J hJ
  have hl : lv_has ls 2 [(0, .ref bN), (1, .int (nI cN))] := hl
  refine wgen (H := sT.heap) (locs := []) hH (fun H locs hH => ?_)
  refine lv_aload_n hx hb dJ10_append_0 rfl (lv_at hl 0 rfl) ?_
  refine lv_aload_n hx hb dJ10_append_1 rfl (lv_at hl 0 rfl) ?_
  refine x_get X hH.1.1 in_J11 (mem_k 0 rfl) rfl 3 (by decide) q450 (fun _ h => h) rfl dJ10_append_2 ?_
  refine lv_iconst (v := nI 1) hx hb dJ10_append_5 (by decide) ?_
  refine n_iadd hx hb dJ10_append_6 ?_
  refine x_NU (n := 1) (c_J10_ensureCapacityInternal hE (mem_k 0 rfl) (mem_k 1 rfl) (by omega)) X hH.2 hH.1.1 (x_rc X hH.1.1 (mem_k 0 rfl) rfl) q474 q1789 (Decl_of (hts _ q476) (hts _ q477)) (sel_priv (y0 := yJ10_getValue) rfl (by decide +kernel) (hts _ q578) (hJs.nw q475 rfl) (hts _ q476)) q476 q81 q477 (by decide +kernel) ⟨Nat.le_of_ble_eq_true rfl, Nat.le_of_ble_eq_true rfl⟩ rfl hl.1 rfl (Nat.le_of_ble_eq_true rfl) ⟨(Nat.le_of_ble_eq_true rfl), (Nat.le_of_ble_eq_true rfl)⟩ dJ10_append_7 ?_
  refine lv_aload_n hx hb dJ10_append_10 rfl (lv_at hl 0 rfl) ?_
  refine x_RU (n := 0) (c_J10_isLatin1 hE hJ (mem_k 0 rfl)) X hH.2 hH.1.1 (x_rc X hH.1.1 (mem_k 0 rfl) rfl) q509 q511 (Decl_of (hts _ q510) (hts _ q513)) (hts _ q512) q510 q81 q513 (by decide +kernel) ⟨Nat.le_of_ble_eq_true rfl, Nat.le_of_ble_eq_true rfl⟩ rfl hl.1 rfl (Nat.le_of_ble_eq_true rfl) ⟨(Nat.le_of_ble_eq_true rfl), (Nat.le_of_ble_eq_true rfl)⟩ dJ10_append_11 ?_
  refine lv_if_eq (tgt := 45) hx hb dJ10_append_14 (by decide) (fun h => absurd h (by decide)) (fun _ => ?_)
  refine lv_iload_n hx hb dJ10_append_17 rfl (lv_at hl 1 rfl) ?_
  refine x_RS (c_J16_canEncode hE hc) X hH.2 trivial (lw_S q514 q515 q88 q516) hds_J16_canEncode ⟨Nat.le_of_ble_eq_true rfl, Nat.le_of_ble_eq_true rfl⟩ rfl hl.1 rfl (Nat.le_of_ble_eq_true rfl) ⟨(Nat.le_of_ble_eq_true rfl), (Nat.le_of_ble_eq_true rfl)⟩ dJ10_append_18 ?_
  refine lv_if_eq (tgt := 45) hx hb dJ10_append_21 (by decide) (fun h => absurd h (by decide)) (fun _ => ?_)
  refine lv_aload_n hx hb dJ10_append_24 rfl (lv_at hl 0 rfl) ?_
  refine x_get X hH.1.1 in_J11 (mem_k 0 rfl) rfl 0 (by decide) q447 (fun _ h => h) rfl dJ10_append_25 ?_
  refine lv_aload_n hx hb dJ10_append_28 rfl (lv_at hl 0 rfl) ?_
  refine lv_dup hx hb dJ10_append_29 rfl ?_
  refine x_get X hH.1.1 in_J11 (mem_k 0 rfl) rfl 3 (by decide) q450 (fun _ h => h) rfl dJ10_append_30 ?_
  refine lv_dup_x1 hx hb dJ10_append_33 rfl rfl ?_
  refine lv_iconst (v := nI 1) hx hb dJ10_append_34 (by decide) ?_
  refine n_iadd hx hb dJ10_append_35 ?_
  refine x_put X hH in_J11 tyJ11 tyJ11_ok nmJ11 0 rfl rfl 3 (by decide) q450 (fun _ h => h) rfl (ty := .int) (by decide +kernel) rfl rfl (Nat.le_of_ble_eq_true rfl) dJ10_append_36 (fun H locs hH => ?_)
  have hH : HH G sT ([oC bN 12 [.ref qN, .int (nI 0), .int (nI 0), .int (nI (nN + 1))], bC G qN 16 fb] ++ wr) H locs := hH
  refine lv_iload_n hx hb dJ10_append_39 rfl (lv_at hl 1 rfl) ?_
  refine lv_i2b (v := nI cN) hx hb dJ10_append_40 (i2b_n hc) ?_
  refine x_bast X hH 1 rfl (by omega) (by decide) hc dJ10_append_41 (fun g_1 H locs eg_1 hH => ?_)
  have hH : HH G sT ([oC bN 12 [.ref qN, .int (nI 0), .int (nI 0), .int (nI (nN + 1))], bC G qN 16 g_1] ++ wr) H locs := hH
  refine lv_goto (tgt := 75) hx hb dJ10_append_42 (by decide) ?_
  refine lv_aload_n hx hb dJ10_append_75 rfl (lv_at hl 0 rfl) ?_
  exact ret _ _ _ _ _ _ _ _ hH (⟨rfl, by rw [eg_1]⟩) (Nat.le_of_ble_eq_true rfl) (Nat.le_of_ble_eq_true rfl) dJ10_append_76
theorem hdv_J11_append : yJ11_append.cls = RJ11 ∧ yJ11_append.cls ≠ "java/lang/invoke/MethodHandle" ∧ yJ11_append.cls ≠ "java/lang/invoke/VarHandle" ∧ (parseMethodDescriptor yJ11_append.desc).map (fun d => d.parameters.length) = some 1 := by decide +kernel
theorem c_J11_append (hE : EnvOK G E) (hJ : EnvJ G E sa) {cN : Nat} (hn : nN < 16) (hc : cN < 128) : MU vA l G E yJ11_append cJ11_append 2 (some (.object "java/lang/StringBuilder")) 3 0 0 [.ref bN, .int (nI cN)] ([oC bN 12 [.ref qN, .int (nI 0), .int (nI 0), .int (nI nN)], bC G qN 16 fb] ++ wr) (fun r w => bN = r ∧ w = [oC bN 12 [.ref qN, .int (nI 0), .int (nI 0), .int (nI (nN + 1))], bC G qN 16 (upd fb nN (nI cN))] ++ wr) := by
  refine MUa hE (by decide) (Nat.le_of_ble_eq_true rfl) (Or.inl ⟨_, rfl⟩) (fun pR eV sT mI below meth cd QQ ls X hH hl ret => ?_)
  obtain ⟨⟨hx, hb, hml, hown, hts⟩, ⟨hr, hlk⟩, -, -, -⟩ := id X
  have hJs := X.J hJ
  have hl : lv_has ls 2 [(0, .ref bN), (1, .int (nI cN))] := hl
  refine wgen (H := sT.heap) (locs := []) hH (fun H locs hH => ?_)
  refine lv_aload_n hx hb dJ11_append_0 rfl (lv_at hl 0 rfl) ?_
  refine lv_iload_n hx hb dJ11_append_1 rfl (lv_at hl 1 rfl) ?_
  refine x_MSUa (n := 1) (c_J10_append hE hJ hn hc) X hH (x_rc X hH.1.1 (mem_k 0 rfl) rfl) q471 q1788 q459 q472 q81 q473 (x_at X 12 rfl) (by decide +kernel) ⟨Nat.le_of_ble_eq_true rfl, Nat.le_of_ble_eq_true rfl⟩ rfl hl.1 rfl (Nat.le_of_ble_eq_true rfl) ⟨(Nat.le_of_ble_eq_true rfl), (Nat.le_of_ble_eq_true rfl)⟩ dJ11_append_2 (fun r w H locs hq hH => ?_)
  obtain ⟨rfl, rfl⟩ := hq
  have hH : HH G sT ([oC bN 12 [.ref qN, .int (nI 0), .int (nI 0), .int (nI (nN + 1))], bC G qN 16 (upd fb nN (nI cN))] ++ wr) H locs := hH
  refine lv_pop hx hb dJ11_append_5 rfl ?_
  refine lv_aload_n hx hb dJ11_append_6 rfl (lv_at hl 0 rfl) ?_
  exact ret _ _ _ _ _ _ _ _ hH (⟨rfl, rfl⟩) (Nat.le_of_ble_eq_true rfl) (Nat.le_of_ble_eq_true rfl) dJ11_append_7
theorem nI_eq0 {n : Nat} (h : n < 2 ^ 31) (e : nI n = 0) : n = 0 := (nI_eq h (by decide)).mp e
variable {aN frN toN lN mN : Nat} {tC : Nat → Nat}
theorem hds_J3_checkLength : yJ3_checkLength.cls ≠ "java/lang/invoke/MethodHandle" ∧ yJ3_checkLength.cls ≠ "java/lang/invoke/VarHandle" ∧ (parseMethodDescriptor yJ3_checkLength.desc).map (fun d => d.parameters.length) = some 2 := by decide +kernel
theorem c_J3_checkLength (hE : EnvOK G E) (hle : frN ≤ toN) (hn : toN < 2 ^ 31) : RN l G E yJ3_checkLength cJ3_checkLength 2 3 [.int (nI frN), .int (nI toN)] (fun _ => True) := by
  refine ROv hE (by decide) (Nat.le_of_ble_eq_true rfl) (fun pR eV sT mI below meth cd QQ ls X hP hl ret => ?_)
  obtain ⟨⟨hx, hb, hml, hown, hts⟩, ⟨hr, hlk⟩, -, -, -⟩ := id X
  have hl : lv_has ls 2 [(0, .int (nI frN)), (1, .int (nI toN))] := hl
  refine lv_iload_n hx hb dJ3_checkLength_0 rfl (lv_at hl 1 rfl) ?_
  refine lv_iload_n hx hb dJ3_checkLength_1 rfl (lv_at hl 0 rfl) ?_
  refine n_icmp_ge (tgt := 37) hx hb (by omega) (by omega) dJ3_checkLength_2 (by decide) (fun c1 => ?_) (fun c1 => absurd c1 (by omega))
  exact ret _ _ trivial dJ3_checkLength_37
theorem hds_J3_copyOfRangeByte : yJ3_copyOfRangeByte.cls ≠ "java/lang/invoke/MethodHandle" ∧ yJ3_copyOfRangeByte.cls ≠ "java/lang/invoke/VarHandle" ∧ (parseMethodDescriptor yJ3_copyOfRangeByte.desc).map (fun d => d.parameters.length) = some 3 := by decide +kernel
theorem c_J3_copyOfRangeByte (hE : EnvOK G E) (h1 : bC G qN mN fb ∈ wr) (ht : ∀ k, k < frN + lN → ∃ v, v < 128 ∧ fb k = nI v) (hm : frN + lN ≤ mN) (hmm : mN < 2 ^ 20) (h16 : lN ≤ 16) : MU vA l G E yJ3_copyOfRangeByte cJ3_copyOfRangeByte 5 (some (.array .byte)) 4 1 16 [.ref qN, .int (nI frN), .int (nI (frN + lN))] (wr) (fun r w => ∃ g, (∀ k, k < lN → g k = fb (frN + k)) ∧ w = [bC G r lN g] ++ wr) := by
  refine MUa hE (by decide) (Nat.le_of_ble_eq_true rfl) (Or.inr ⟨_, rfl⟩) (fun pR eV sT mI below meth cd QQ ls X hH hl ret => ?_)
  obtain ⟨⟨hx, hb, hml, hown, hts⟩, ⟨hr, hlk⟩, -, -, -⟩ := id X
  have hl : lv_has ls 5 [(0, .ref qN), (1, .int (nI frN)), (2, .int (nI (frN + lN)))] := hl
  refine wgen (H := sT.heap) (locs := []) hH (fun H locs hH => ?_)
  refine lv_iload_n hx hb dJ3_copyOfRangeByte_0 rfl (lv_at hl 1 rfl) ?_
  refine lv_iload_n hx hb dJ3_copyOfRangeByte_1 rfl (lv_at hl 2 rfl) ?_
  refine x_NS (c_J3_checkLength hE (Nat.le_add_right _ _) (by omega)) X hH.2 trivial (lw_S q588 q589 q68 q590) hds_J3_checkLength ⟨Nat.le_of_ble_eq_true rfl, Nat.le_of_ble_eq_true rfl⟩ rfl hl.1 rfl (Nat.le_of_ble_eq_true rfl) ⟨(Nat.le_of_ble_eq_true rfl), (Nat.le_of_ble_eq_true rfl)⟩ dJ3_copyOfRangeByte_2 ?_
  refine lv_iload_n hx hb dJ3_copyOfRangeByte_5 rfl (lv_at hl 2 rfl) ?_
  refine lv_iload_n hx hb dJ3_copyOfRangeByte_6 rfl (lv_at hl 1 rfl) ?_
  refine n_isub hx hb (by omega) dJ3_copyOfRangeByte_7 ?_
  refine n_top (y := nI lN) (by rw [Nat.add_sub_cancel_left]) ?_
  refine lv_istore_n (lv' := [(3, .int (nI lN)), (0, .ref qN), (1, .int (nI frN)), (2, .int (nI (frN + lN)))]) hx hb dJ3_copyOfRangeByte_8 rfl hl (by decide) rfl (fun ls hl => ?_)
  refine lv_iload_n hx hb dJ3_copyOfRangeByte_9 rfl (lv_at hl 0 rfl) ?_
  refine x_newb X hH (by omega) (Nat.le_of_ble_eq_true rfl) (show 0 + lN ≤ 16 by omega) dJ3_copyOfRangeByte_10 (fun q H hH => ?_)
  refine x_widen (k2 := 1) (n2 := lN + 0) (by omega) (by omega) ?_
  have hH : HH G sT ([bC G q lN (fun _ => nI 0)] ++ wr) H locs := hH
  refine lv_astore (lv' := [(4, .ref q), (3, .int (nI lN)), (0, .ref qN), (1, .int (nI frN)), (2, .int (nI (frN + lN)))]) hx hb dJ3_copyOfRangeByte_12 hl (by decide) rfl (fun ls hl => ?_)
  refine lv_aload_n hx hb dJ3_copyOfRangeByte_14 rfl (lv_at hl 2 rfl) ?_
  refine lv_iload_n hx hb dJ3_copyOfRangeByte_15 rfl (lv_at hl 3 rfl) ?_
  refine lv_aload hx hb dJ3_copyOfRangeByte_16 (lv_at hl 0 rfl) ?_
  refine lv_iconst (v := nI 0) hx hb dJ3_copyOfRangeByte_18 (by decide) ?_
  refine lv_aload_n hx hb dJ3_copyOfRangeByte_19 rfl (lv_at hl 2 rfl) ?_
  refine x_alen X hH.1.1 (mem_r h1) (t0 := 1) rfl dJ3_copyOfRangeByte_20 ?_
  refine lv_iload_n hx hb dJ3_copyOfRangeByte_21 rfl (lv_at hl 3 rfl) ?_
  refine n_isub hx hb (by omega) dJ3_copyOfRangeByte_22 ?_
  refine lv_iload_n hx hb dJ3_copyOfRangeByte_23 rfl (lv_at hl 1 rfl) ?_
  refine x_min X hl.1 q503 q504 q86 q505 (Nat.le_of_ble_eq_true rfl) (Nat.le_of_ble_eq_true rfl) ⟨(show 1 ≤ 1 by omega), (show lN + 0 ≤ 16 by omega)⟩ dJ3_copyOfRangeByte_24 ?_
  refine n_top (y := nI lN) (min_le (by omega) (by omega)) ?_
  refine x_copyb X hl.1 q506 q508 q507 q87 hH 0 (mem_r h1) rfl (by omega) (by omega) (fun i hi => ht _ (by omega)) (by omega) (by omega) (Nat.le_of_ble_eq_true rfl) (Nat.le_of_ble_eq_true rfl) dJ3_copyOfRangeByte_27 (fun H locs hH => ?_)
  have hH : HH G sT ([bC G q lN (va_cpy fb (fun _ => nI 0) frN 0 lN)] ++ wr) H locs := hH
  refine lv_aload hx hb dJ3_copyOfRangeByte_30 (lv_at hl 0 rfl) ?_
  exact ret _ _ _ _ _ _ _ _ hH (⟨_, fun k hk => by have := cpyAt (f := fb) (g := fun _ => nI 0) (sp := frN) (dp := 0) hk; rw [Nat.zero_add] at this; exact this, rfl⟩) (show 1 ≤ 1 by omega) (show lN + 0 ≤ 16 by omega) dJ3_copyOfRangeByte_32
theorem hds_J3_copyOfRange : yJ3_copyOfRange.cls ≠ "java/lang/invoke/MethodHandle" ∧ yJ3_copyOfRange.cls ≠ "java/lang/invoke/VarHandle" ∧ (parseMethodDescriptor yJ3_copyOfRange.desc).map (fun d => d.parameters.length) = some 3 := by decide +kernel
theorem c_J3_copyOfRange (hE : EnvOK G E) (h1 : bC G qN mN fb ∈ wr) (ht : ∀ k, k < frN + lN → ∃ v, v < 128 ∧ fb k = nI v) (hm : frN + lN ≤ mN) (hmm : mN < 2 ^ 20) (h16 : lN ≤ 16) (hw : ¬ (frN = 0 ∧ frN + lN = mN)) : MU vA l G E yJ3_copyOfRange cJ3_copyOfRange 3 (some (.array .byte)) 5 1 16 [.ref qN, .int (nI frN), .int (nI (frN + lN))] (wr) (fun r w => ∃ g, (∀ k, k < lN → g k = fb (frN + k)) ∧ w = [bC G r lN g] ++ wr) := by
  refine MUa hE (by decide) (Nat.le_of_ble_eq_true rfl) (Or.inr ⟨_, rfl⟩) (fun pR eV sT mI below meth cd QQ ls X hH hl ret => ?_)
  obtain ⟨⟨hx, hb, hml, hown, hts⟩, ⟨hr, hlk⟩, -, -, -⟩ := id X
  have hl : lv_has ls 3 [(0, .ref qN), (1, .int (nI frN)), (2, .int (nI (frN + lN)))] := hl
  refine wgen (H := sT.heap) (locs := []) hH (fun H locs hH => ?_)
  refine lv_iload_n hx hb dJ3_copyOfRange_0 rfl (lv_at hl 1 rfl) ?_
  refine lv_if_ne (tgt := 10) hx hb dJ3_copyOfRange_1 (by decide) (fun c1 => ?_) (fun c1 => ?_)
  · refine lv_aload_n hx hb dJ3_copyOfRange_10 rfl (lv_at hl 0 rfl) ?_
    refine lv_iload_n hx hb dJ3_copyOfRange_11 rfl (lv_at hl 1 rfl) ?_
    refine lv_iload_n hx hb dJ3_copyOfRange_12 rfl (lv_at hl 2 rfl) ?_
    refine x_MSa (c_J3_copyOfRangeByte hE h1 ht hm hmm h16) X hH (lw_S q585 q586 q68 q587) hds_J3_copyOfRangeByte ⟨Nat.le_of_ble_eq_true rfl, Nat.le_of_ble_eq_true rfl⟩ rfl hl.1 rfl (Nat.le_of_ble_eq_true rfl) ⟨(Nat.le_of_ble_eq_true rfl), (Nat.le_of_ble_eq_true rfl)⟩ dJ3_copyOfRange_13 (fun r w H locs hq hH => ?_)
    obtain ⟨g, hg, rfl⟩ := hq
    refine x_widen (k2 := 1) (n2 := 16) (Nat.le_of_ble_eq_true rfl) (Nat.le_of_ble_eq_true rfl) ?_
    have hH : HH G sT ([bC G r lN g] ++ wr) H locs := hH
    exact ret _ _ _ _ _ _ _ _ hH (⟨g, hg, rfl⟩) (Nat.le_of_ble_eq_true rfl) (Nat.le_of_ble_eq_true rfl) dJ3_copyOfRange_16
  · refine lv_iload_n hx hb dJ3_copyOfRange_4 rfl (lv_at hl 2 rfl) ?_
    refine lv_aload_n hx hb dJ3_copyOfRange_5 rfl (lv_at hl 0 rfl) ?_
    refine x_alen X hH.1.1 h1 (t0 := 1) rfl dJ3_copyOfRange_6 ?_
    refine n_icmp_eq (tgt := 17) hx hb (by omega) (by omega) dJ3_copyOfRange_7 (by decide) (fun c2 => absurd ⟨nI_eq0 (by omega) c1, c2⟩ hw) (fun c2 => ?_)
    refine lv_aload_n hx hb dJ3_copyOfRange_10 rfl (lv_at hl 0 rfl) ?_
    refine lv_iload_n hx hb dJ3_copyOfRange_11 rfl (lv_at hl 1 rfl) ?_
    refine lv_iload_n hx hb dJ3_copyOfRange_12 rfl (lv_at hl 2 rfl) ?_
    refine x_MSa (c_J3_copyOfRangeByte hE h1 ht hm hmm h16) X hH (lw_S q585 q586 q68 q587) hds_J3_copyOfRangeByte ⟨Nat.le_of_ble_eq_true rfl, Nat.le_of_ble_eq_true rfl⟩ rfl hl.1 rfl (Nat.le_of_ble_eq_true rfl) ⟨(Nat.le_of_ble_eq_true rfl), (Nat.le_of_ble_eq_true rfl)⟩ dJ3_copyOfRange_13 (fun r w H locs hq hH => ?_)
    obtain ⟨g, hg, rfl⟩ := hq
    refine x_widen (k2 := 1) (n2 := 16) (Nat.le_of_ble_eq_true rfl) (Nat.le_of_ble_eq_true rfl) ?_
    have hH : HH G sT ([bC G r lN g] ++ wr) H locs := hH
    exact ret _ _ _ _ _ _ _ _ hH (⟨g, hg, rfl⟩) (Nat.le_of_ble_eq_true rfl) (Nat.le_of_ble_eq_true rfl) dJ3_copyOfRange_16
variable {sN : Nat}
theorem hds_J12_init_3 : yJ12_init_3.cls ≠ "java/lang/invoke/MethodHandle" ∧ yJ12_init_3.cls ≠ "java/lang/invoke/VarHandle" ∧ (parseMethodDescriptor yJ12_init_3.desc).map (fun d => d.parameters.length) = some 2 := by decide +kernel
theorem c_J12_init_3 (hE : EnvOK G E) : MU vV l G E yJ12_init_3 cJ12_init_3 3 none 1 0 0 [.ref sN, .ref qN, .int (nI 0)] ([oC sN 13 [.null, .int (nI 0), .int (nI 0), .int (nI 0)]] ++ wr) (fun _ w => w = [oC sN 13 [.ref qN, .int (nI 0), .int (nI 0), .int (nI 0)]] ++ wr) := by
  refine MUc hE (by decide) (Nat.le_of_ble_eq_true rfl) (fun pR eV sT mI below meth cd QQ ls hin X hH hl ret => ?_)
  obtain ⟨⟨hx, hb, hml, hown, hts⟩, ⟨hr, hlk⟩, -, -, -⟩ := id X
  have hl : lv_has ls 3 [(0, .ref sN), (1, .ref qN), (2, .int (nI 0))] := hl
  refine wgen (H := sT.heap) (locs := []) hH (fun H locs hH => ?_)
  refine lv_aload_n hx hb dJ12_init_3_0 rfl (lv_at hl 0 rfl) ?_
  refine x_obj X hl.1 q574 q105 q106 (Nat.le_of_ble_eq_true rfl) (Nat.le_of_ble_eq_true rfl) dJ12_init_3_1 ?_
  refine lv_aload_n hx hb dJ12_init_3_4 rfl (lv_at hl 0 rfl) ?_
  refine lv_aload_n hx hb dJ12_init_3_5 rfl (lv_at hl 1 rfl) ?_
  refine x_putF X hH in_J12 tyJ12 tyJ12_ok nmJ12 0 rfl rfl 0 (by decide) q705 (fun _ h => h) rfl hin rfl (ty := .array (.byte)) (by decide +kernel) rfl rfl (Nat.le_of_ble_eq_true rfl) dJ12_init_3_6 (fun H locs hH => ?_)
  have hH : HH G sT ([oC sN 13 [.ref qN, .int (nI 0), .int (nI 0), .int (nI 0)]] ++ wr) H locs := hH
  refine lv_aload_n hx hb dJ12_init_3_9 rfl (lv_at hl 0 rfl) ?_
  refine lv_iload_n hx hb dJ12_init_3_10 rfl (lv_at hl 2 rfl) ?_
  refine x_putF X hH in_J12 tyJ12 tyJ12_ok nmJ12 0 rfl rfl 1 (by decide) q706 (fun _ h => h) rfl hin rfl (ty := .byte) (by decide +kernel) (by decide) rfl (Nat.le_of_ble_eq_true rfl) dJ12_init_3_11 (fun H locs hH => ?_)
  have hH : HH G sT ([oC sN 13 [.ref qN, .int (nI 0), .int (nI 0), .int (nI 0)]] ++ wr) H locs := hH
  exact ret _ _ _ _ _ _ _ hH (rfl) (Nat.le_of_ble_eq_true rfl) (Nat.le_of_ble_eq_true rfl) dJ12_init_3_14
theorem hds_J12_init_2 : yJ12_init_2.cls ≠ "java/lang/invoke/MethodHandle" ∧ yJ12_init_2.cls ≠ "java/lang/invoke/VarHandle" ∧ (parseMethodDescriptor yJ12_init_2.desc).map (fun d => d.parameters.length) = some 2 := by decide +kernel
theorem c_J12_init_2 (hE : EnvOK G E) (hJ : EnvJ G E sa) (h0 : oC bN 12 [.ref qN, .int (nI 0), .int (nI 0), .int (nI nN)] ∈ wr) (h1 : bC G qN 16 fb ∈ wr) (ht : ∀ k, k < nN → ∃ v, v < 128 ∧ fb k = nI v) (hn : nN < 16) : MU vV l G E yJ12_init_2 cJ12_init_2 5 none 6 1 16 [.ref sN, .ref bN, .null] ([oC sN 13 [.null, .int (nI 0), .int (nI 0), .int (nI 0)]] ++ wr) (fun _ w => ∃ q g, (∀ k, k < nN → g k = fb k) ∧ w = [oC sN 13 [.ref q, .int (nI 0), .int (nI 0), .int (nI 0)], bC G q nN g] ++ wr) := by
  refine MUc hE (by decide) (Nat.le_of_ble_eq_true rfl) (fun pR eV sT mI below meth cd QQ ls hin X hH hl ret => ?_)
  obtain ⟨⟨hx, hb, hml, hown, hts⟩, ⟨hr, hlk⟩, -, -, -⟩ := id X
  have hJs := X.J hJ
  have hl : lv_has ls 5 [(0, .ref sN), (1, .ref bN), (2, .null)] := hl
  refine wgen (H := sT.heap) (locs := []) hH (fun H locs hH => ?_)
  refine lv_aload_n hx hb dJ12_init_2_0 rfl (lv_at hl 0 rfl) ?_
  refine x_obj X hl.1 q574 q105 q106 (Nat.le_of_ble_eq_true rfl) (Nat.le_of_ble_eq_true rfl) dJ12_init_2_1 ?_
  refine lv_aload_n hx hb dJ12_init_2_4 rfl (lv_at hl 1 rfl) ?_
  refine x_RU (n := 0) (c_J10_getValue hE (mem_r h0)) X hH.2 hH.1.1 (x_rc X hH.1.1 (mem_r h0) rfl) q575 q577 (Decl_of (hts _ q576) (hts _ q579)) (hts _ q578) q576 q81 q579 (by decide +kernel) ⟨Nat.le_of_ble_eq_true rfl, Nat.le_of_ble_eq_true rfl⟩ rfl hl.1 rfl (Nat.le_of_ble_eq_true rfl) ⟨(Nat.le_of_ble_eq_true rfl), (Nat.le_of_ble_eq_true rfl)⟩ dJ12_init_2_5 ?_
  refine lv_astore_n (lv' := [(3, .ref qN), (0, .ref sN), (1, .ref bN), (2, .null)]) hx hb dJ12_init_2_8 rfl hl (by decide) rfl (fun ls hl => ?_)
  refine lv_aload_n hx hb dJ12_init_2_9 rfl (lv_at hl 2 rfl) ?_
  refine x_RU (n := 0) (c_J11_length hE (mem_r h0)) X hH.2 hH.1.1 (x_rc X hH.1.1 (mem_r h0) rfl) q580 q1787 (Decl_of (hts _ q465) (hts _ q466)) (hts _ q1792) q461 q82 q463 (by decide +kernel) ⟨Nat.le_of_ble_eq_true rfl, Nat.le_of_ble_eq_true rfl⟩ rfl hl.1 rfl (Nat.le_of_ble_eq_true rfl) ⟨(Nat.le_of_ble_eq_true rfl), (Nat.le_of_ble_eq_true rfl)⟩ dJ12_init_2_10 ?_
  refine lv_istore (lv' := [(4, .int (nI nN)), (3, .ref qN), (0, .ref sN), (1, .ref bN), (2, .null)]) hx hb dJ12_init_2_13 hl (by decide) rfl (fun ls hl => ?_)
  refine lv_aload_n hx hb dJ12_init_2_15 rfl (lv_at hl 3 rfl) ?_
  refine x_RU (n := 0) (c_J10_isLatin1 hE hJ (mem_r h0)) X hH.2 hH.1.1 (x_rc X hH.1.1 (mem_r h0) rfl) q581 q511 (Decl_of (hts _ q510) (hts _ q513)) (hts _ q512) q510 q81 q513 (by decide +kernel) ⟨Nat.le_of_ble_eq_true rfl, Nat.le_of_ble_eq_true rfl⟩ rfl hl.1 rfl (Nat.le_of_ble_eq_true rfl) ⟨(Nat.le_of_ble_eq_true rfl), (Nat.le_of_ble_eq_true rfl)⟩ dJ12_init_2_16 ?_
  refine lv_if_eq (tgt := 41) hx hb dJ12_init_2_19 (by decide) (fun h => absurd h (by decide)) (fun _ => ?_)
  refine lv_aload_n hx hb dJ12_init_2_22 rfl (lv_at hl 2 rfl) ?_
  refine lv_iconst (v := nI 0) hx hb dJ12_init_2_23 (by decide) ?_
  refine x_putF X hH in_J12 tyJ12 tyJ12_ok nmJ12 0 rfl rfl 1 (by decide) q706 (fun _ h => h) rfl hin rfl (ty := .byte) (by decide +kernel) (by decide) rfl (Nat.le_of_ble_eq_true rfl) dJ12_init_2_24 (fun H locs hH => ?_)
  have hH : HH G sT ([oC sN 13 [.null, .int (nI 0), .int (nI 0), .int (nI 0)]] ++ wr) H locs := hH
  refine lv_aload_n hx hb dJ12_init_2_27 rfl (lv_at hl 2 rfl) ?_
  refine lv_aload_n hx hb dJ12_init_2_28 rfl (lv_at hl 1 rfl) ?_
  refine lv_iconst (v := nI 0) hx hb dJ12_init_2_29 (by decide) ?_
  refine lv_iload hx hb dJ12_init_2_30 (lv_at hl 0 rfl) ?_
  refine n_top (y := nI (0 + nN)) (by rw [Nat.zero_add]) ?_
  refine x_MSa (c_J3_copyOfRange (wr := [oC sN 13 [.null, .int (nI 0), .int (nI 0), .int (nI 0)]] ++ wr) (frN := 0) (lN := nN) hE (mem_r h1) (fun k hk => ht k (by omega)) (by omega) (by decide) (by omega) (by omega)) X hH (lw_S q582 q583 q68 q584) hds_J3_copyOfRange ⟨Nat.le_of_ble_eq_true rfl, Nat.le_of_ble_eq_true rfl⟩ rfl hl.1 rfl (Nat.le_of_ble_eq_true rfl) ⟨(Nat.le_of_ble_eq_true rfl), (Nat.le_of_ble_eq_true rfl)⟩ dJ12_init_2_32 (fun r w H locs hq hH => ?_)
  obtain ⟨g, hg, rfl⟩ := hq
  refine x_widen (k2 := 1) (n2 := 16) (Nat.le_of_ble_eq_true rfl) (Nat.le_of_ble_eq_true rfl) ?_
  have hH : HH G sT ([bC G r nN g, oC sN 13 [.null, .int (nI 0), .int (nI 0), .int (nI 0)]] ++ wr) H locs := hH
  refine x_putF X hH in_J12 tyJ12 tyJ12_ok nmJ12 1 rfl rfl 0 (by decide) q705 (fun _ h => h) rfl hin rfl (ty := .array (.byte)) (by decide +kernel) rfl rfl (Nat.le_of_ble_eq_true rfl) dJ12_init_2_35 (fun H locs hH => ?_)
  have hH : HH G sT ([bC G r nN g, oC sN 13 [.ref r, .int (nI 0), .int (nI 0), .int (nI 0)]] ++ wr) H locs := hH
  refine lv_goto (tgt := 97) hx hb dJ12_init_2_38 (by decide) ?_
  have hH : HH G sT ([oC sN 13 [.ref r, .int (nI 0), .int (nI 0), .int (nI 0)], bC G r nN g] ++ wr) H locs := HH.pickN hH 2 [1, 0] rfl (by decide) rfl
  exact ret _ _ _ _ _ _ _ hH (⟨r, g, fun k hk => by rw [hg k hk, Nat.zero_add], rfl⟩) (Nat.le_of_ble_eq_true rfl) (Nat.le_of_ble_eq_true rfl) dJ12_init_2_97
theorem hds_J12_init : yJ12_init.cls ≠ "java/lang/invoke/MethodHandle" ∧ yJ12_init.cls ≠ "java/lang/invoke/VarHandle" ∧ (parseMethodDescriptor yJ12_init.desc).map (fun d => d.parameters.length) = some 1 := by decide +kernel
theorem c_J12_init (hE : EnvOK G E) (hJ : EnvJ G E sa) (h0 : oC bN 12 [.ref qN, .int (nI 0), .int (nI 0), .int (nI nN)] ∈ wr) (h1 : bC G qN 16 fb ∈ wr) (ht : ∀ k, k < nN → ∃ v, v < 128 ∧ fb k = nI v) (hn : nN < 16) : MU vV l G E yJ12_init cJ12_init 2 none 7 1 16 [.ref sN, .ref bN] ([oC sN 13 [.null, .int (nI 0), .int (nI 0), .int (nI 0)]] ++ wr) (fun _ w => ∃ q g, (∀ k, k < nN → g k = fb k) ∧ w = [oC sN 13 [.ref q, .int (nI 0), .int (nI 0), .int (nI 0)], bC G q nN g] ++ wr) := by
  refine MUc hE (by decide) (Nat.le_of_ble_eq_true rfl) (fun pR eV sT mI below meth cd QQ ls hin X hH hl ret => ?_)
  obtain ⟨⟨hx, hb, hml, hown, hts⟩, ⟨hr, hlk⟩, -, -, -⟩ := id X
  have hJs := X.J hJ
  have hl : lv_has ls 2 [(0, .ref sN), (1, .ref bN)] := hl
  refine wgen (H := sT.heap) (locs := []) hH (fun H locs hH => ?_)
  refine lv_aload_n hx hb dJ12_init_0 rfl (lv_at hl 0 rfl) ?_
  refine lv_aload_n hx hb dJ12_init_1 rfl (lv_at hl 1 rfl) ?_
  refine lv_null hx hb dJ12_init_2 ?_
  refine x_MI (c_J12_init_2 hE hJ h0 h1 ht hn) X hH q573 q83 q571 q572 rfl hds_J12_init_2 ⟨Nat.le_of_ble_eq_true rfl, Nat.le_of_ble_eq_true rfl⟩ rfl hl.1 rfl (Nat.le_of_ble_eq_true rfl) ⟨(Nat.le_of_ble_eq_true rfl), (Nat.le_of_ble_eq_true rfl)⟩ dJ12_init_3 (fun w H locs hq hH => ?_)
  obtain ⟨q, g, hg, rfl⟩ := hq
  refine x_widen (k2 := 1) (n2 := 16) (Nat.le_of_ble_eq_true rfl) (Nat.le_of_ble_eq_true rfl) ?_
  have hH : HH G sT ([oC sN 13 [.ref q, .int (nI 0), .int (nI 0), .int (nI 0)], bC G q nN g] ++ wr) H locs := hH
  exact ret _ _ _ _ _ _ _ hH (⟨q, g, hg, rfl⟩) (Nat.le_of_ble_eq_true rfl) (Nat.le_of_ble_eq_true rfl) dJ12_init_6
theorem hdv_J11_toString : yJ11_toString.cls = RJ11 ∧ yJ11_toString.cls ≠ "java/lang/invoke/MethodHandle" ∧ yJ11_toString.cls ≠ "java/lang/invoke/VarHandle" ∧ (parseMethodDescriptor yJ11_toString.desc).map (fun d => d.parameters.length) = some 0 := by decide +kernel
theorem c_J11_toString (hE : EnvOK G E) (hJ : EnvJ G E sa) (h0 : oC bN 12 [.ref qN, .int (nI 0), .int (nI 0), .int (nI nN)] ∈ wr) (h1 : bC G qN 16 fb ∈ wr) (ht : ∀ k, k < nN → ∃ v, v < 128 ∧ fb k = nI v) (hn : nN < 16) : MU vA l G E yJ11_toString cJ11_toString 1 (some (.object "java/lang/String")) 8 2 20 [.ref bN] (wr) (fun r w => ∃ q g, (∀ k, k < nN → g k = fb k) ∧ w = [oC r 13 [.ref q, .int (nI 0), .int (nI 0), .int (nI 0)], bC G q nN g] ++ wr) := by
  refine MUa hE (by decide) (Nat.le_of_ble_eq_true rfl) (Or.inl ⟨_, rfl⟩) (fun pR eV sT mI below meth cd QQ ls X hH hl ret => ?_)
  obtain ⟨⟨hx, hb, hml, hown, hts⟩, ⟨hr, hlk⟩, -, -, -⟩ := id X
  have hJs := X.J hJ
  have hl : lv_has ls 1 [(0, .ref bN)] := hl
  refine wgen (H := sT.heap) (locs := []) hH (fun H locs hH => ?_)
  refine x_new X hH in_J12 tyJ12 tyJ12_ok q566 q567 q83 (ci := 13) (fs := [.null, .int (nI 0), .int (nI 0), .int (nI 0)]) rfl df_J12 (Nat.le_of_ble_eq_true rfl) (Nat.le_of_ble_eq_true rfl) dJ11_toString_0 (fun sN H hH => ?_)
  refine x_widen (k2 := 1) (n2 := 4) (Nat.le_of_ble_eq_true rfl) (Nat.le_of_ble_eq_true rfl) ?_
  have hH : HH G sT ([oC sN 13 [.null, .int (nI 0), .int (nI 0), .int (nI 0)]] ++ wr) H locs := hH
  refine lv_dup hx hb dJ11_toString_3 rfl ?_
  refine lv_aload_n hx hb dJ11_toString_4 rfl (lv_at hl 0 rfl) ?_
  refine x_MI (c_J12_init hE hJ h0 h1 ht hn) X hH q570 q83 q568 q569 rfl hds_J12_init ⟨Nat.le_of_ble_eq_true rfl, Nat.le_of_ble_eq_true rfl⟩ rfl hl.1 rfl (Nat.le_of_ble_eq_true rfl) ⟨(Nat.le_of_ble_eq_true rfl), (Nat.le_of_ble_eq_true rfl)⟩ dJ11_toString_5 (fun w H locs hq hH => ?_)
  obtain ⟨q, g, hg, rfl⟩ := hq
  refine x_widen (k2 := 2) (n2 := 20) (Nat.le_of_ble_eq_true rfl) (Nat.le_of_ble_eq_true rfl) ?_
  have hH : HH G sT ([oC sN 13 [.ref q, .int (nI 0), .int (nI 0), .int (nI 0)], bC G q nN g] ++ wr) H locs := hH
  exact ret _ _ _ _ _ _ _ _ hH (⟨q, g, hg, rfl⟩) (Nat.le_of_ble_eq_true rfl) (Nat.le_of_ble_eq_true rfl) dJ11_toString_8
theorem hds_J16_newString : yJ16_newString.cls ≠ "java/lang/invoke/MethodHandle" ∧ yJ16_newString.cls ≠ "java/lang/invoke/VarHandle" ∧ (parseMethodDescriptor yJ16_newString.desc).map (fun d => d.parameters.length) = some 3 := by decide +kernel
theorem c_J16_newString (hE : EnvOK G E) (hJ : EnvJ G E sa) (h1 : bC G qN mN fb ∈ wr) (ht : ∀ k, k < mN → fb k = nI (tC k) ∧ tC k < 128) (h0l : 0 < lN) (hm : frN + lN ≤ mN) (hmm : mN < 2 ^ 20) (h16 : lN ≤ 16) (hw : ¬ (frN = 0 ∧ frN + lN = mN)) : MU vA l G E yJ16_newString cJ16_newString 3 (some (.object "java/lang/String")) 6 2 20 [.ref qN, .int (nI frN), .int (nI lN)] (wr) (fun r w => ∃ q g, (∀ k, k < lN → g k = nI (tC (frN + k))) ∧ w = [oC r 13 [.ref q, .int (nI 0), .int (nI 0), .int (nI 0)], bC G q lN g] ++ wr) := by
  refine MUa hE (by decide) (Nat.le_of_ble_eq_true rfl) (Or.inl ⟨_, rfl⟩) (fun pR eV sT mI below meth cd QQ ls X hH hl ret => ?_)
  obtain ⟨⟨hx, hb, hml, hown, hts⟩, ⟨hr, hlk⟩, -, -, -⟩ := id X
  have hJs := X.J hJ
  have hl : lv_has ls 3 [(0, .ref qN), (1, .int (nI frN)), (2, .int (nI lN))] := hl
  refine wgen (H := sT.heap) (locs := []) hH (fun H locs hH => ?_)
  refine lv_iload_n hx hb dJ16_newString_0 rfl (lv_at hl 2 rfl) ?_
  refine lv_if_ne (tgt := 7) hx hb dJ16_newString_1 (by decide) (fun c1 => ?_) (fun c1 => absurd (nI_eq0 (by omega) c1) (by omega))
  refine x_new X hH in_J12 tyJ12 tyJ12_ok q1277 q567 q83 (ci := 13) (fs := [.null, .int (nI 0), .int (nI 0), .int (nI 0)]) rfl df_J12 (Nat.le_of_ble_eq_true rfl) (Nat.le_of_ble_eq_true rfl) dJ16_newString_7 (fun sN H hH => ?_)
  refine x_widen (k2 := 1) (n2 := 4) (Nat.le_of_ble_eq_true rfl) (Nat.le_of_ble_eq_true rfl) ?_
  have hH : HH G sT ([oC sN 13 [.null, .int (nI 0), .int (nI 0), .int (nI 0)]] ++ wr) H locs := hH
  refine lv_dup hx hb dJ16_newString_10 rfl ?_
  refine lv_aload_n hx hb dJ16_newString_11 rfl (lv_at hl 0 rfl) ?_
  refine lv_iload_n hx hb dJ16_newString_12 rfl (lv_at hl 1 rfl) ?_
  refine lv_iload_n hx hb dJ16_newString_13 rfl (lv_at hl 1 rfl) ?_
  refine lv_iload_n hx hb dJ16_newString_14 rfl (lv_at hl 2 rfl) ?_
  refine n_iadd hx hb dJ16_newString_15 ?_
  refine x_MSa (c_J3_copyOfRange (wr := [oC sN 13 [.null, .int (nI 0), .int (nI 0), .int (nI 0)]] ++ wr) (frN := frN) (lN := lN) hE (mem_r h1) (fun k hk => ⟨_, (ht k (by omega)).2, (ht k (by omega)).1⟩) hm hmm h16 hw) X hH (lw_S q1278 q583 q68 q584) hds_J3_copyOfRange ⟨Nat.le_of_ble_eq_true rfl, Nat.le_of_ble_eq_true rfl⟩ rfl hl.1 rfl (Nat.le_of_ble_eq_true rfl) ⟨(Nat.le_of_ble_eq_true rfl), (Nat.le_of_ble_eq_true rfl)⟩ dJ16_newString_16 (fun r w H locs hq hH => ?_)
  obtain ⟨g, hg, rfl⟩ := hq
  refine x_widen (k2 := 2) (n2 := 20) (Nat.le_of_ble_eq_true rfl) (Nat.le_of_ble_eq_true rfl) ?_
  have hH : HH G sT ([bC G r lN g, oC sN 13 [.null, .int (nI 0), .int (nI 0), .int (nI 0)]] ++ wr) H locs := hH
  refine lv_iconst (v := nI 0) hx hb dJ16_newString_19 (by decide) ?_
  have hH : HH G sT ([oC sN 13 [.null, .int (nI 0), .int (nI 0), .int (nI 0)], bC G r lN g] ++ wr) H locs := HH.pickN hH 2 [1, 0] rfl (by decide) rfl
  refine x_MI (c_J12_init_3 (wr := ([bC G r lN g] ++ wr)) hE) X hH q1281 q83 q1279 q1280 rfl hds_J12_init_3 ⟨Nat.le_of_ble_eq_true rfl, Nat.le_of_ble_eq_true rfl⟩ rfl hl.1 rfl (Nat.le_of_ble_eq_true rfl) ⟨(Nat.le_of_ble_eq_true rfl), (Nat.le_of_ble_eq_true rfl)⟩ dJ16_newString_20 (fun w H locs hq hH => ?_)
  obtain rfl := hq
  have hH : HH G sT ([oC sN 13 [.ref r, .int (nI 0), .int (nI 0), .int (nI 0)], bC G r lN g] ++ wr) H locs := hH
  exact ret _ _ _ _ _ _ _ _ hH (⟨r, g, fun k hk => by rw [hg k hk]; exact (ht _ (by omega)).1, rfl⟩) (Nat.le_of_ble_eq_true rfl) (Nat.le_of_ble_eq_true rfl) dJ16_newString_23
variable {hh zz : Int32}
theorem hds_J17_checkFromToIndex : yJ17_checkFromToIndex.cls ≠ "java/lang/invoke/MethodHandle" ∧ yJ17_checkFromToIndex.cls ≠ "java/lang/invoke/VarHandle" ∧ (parseMethodDescriptor yJ17_checkFromToIndex.desc).map (fun d => d.parameters.length) = some 4 := by decide +kernel
theorem c_J17_checkFromToIndex (hE : EnvOK G E) {o : Option Nat} (hle : frN ≤ toN) (hm : toN ≤ mN) (hmm : mN < 2 ^ 20) : RO l G E yJ17_checkFromToIndex cJ17_checkFromToIndex 4 .int 1 [.int (nI frN), .int (nI toN), .int (nI mN), (va_rf o)] (fun _ => True) (.int (nI frN)) := by
  refine ROi hE (by decide) (by cases o <;> exact Nat.le_of_ble_eq_true rfl) (fun pR eV sT mI below meth cd QQ ls X hP hl ret => ?_)
  obtain ⟨⟨hx, hb, hml, hown, hts⟩, ⟨hr, hlk⟩, -, -, -⟩ := id X
  have hl : lv_has ls 4 [(0, .int (nI frN)), (1, .int (nI toN)), (2, .int (nI mN)), (3, (va_rf o))] := hl
  refine lv_iload_n hx hb dJ17_checkFromToIndex_0 rfl (lv_at hl 0 rfl) ?_
  refine lv_if_lt (tgt := 14) hx hb dJ17_checkFromToIndex_1 (by decide) (fun c1 => absurd c1 (nI_pos (by omega))) (fun c1 => ?_)
  refine lv_iload_n hx hb dJ17_checkFromToIndex_4 rfl (lv_at hl 0 rfl) ?_
  refine lv_iload_n hx hb dJ17_checkFromToIndex_5 rfl (lv_at hl 1 rfl) ?_
  refine n_icmp_gt (tgt := 14) hx hb (by omega) (by omega) dJ17_checkFromToIndex_6 (by decide) (fun c2 => absurd c2 (by omega)) (fun c2 => ?_)
  refine lv_iload_n hx hb dJ17_checkFromToIndex_9 rfl (lv_at hl 1 rfl) ?_
  refine lv_iload_n hx hb dJ17_checkFromToIndex_10 rfl (lv_at hl 2 rfl) ?_
  refine n_icmp_le (tgt := 22) hx hb (by omega) (by omega) dJ17_checkFromToIndex_11 (by decide) (fun c3 => ?_) (fun c3 => absurd hm (Nat.not_le.mpr c3))
  refine lv_iload_n hx hb dJ17_checkFromToIndex_22 rfl (lv_at hl 0 rfl) ?_
  exact ret _ _ _ (rfl) dJ17_checkFromToIndex_23
theorem hds_J12_checkBoundsBeginEnd : yJ12_checkBoundsBeginEnd.cls ≠ "java/lang/invoke/MethodHandle" ∧ yJ12_checkBoundsBeginEnd.cls ≠ "java/lang/invoke/VarHandle" ∧ (parseMethodDescriptor yJ12_checkBoundsBeginEnd.desc).map (fun d => d.parameters.length) = some 3 := by decide +kernel
theorem c_J12_checkBoundsBeginEnd (hE : EnvOK G E) (hJ : EnvJ G E sa) (hle : frN ≤ toN) (hm : toN ≤ mN) (hmm : mN < 2 ^ 20) : RN l G E yJ12_checkBoundsBeginEnd cJ12_checkBoundsBeginEnd 3 2 [.int (nI frN), .int (nI toN), .int (nI mN)] (fun _ => True) := by
  refine ROv hE (by decide) (Nat.le_of_ble_eq_true rfl) (fun pR eV sT mI below meth cd QQ ls X hP hl ret => ?_)
  obtain ⟨⟨hx, hb, hml, hown, hts⟩, ⟨hr, hlk⟩, -, -, -⟩ := id X
  have hJs := X.J hJ
  have hl : lv_has ls 3 [(0, .int (nI frN)), (1, .int (nI toN)), (2, .int (nI mN))] := hl
  refine lv_iload_n hx hb dJ12_checkBoundsBeginEnd_0 rfl (lv_at hl 0 rfl) ?_
  refine lv_iload_n hx hb dJ12_checkBoundsBeginEnd_1 rfl (lv_at hl 1 rfl) ?_
  refine lv_iload_n hx hb dJ12_checkBoundsBeginEnd_2 rfl (lv_at hl 2 rfl) ?_
  obtain ⟨o_1, ho_1⟩ : ∃ o : Option Nat, va_Z "jdk/internal/util/Preconditions" "SIOOBE_FORMATTER" "Ljava/util/function/BiFunction;" (va_rf o) (GE G.2.2) sT sT.heap := va_Zq_o hJs.2.2.2.2.1.2
  refine x_gets X va_S.rf ho_1 q536 (fun _ h => h) dJ12_checkBoundsBeginEnd_3 ?_
  refine x_RS (c_J17_checkFromToIndex hE (o := o_1) hle hm hmm) X va_S.rf trivial (lw_S q630 q631 q89 q632) hds_J17_checkFromToIndex ⟨Nat.le_of_ble_eq_true rfl, Nat.le_of_ble_eq_true rfl⟩ rfl hl.1 rfl (Nat.le_of_ble_eq_true rfl) ⟨Nat.le_refl _, Nat.le_refl _⟩ dJ12_checkBoundsBeginEnd_6 ?_
  refine lv_pop hx hb dJ12_checkBoundsBeginEnd_9 rfl ?_
  exact ret _ _ trivial dJ12_checkBoundsBeginEnd_10
theorem hdv_J12_substring : yJ12_substring.cls = RJ12 ∧ yJ12_substring.cls ≠ "java/lang/invoke/MethodHandle" ∧ yJ12_substring.cls ≠ "java/lang/invoke/VarHandle" ∧ (parseMethodDescriptor yJ12_substring.desc).map (fun d => d.parameters.length) = some 2 := by decide +kernel
theorem c_J12_substring (hE : EnvOK G E) (hJ : EnvJ G E sa) (h0 : oC sN 13 [.ref qN, .int (nI 0), .int hh, .int zz] ∈ wr) (h1 : bC G qN mN fb ∈ wr) (ht : ∀ k, k < mN → fb k = nI (tC k) ∧ tC k < 128) (h0l : 0 < lN) (hm : frN + lN ≤ mN) (hmm : mN < 2 ^ 20) (h16 : lN ≤ 16) : MU vA l G E yJ12_substring cJ12_substring 5 (some (.object "java/lang/String")) 7 2 20 [.ref sN, .int (nI frN), .int (nI (frN + lN))] (wr) (fun r w => ∃ X, w = X ++ wr ∧ Str G w r (fun k => tC (frN + k)) lN) := by
  refine MUa hE (by decide) (Nat.le_of_ble_eq_true rfl) (Or.inl ⟨_, rfl⟩) (fun pR eV sT mI below meth cd QQ ls X hH hl ret => ?_)
  obtain ⟨⟨hx, hb, hml, hown, hts⟩, ⟨hr, hlk⟩, -, -, -⟩ := id X
  have hJs := X.J hJ
  have hl : lv_has ls 5 [(0, .ref sN), (1, .int (nI frN)), (2, .int (nI (frN + lN)))] := hl
  refine wgen (H := sT.heap) (locs := []) hH (fun H locs hH => ?_)
  refine lv_aload_n hx hb dJ12_substring_0 rfl (lv_at hl 0 rfl) ?_
  refine x_RV (c_J12_length hE hJ h0 h1) X hH.2 hH.1.1 (x_rc X hH.1.1 h0 rfl) (lw_V q972 q654 q655 q83 q656) hdv_J12_length ⟨Nat.le_of_ble_eq_true rfl, Nat.le_of_ble_eq_true rfl⟩ rfl hl.1 rfl (Nat.le_of_ble_eq_true rfl) ⟨(Nat.le_of_ble_eq_true rfl), (Nat.le_of_ble_eq_true rfl)⟩ dJ12_substring_1 ?_
  refine lv_istore_n (lv' := [(3, .int (nI mN)), (0, .ref sN), (1, .int (nI frN)), (2, .int (nI (frN + lN)))]) hx hb dJ12_substring_4 rfl hl (by decide) rfl (fun ls hl => ?_)
  refine lv_iload_n hx hb dJ12_substring_5 rfl (lv_at hl 2 rfl) ?_
  refine lv_iload_n hx hb dJ12_substring_6 rfl (lv_at hl 3 rfl) ?_
  refine lv_iload_n hx hb dJ12_substring_7 rfl (lv_at hl 0 rfl) ?_
  refine x_NS (c_J12_checkBoundsBeginEnd hE hJ (Nat.le_add_right _ _) hm hmm) X hH.2 trivial (lw_S q1272 q628 q83 q629) hds_J12_checkBoundsBeginEnd ⟨Nat.le_of_ble_eq_true rfl, Nat.le_of_ble_eq_true rfl⟩ rfl hl.1 rfl (Nat.le_of_ble_eq_true rfl) ⟨(Nat.le_of_ble_eq_true rfl), (Nat.le_of_ble_eq_true rfl)⟩ dJ12_substring_8 ?_
  refine lv_iload_n hx hb dJ12_substring_11 rfl (lv_at hl 2 rfl) ?_
  refine lv_if_ne (tgt := 22) hx hb dJ12_substring_12 (by decide) (fun c1 => ?_) (fun c1 => ?_)
  · refine lv_iload_n hx hb dJ12_substring_22 rfl (lv_at hl 3 rfl) ?_
    refine lv_iload_n hx hb dJ12_substring_23 rfl (lv_at hl 2 rfl) ?_
    refine n_isub hx hb (by omega) dJ12_substring_24 ?_
    refine n_top (y := nI lN) (by rw [Nat.add_sub_cancel_left]) ?_
    refine lv_istore (lv' := [(4, .int (nI lN)), (3, .int (nI mN)), (0, .ref sN), (1, .int (nI frN)), (2, .int (nI (frN + lN)))]) hx hb dJ12_substring_25 hl (by decide) rfl (fun ls hl => ?_)
    refine lv_aload_n hx hb dJ12_substring_27 rfl (lv_at hl 2 rfl) ?_
    refine x_RV (c_J12_isLatin1 hE hJ h0) X hH.2 hH.1.1 (x_rc X hH.1.1 h0 rfl) (lw_V q730 q731 q732 q83 q733) hdv_J12_isLatin1 ⟨Nat.le_of_ble_eq_true rfl, Nat.le_of_ble_eq_true rfl⟩ rfl hl.1 rfl (Nat.le_of_ble_eq_true rfl) ⟨(Nat.le_of_ble_eq_true rfl), (Nat.le_of_ble_eq_true rfl)⟩ dJ12_substring_28 ?_
    refine lv_if_eq (tgt := 47) hx hb dJ12_substring_31 (by decide) (fun h => absurd h (by decide)) (fun _ => ?_)
    refine lv_aload_n hx hb dJ12_substring_34 rfl (lv_at hl 2 rfl) ?_
    refine x_get X hH.1.1 in_J12 h0 rfl 0 (by decide) q705 (fun _ h => h) rfl dJ12_substring_35 ?_
    refine lv_iload_n hx hb dJ12_substring_38 rfl (lv_at hl 3 rfl) ?_
    refine lv_iload hx hb dJ12_substring_39 (lv_at hl 0 rfl) ?_
    refine x_MSa (c_J16_newString hE hJ h1 ht h0l hm hmm h16 (fun q => c1 (by rw [q.1]; rfl))) X hH (lw_S q1273 q1274 q88 q1275) hds_J16_newString ⟨Nat.le_of_ble_eq_true rfl, Nat.le_of_ble_eq_true rfl⟩ rfl hl.1 rfl (Nat.le_of_ble_eq_true rfl) ⟨(Nat.le_of_ble_eq_true rfl), (Nat.le_of_ble_eq_true rfl)⟩ dJ12_substring_41 (fun r w H locs hq hH => ?_)
    obtain ⟨q, g, hg, rfl⟩ := hq
    refine x_widen (k2 := 2) (n2 := 20) (Nat.le_of_ble_eq_true rfl) (Nat.le_of_ble_eq_true rfl) ?_
    have hH : HH G sT ([oC r 13 [.ref q, .int (nI 0), .int (nI 0), .int (nI 0)], bC G q lN g] ++ wr) H locs := hH
    refine lv_goto (tgt := 57) hx hb dJ12_substring_44 (by decide) ?_
    exact ret _ _ _ _ _ _ _ _ hH (⟨_, rfl, q, g, _, _, mem_k 0 rfl, mem_k 1 rfl, fun k hk => ⟨hg k hk, (ht _ (by omega)).2⟩, by omega⟩) (Nat.le_of_ble_eq_true rfl) (Nat.le_of_ble_eq_true rfl) dJ12_substring_57
  · refine lv_iload_n hx hb dJ12_substring_15 rfl (lv_at hl 3 rfl) ?_
    refine lv_iload_n hx hb dJ12_substring_16 rfl (lv_at hl 0 rfl) ?_
    have c1 := nI_eq0 (by omega) c1
    refine n_icmp_ne (tgt := 22) hx hb (by omega) (by omega) dJ12_substring_17 (by decide) (fun c2 => ?_) (fun c2 => ?_)
    · refine lv_iload_n hx hb dJ12_substring_22 rfl (lv_at hl 3 rfl) ?_
      refine lv_iload_n hx hb dJ12_substring_23 rfl (lv_at hl 2 rfl) ?_
      refine n_isub hx hb (by omega) dJ12_substring_24 ?_
      refine n_top (y := nI lN) (by rw [Nat.add_sub_cancel_left]) ?_
      refine lv_istore (lv' := [(4, .int (nI lN)), (3, .int (nI mN)), (0, .ref sN), (1, .int (nI frN)), (2, .int (nI (frN + lN)))]) hx hb dJ12_substring_25 hl (by decide) rfl (fun ls hl => ?_)
      refine lv_aload_n hx hb dJ12_substring_27 rfl (lv_at hl 2 rfl) ?_
      refine x_RV (c_J12_isLatin1 hE hJ h0) X hH.2 hH.1.1 (x_rc X hH.1.1 h0 rfl) (lw_V q730 q731 q732 q83 q733) hdv_J12_isLatin1 ⟨Nat.le_of_ble_eq_true rfl, Nat.le_of_ble_eq_true rfl⟩ rfl hl.1 rfl (Nat.le_of_ble_eq_true rfl) ⟨(Nat.le_of_ble_eq_true rfl), (Nat.le_of_ble_eq_true rfl)⟩ dJ12_substring_28 ?_
      refine lv_if_eq (tgt := 47) hx hb dJ12_substring_31 (by decide) (fun h => absurd h (by decide)) (fun _ => ?_)
      refine lv_aload_n hx hb dJ12_substring_34 rfl (lv_at hl 2 rfl) ?_
      refine x_get X hH.1.1 in_J12 h0 rfl 0 (by decide) q705 (fun _ h => h) rfl dJ12_substring_35 ?_
      refine lv_iload_n hx hb dJ12_substring_38 rfl (lv_at hl 3 rfl) ?_
      refine lv_iload hx hb dJ12_substring_39 (lv_at hl 0 rfl) ?_
      refine x_MSa (c_J16_newString hE hJ h1 ht h0l hm hmm h16 (fun q => c2 q.2)) X hH (lw_S q1273 q1274 q88 q1275) hds_J16_newString ⟨Nat.le_of_ble_eq_true rfl, Nat.le_of_ble_eq_true rfl⟩ rfl hl.1 rfl (Nat.le_of_ble_eq_true rfl) ⟨(Nat.le_of_ble_eq_true rfl), (Nat.le_of_ble_eq_true rfl)⟩ dJ12_substring_41 (fun r w H locs hq hH => ?_)
      obtain ⟨q, g, hg, rfl⟩ := hq
      refine x_widen (k2 := 2) (n2 := 20) (Nat.le_of_ble_eq_true rfl) (Nat.le_of_ble_eq_true rfl) ?_
      have hH : HH G sT ([oC r 13 [.ref q, .int (nI 0), .int (nI 0), .int (nI 0)], bC G q lN g] ++ wr) H locs := hH
      refine lv_goto (tgt := 57) hx hb dJ12_substring_44 (by decide) ?_
      exact ret _ _ _ _ _ _ _ _ hH (⟨_, rfl, q, g, _, _, mem_k 0 rfl, mem_k 1 rfl, fun k hk => ⟨hg k hk, (ht _ (by omega)).2⟩, by omega⟩) (Nat.le_of_ble_eq_true rfl) (Nat.le_of_ble_eq_true rfl) dJ12_substring_57
    · refine lv_aload_n hx hb dJ12_substring_20 rfl (lv_at hl 1 rfl) ?_
      subst c1
      exact ret _ _ _ _ _ _ _ _ hH (⟨[], rfl, qN, fb, hh, zz, h0, (show mN = lN by omega) ▸ h1, fun k hk => by show fb k = nI (tC (0 + k)) ∧ tC (0 + k) < 128; rw [Nat.zero_add]; exact ht k (by omega), by omega⟩) (Nat.le_of_ble_eq_true rfl) (Nat.le_of_ble_eq_true rfl) dJ12_substring_21
end C3
