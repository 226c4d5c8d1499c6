/-! AUX: small facts the walker leans on -/
theorem rf_nar {C : String} (o : Option Nat) : narrow (.object C) (va_rf o) = va_rf o := by cases o <;> rfl
theorem rf_fit {C : String} (o : Option Nat) : fits (.object C) (va_rf o) = true := by cases o <;> rfl
theorem va_Zq_o {C n d : String} {A : Nat → Prop} {U : State} {H : Heap} (h : va_Zq C n d A U H) : ∃ o : Option Nat, va_Z C n d (va_rf o) A U H := by
  rcases h with h | ⟨t, h⟩
  · exact ⟨none, h⟩
  · exact ⟨some t, h⟩
theorem HH.behind {G : GG} {s : State} {X Y : va_W} {H : Heap} {locs : List Loc} (h : HH G s (Y ++ X) H locs) : HH G s X H locs := h.drop List.perm_append_comm
theorem df_X6 : ∀ j, j < 18 → defaultValue (tyX6 j) = vp_V [.null, .null, .null, .null, .int (nI 0), .int (nI 0), .null, .int (nI 0), .int (nI 0), .null, .null, .int (nI 0), .null, .null, .null, .int (nI 0), .null, .long 0] j := by
  intro j hj
  rcases (show j = 0 ∨ j = 1 ∨ j = 2 ∨ j = 3 ∨ j = 4 ∨ j = 5 ∨ j = 6 ∨ j = 7 ∨ j = 8 ∨ j = 9 ∨ j = 10 ∨ j = 11 ∨ j = 12 ∨ j = 13 ∨ j = 14 ∨ j = 15 ∨ j = 16 ∨ j = 17 by omega) with rfl | rfl | rfl | rfl | rfl | rfl | rfl | rfl | rfl | rfl | rfl | rfl | rfl | rfl | rfl | rfl | rfl | rfl <;> rfl
theorem df_X1 : ∀ j, j < 7 → defaultValue (tyX1 j) = vp_V [.null, .null, .null, .null, .null, .null, .int (nI 0)] j := by
  intro j hj
  rcases (show j = 0 ∨ j = 1 ∨ j = 2 ∨ j = 3 ∨ j = 4 ∨ j = 5 ∨ j = 6 by omega) with rfl | rfl | rfl | rfl | rfl | rfl | rfl <;> rfl
theorem df_X2 : ∀ j, j < 5 → defaultValue (tyX2 j) = vp_V [.null, .null, .int (nI 0), .int (nI 0), .null] j := by
  intro j hj
  rcases (show j = 0 ∨ j = 1 ∨ j = 2 ∨ j = 3 ∨ j = 4 by omega) with rfl | rfl | rfl | rfl | rfl <;> rfl
theorem df_X3 : ∀ j, j < 6 → defaultValue (tyX3 j) = vp_V [.null, .null, .null, .int (nI 0), .int (nI 0), .int (nI 0)] j := by
  intro j hj
  rcases (show j = 0 ∨ j = 1 ∨ j = 2 ∨ j = 3 ∨ j = 4 ∨ j = 5 by omega) with rfl | rfl | rfl | rfl | rfl | rfl <;> rfl
theorem df_X4 : ∀ j, j < 6 → defaultValue (tyX4 j) = vp_V [.null, .null, .null, .null, .null, .int (nI 0)] j := by
  intro j hj
  rcases (show j = 0 ∨ j = 1 ∨ j = 2 ∨ j = 3 ∨ j = 4 ∨ j = 5 by omega) with rfl | rfl | rfl | rfl | rfl | rfl <;> rfl
theorem df_X5 : ∀ j, j < 5 → defaultValue (tyX5 j) = vp_V [.null, .null, .null, .null, .int (nI 0)] j := by
  intro j hj
  rcases (show j = 0 ∨ j = 1 ∨ j = 2 ∨ j = 3 ∨ j = 4 by omega) with rfl | rfl | rfl | rfl | rfl <;> rfl
theorem df_X7 : ∀ j, j < 4 → defaultValue (tyX7 j) = vp_V [.null, .null, .int (nI 0), .null] j := by
  intro j hj
  rcases (show j = 0 ∨ j = 1 ∨ j = 2 ∨ j = 3 by omega) with rfl | rfl | rfl | rfl <;> rfl
theorem df_X8 : ∀ j, j < 7 → defaultValue (tyX8 j) = vp_V [.null, .null, .null, .null, .null, .int (nI 0), .int (nI 0)] j := by
  intro j hj
  rcases (show j = 0 ∨ j = 1 ∨ j = 2 ∨ j = 3 ∨ j = 4 ∨ j = 5 ∨ j = 6 by omega) with rfl | rfl | rfl | rfl | rfl | rfl | rfl <;> rfl
theorem df_X9 : ∀ j, j < 2 → defaultValue (tyX9 j) = vp_V [.null, .null] j := by
  intro j hj
  rcases (show j = 0 ∨ j = 1 by omega) with rfl | rfl <;> rfl
theorem df_X10 : ∀ j, j < 2 → defaultValue (tyX10 j) = vp_V [.null, .int (nI 0)] j := by
  intro j hj
  rcases (show j = 0 ∨ j = 1 by omega) with rfl | rfl <;> rfl
theorem df_J2 : ∀ j, j < 3 → defaultValue (tyJ2 j) = vp_V [.int (nI 0), .null, .int (nI 0)] j := by
  intro j hj
  rcases (show j = 0 ∨ j = 1 ∨ j = 2 by omega) with rfl | rfl | rfl <;> rfl
theorem df_J4 : ∀ j, j < 3 → defaultValue (tyJ4 j) = vp_V [.null, .int (nI 0), .int (nI 0)] j := by
  intro j hj
  rcases (show j = 0 ∨ j = 1 ∨ j = 2 by omega) with rfl | rfl | rfl <;> rfl
theorem df_J11 : ∀ j, j < 4 → defaultValue (tyJ11 j) = vp_V [.null, .int (nI 0), .int (nI 0), .int (nI 0)] j := by
  intro j hj
  rcases (show j = 0 ∨ j = 1 ∨ j = 2 ∨ j = 3 by omega) with rfl | rfl | rfl | rfl <;> rfl
theorem df_J12 : ∀ j, j < 4 → defaultValue (tyJ12 j) = vp_V [.null, .int (nI 0), .int (nI 0), .int (nI 0)] j := by
  intro j hj
  rcases (show j = 0 ∨ j = 1 ∨ j = 2 ∨ j = 3 by omega) with rfl | rfl | rfl | rfl <;> rfl
theorem HH.pickN {G : GG} {s : State} {X Y wr : va_W} {H : Heap} {locs : List Loc} (h : HH G s (X ++ wr) H locs) (n : Nat) (is : List Nat) (hn : X.length = n) (hp : is.Perm (List.range n)) (hY : is.filterMap (fun i => X[i]?) = Y) : HH G s (Y ++ wr) H locs := h.pick is (by rw [hn]; exact hp) hY
theorem mem_l {X wr : va_W} {q : Nat × va_E} (h : q ∈ X) : q ∈ X ++ wr := List.mem_append_left _ h
section VOID
variable {p : Program} {l : Launch} {e : Env} {R : Room} {s : State} {m : MethodId} {args : Array Value} {below : List Frame} {meth : Method} {c : Code} {H : Heap} {locs : List Loc} {cells slots : Nat} {Q : State → Prop}
  {G : GG} {E : State → Prop} {cc bytes : ByteArray} {nL maxL index n k pc mc ms : Nat} {y y0 : MethodName} {own C : String} {ret rt0 : Option FieldType} {P : Heap → Prop}
  {As rest st av : List Value} {ls : Array Slot} {b : Nat}
/-- a method without an answer that changes nothing -/
def RN (l : Launch) (G : GG) (E : State → Prop) (y : MethodName) (cc : ByteArray) (nL : Nat) (k : Nat) (av : List Value) (P : Heap → Prop) : Prop :=
  Met l y (ws_ y cc nL none) (Rm k 0 0) (Pre G E av P) (fun _ st o t => o = .returned none ∧ t.heap = st.heap) 0 0 (fun _ => False)
theorem ROv (hE : EnvOK G E) (hy : plainName y.cls = true) (hn : (lg_sl av).length ≤ nL)
    (body : ∀ (p : Program) (e : Env) (s : State) (m : MethodId) (below : List Frame) (meth : Method) (c : Code) (Q : State → Prop) (ls : Array Slot), KX G E p s m av.toArray meth c cc nL y.cls none → P s.heap → lv_has ls nL (lv_args 0 av) →
      (∀ (pc : Nat) (ls : Array Slot), True → decode cc pc = .ok (.return_, 1) → W p l e (Rm k 0 0) s m av.toArray below meth c s.heap [] 0 0 Q (F0 m pc ls [])) → W p l e (Rm k 0 0) s m av.toArray below meth c s.heap [] 0 0 Q (F0 m 0 ls [])) : RN l G E y cc nL k av P := by
  refine Met.ofW (cc := cc) (maxL := nL) (ret := none) hy rfl ?_
  intro p e s m args below meth c s₁ B hml hv
  have X := kx_of hE B hml hv
  obtain ⟨rfl, hs, hN, hP⟩ := hv
  refine ls_of av hn (fun ls hl => body p e s m below meth c _ ls X hP hl (fun pc ls hx hd => ?_))
  exact W.vret X.1.1 X.1.2.1 X.2.1.1 (fun t ht _ => ⟨rfl, ht⟩) (fun q h => by cases h) hd X.2.1.2
theorem kRN (hr : va_Run p l e R s m args below meth c H locs cells slots 0 0 (F0 m pc ls st) rest (fun st o t => o = .returned none ∧ t.heap = st.heap) (fun _ => False)) (kk : W p l e R s m args below meth c H locs cells slots Q (F0 m (pc + 3) ls rest)) : W p l e R s m args below meth c H locs cells slots Q (F0 m pc ls st) := by
  intro T hT X
  obtain ⟨v', st₀, t, T', L, h0, X', hL, e1, e2, ⟨hv, hh⟩, go⟩ := hr T hT X
  cases hv
  obtain ⟨t2, a1, b1⟩ := kk T' (by rw [e1, hh, h0]) (Stand.forget X' (fun q h => (hL q h).elim))
  exact ⟨t2, go t2 a1, b1⟩
theorem x_NV (hM : RN l G E y bytes maxL k (.ref b :: As) P) (X : KX G E p s m args meth c cc nL own rt0) (hS : va_S (GE G.2.2) s.heap H locs) (hP : P H) (hb : ∃ cell : Cell, H[b]? = some cell ∧ cell.vm.isStatics = false ∧ s.vm.findClass C = some cell.cls) (hw : GoodIn lw_all (wsV own index C y (ws_ y bytes maxL none))) (hd : y.cls = C ∧ y.cls ≠ "java/lang/invoke/MethodHandle" ∧ y.cls ≠ "java/lang/invoke/VarHandle" ∧ (parseMethodDescriptor y.desc).map (fun d => d.parameters.length) = some n) (hR : k + 1 ≤ R.frames ∧ 8 + (maxL + 11) + 40 * k ≤ R.locals) (hn : As.length = n) (hsz : ls.size = nL) (hst : st = As.reverse ++ .ref b :: rest) (hc : (rest.map fun v => v.category).sum ≤ 8) (hf : cells ≤ R.cells ∧ slots ≤ R.slots) (hdg : decode cc pc = .ok (.invokevirtual index, 3)) (kk : W p l e R s m args below meth c H locs cells slots Q (F0 m (pc + 3) ls rest)) : W p l e R s m args below meth c H locs cells slots Q (F0 m pc ls st) :=
  kRN (gV X hM hS hP hb hw hd hR hn hsz hst hc hf hdg) kk
theorem x_NS (hM : RN l G E y bytes maxL k As P) (X : KX G E p s m args meth c cc nL own rt0) (hS : va_S (GE G.2.2) s.heap H locs) (hP : P H) (hw : GoodIn lw_all (va_wsS own index y (ws_ y bytes maxL none))) (hd : y.cls ≠ "java/lang/invoke/MethodHandle" ∧ y.cls ≠ "java/lang/invoke/VarHandle" ∧ (parseMethodDescriptor y.desc).map (fun d => d.parameters.length) = some n) (hR : k + 1 ≤ R.frames ∧ 8 + (maxL + 11) + 40 * k ≤ R.locals) (hn : As.length = n) (hsz : ls.size = nL) (hst : st = As.reverse ++ rest) (hc : (rest.map fun v => v.category).sum ≤ 8) (hf : cells ≤ R.cells ∧ slots ≤ R.slots) (hdg : decode cc pc = .ok (.invokestatic index, 3)) (kk : W p l e R s m args below meth c H locs cells slots Q (F0 m (pc + 3) ls rest)) : W p l e R s m args below meth c H locs cells slots Q (F0 m pc ls st) :=
  kRN (gS X hM hS hP hw hd hR hn hsz hst hc hf hdg) kk
theorem x_NU (hM : RN l G E y bytes maxL k (.ref b :: As) P) (X : KX G E p s m args meth c cc nL own rt0) (hS : va_S (GE G.2.2) s.heap H locs) (hP : P H) (hb : ∃ cell : Cell, H[b]? = some cell ∧ cell.vm.isStatics = false ∧ s.vm.findClass C = some cell.cls) (h1 : Cond.methodLink own index y0 ∈ lw_all) (h2 : Cond.sameMethod y0.cls y0.cls y0.name y0.desc ∈ lw_all) (h3 : va_Decl s y0) (h4 : (Cond.selects C y0 y).before args s = true) (h5 : Cond.instanceMethod y ∈ lw_all) (h6 : Cond.initialized y.cls ∈ lw_all) (h7 : Cond.code y bytes maxL none ∈ lw_all) (hd : y0.cls ≠ "java/lang/invoke/MethodHandle" ∧ y0.cls ≠ "java/lang/invoke/VarHandle" ∧ (parseMethodDescriptor y0.desc).map (fun d => d.parameters.length) = some n) (hR : k + 1 ≤ R.frames ∧ 8 + (maxL + 11) + 40 * k ≤ R.locals) (hn : As.length = n) (hsz : ls.size = nL) (hst : st = As.reverse ++ .ref b :: rest) (hc : (rest.map fun v => v.category).sum ≤ 8) (hf : cells ≤ R.cells ∧ slots ≤ R.slots) (hdg : decode cc pc = .ok (.invokevirtual index, 3)) (kk : W p l e R s m args below meth c H locs cells slots Q (F0 m (pc + 3) ls rest)) : W p l e R s m args below meth c H locs cells slots Q (F0 m pc ls st) :=
  kRN (gU X hM hS hP hb h1 h2 h3 h4 h5 h6 h7 hd hR hn hsz hst hc hf hdg) kk
theorem x_instS {r : vw_C} {a ci : Nat} {vs : List Value} {ws : va_W} (X : KX G E p s m args meth c cc nL own rt0) (hP : va_P G.1 cls ws H) (hm : (a, Sum.inr (ci, vs)) ∈ ws) (hc : cls[ci]? = some r) (hl : Cond.classLink own index r.1 ∈ lw_all) (hdg : decode cc pc = .ok (.instanceof index, 3)) (kk : W p l e R s m args below meth c H locs cells slots Q (F0 m (pc + 3) ls (.int (nI 1) :: rest))) : W p l e R s m args below meth c H locs cells slots Q (F0 m pc ls (.ref a :: rest)) :=
  va_instS X.1.1 X.1.2.1 X.1.2.2.2.1 (X.1.2.2.2.2 _ hl) (X.K.1 ci r hc).2 (x_rc X hP hm hc) hdg kk
end VOID
theorem Met.imp2 {l : Launch} {y : MethodName} {ws : List Cond} {rm : Room} {Pc Pc' : Array Value → State → Prop} {Qc Qc' : Array Value → State → Outcome → State → Prop} {mc ms : Nat} {free : Addr → Prop} (h : Met l y ws rm Pc Qc mc ms free) (hp : ∀ a s, Pc' a s → Pc a s) (hq : ∀ a st o t, Qc a st o t → Qc' a st o t) : Met l y ws rm Pc' Qc' mc ms free := by
  intro p e h1 h2 h3 s m args below h4 h5 h6 h7
  obtain ⟨n, o, x1, x2, x3, x4, x5⟩ := h p e h1 h2 h3 s m args below h4 h5 (hp _ _ h6) h7
  exact ⟨n, o, x1, x2, x3, hq _ _ _ _ x4, x5⟩
theorem MU.imp {α : Type} {val : α → Option Value} {l : Launch} {G : GG} {E : State → Prop} {y : MethodName} {cc : ByteArray} {nL k mc ms : Nat} {rt : Option FieldType} {av : List Value} {ws : va_W} {Qw Qw' : α → va_W → Prop} (h : MU val l G E y cc nL rt k mc ms av ws Qw) (hq : ∀ x w, Qw x w → Qw' x w) : MU val l G E y cc nL rt k mc ms av ws Qw' :=
  Met.imp2 h (fun _ _ hh => hh) (fun _ _ _ _ hh => by obtain ⟨⟨x, w, h1, h2, h3⟩, h4⟩ := hh; exact ⟨⟨x, w, h1, hq x w h2, h3⟩, h4⟩)
