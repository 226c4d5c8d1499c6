/-! BASE: the names of a run, contracts of two kinds (RO: the heap stays as it is; MU: a list of cells becomes another one), calls by them, rows over numbers written nI -/
abbrev cls : List vw_C := [(RX6, TX6, 18), (RX1, TX1, 7), (RX2, TX2, 5), (RX3, TX3, 6), (RX4, TX4, 6), (RX5, TX5, 5), (RX7, TX7, 4), (RX8, TX8, 7), (RX9, TX9, 2), (RX10, TX10, 2), (RJ2, TJ2, 3), (RJ4, TJ4, 3), (RJ11, TJ11, 4), (RJ12, TJ12, 4)]
/-- class ids and slots; ids of array classes; the size of the heap at the law's start -/
abbrev GG : Type := va_G × (Nat → ClassId) × Nat
abbrev tysG (G : GG) : List (ClassId × FieldType) := [(G.2.1 0, .int), (G.2.1 1, .byte), (G.2.1 2, .object "java/lang/Object"), (G.2.1 3, .object "RubberStamps$Inks"), (G.2.1 4, .long)]
def GE (n : Nat) : Nat → Prop := fun q => n ≤ q
def EnvOK (G : GG) (E : State → Prop) : Prop :=
  (∀ U, E U → va_K G.1 cls (tysG G) U) ∧
  (∀ (U : State) (g : JFrame) (mk : MethodId) (a : Array Value), E U → E (U.calling g mk a)) ∧
  (∀ s U : State, E s → s.WarmedH U.vm → (∀ q : Nat, q < G.2.2 → U.heap[q]? = s.heap[q]?) → E U)
abbrev Rm (k c s : Nat) : Room := { frames := k, cells := c, slots := s, locals := 40 * k }
def Pre (G : GG) (E : State → Prop) (av : List Value) (P : Heap → Prop) : Array Value → State → Prop := fun v U => v = av.toArray ∧ E U ∧ G.2.2 ≤ U.heap.size ∧ P U.heap
theorem Pre.blind {G : GG} {E : State → Prop} {av : List Value} {P : Heap → Prop} (hE : EnvOK G E) : FrameBlind (Pre G E av P) := fun a U g mk h => ⟨h.1, hE.2.1 U g mk a h.2.1, h.2.2.1, h.2.2.2⟩
theorem Pre.here {G : GG} {E : State → Prop} {av : List Value} {P : Heap → Prop} {s : State} {H : Heap} {locs : List Loc} (hE : EnvOK G E) (hs : E s) (hN : G.2.2 ≤ s.heap.size) (hS : va_S (GE G.2.2) s.heap H locs) (hP : P H) : ∀ U : State, U.heap = H → s.WarmedH U.vm → Pre G E av P av.toArray U :=
  fun U hU hW => ⟨rfl, hE.2.2 s U hs hW (fun q hq => by rw [hU]; exact hS.2.1 q (Nat.lt_of_lt_of_le hq hN) (fun h => absurd hq (Nat.not_lt.mpr h))), by rw [hU]; exact Nat.le_trans hN hS.1, by rw [hU]; exact hP⟩
/-- what holds all through a method's walk -/
def KX (G : GG) (E : State → Prop) (p : Program) (s : State) (m : MethodId) (args : Array Value) (meth : Method) (c : Code) (cc : ByteArray) (nL : Nat) (own : String) (rt : Option FieldType) : Prop :=
  (p.tables.exec = Jvm.exec ∧ c.code = cc ∧ c.maxLocals = nL ∧ s.vm.findClass own = some m.cls ∧ ∀ w ∈ lw_all, w.before args s = true) ∧ (meth.sig.returnType = rt ∧ meth.locks = false) ∧ EnvOK G E ∧ E s ∧ G.2.2 ≤ s.heap.size
theorem KX.K {G : GG} {E : State → Prop} {p : Program} {s : State} {m : MethodId} {args : Array Value} {meth : Method} {c : Code} {cc : ByteArray} {nL : Nat} {own : String} {rt : Option FieldType} (X : KX G E p s m args meth c cc nL own rt) : va_K G.1 cls (tysG G) s := X.2.2.1.1 s X.2.2.2.1
/-- a method that changes nothing and answers v -/
def RO (l : Launch) (G : GG) (E : State → Prop) (y : MethodName) (cc : ByteArray) (nL : Nat) (rt : FieldType) (k : Nat) (av : List Value) (P : Heap → Prop) (v : Value) : Prop :=
  Met l y (ws_ y cc nL (some rt)) (Rm k 0 0) (Pre G E av P) (fun _ st o t => o = .returned (some v) ∧ t.heap = st.heap) 0 0 (fun _ => False)
def HW (G : GG) (ws : va_W) (H : Heap) : Prop := va_P G.1 cls ws H ∧ va_D (GE G.2.2) ws
def HH (G : GG) (s : State) (ws : va_W) (H : Heap) (locs : List Loc) : Prop := HW G ws H ∧ va_S (GE G.2.2) s.heap H locs
/-- a method that makes the cells ws into others -/
def MU {α : Type} (val : α → Option Value) (l : Launch) (G : GG) (E : State → Prop) (y : MethodName) (cc : ByteArray) (nL : Nat) (rt : Option FieldType) (k mc ms : Nat) (av : List Value) (ws : va_W) (Qw : α → va_W → Prop) : Prop :=
  Met l y (ws_ y cc nL rt) (Rm k mc ms) (Pre G E av (HW G ws)) (fun _ st o t => (∃ (x : α) (w : va_W), o = .returned (val x) ∧ Qw x w ∧ HW G w t.heap) ∧ va_F (GE G.2.2) st t) mc ms (GE G.2.2)
abbrev vI : Int32 → Option Value := fun x => some (.int x)
abbrev vJ : Int64 → Option Value := fun x => some (.long x)
abbrev vD : UInt64 → Option Value := fun x => some (.double x)
abbrev vA : Nat → Option Value := fun x => some (.ref x)
abbrev vV : Unit → Option Value := fun _ => none
section START
variable {l : Launch} {G : GG} {E : State → Prop} {y : MethodName} {cc : ByteArray} {nL k mc ms : Nat} {rt : FieldType} {av : List Value} {P : Heap → Prop}
theorem kx_of {p : Program} {e : Env} {s s₁ : State} {m : MethodId} {args : Array Value} {below : List Frame} {meth : Method} {c : Code} {r : Option FieldType} {R : Room} (hE : EnvOK G E) (B : BodyLoose p l y (headSpec (ws_ y cc nL r) R) cc nL r e s m args below meth c s₁) (hml : c.maxLocals = nL) (hv : Pre G E av P args s) : KX G E p s m args meth c cc nL y.cls r :=
  ⟨⟨B.exec, B.bytes, hml, findClass_of_methodNamed B.named, fun w h => atoms_spec (ws := ws_ y cc nL r) B.pre w (List.mem_cons_of_mem _ h)⟩, ⟨B.returns, B.notSynchronized⟩, hE, hv.2.1, hv.2.2.1⟩
theorem ls_of {m : MethodId} {n : Nat} {K : JFrame → Prop} (av : List Value) (h : (lg_sl av).length ≤ n) (k : ∀ ls : Array Slot, lv_has ls n (lv_args 0 av) → K (F0 m 0 ls [])) : K (entryFrame m av.toArray n) := by
  rw [lg_entry_eq]
  exact k _ (lv_entry av h)
theorem ROi {v : Int32} (hE : EnvOK G E) (hy : plainName y.cls = true) (hn : (lg_sl av).length ≤ nL)
    (body : ∀ (p : Program) (e : Env) (s : State) (m : MethodId) (below : List Frame) (meth : Method) (c : Code) (Q : State → Prop) (ls : Array Slot), KX G E p s m av.toArray meth c cc nL y.cls (some .int) → P s.heap → lv_has ls nL (lv_args 0 av) →
      (∀ (pc : Nat) (ls : Array Slot) (x : Int32), x = v → decode cc pc = .ok (.ireturn, 1) → W p l e (Rm k 0 0) s m av.toArray below meth c s.heap [] 0 0 Q (F0 m pc ls [.int x])) → W p l e (Rm k 0 0) s m av.toArray below meth c s.heap [] 0 0 Q (F0 m 0 ls [])) : RO l G E y cc nL .int k av P (.int v) := by
  refine Met.ofW (cc := cc) (maxL := nL) (ret := some .int) hy rfl ?_
  intro p e s m args below meth c s₁ B hml hv
  have X := kx_of hE B hml hv
  obtain ⟨rfl, hs, hN, hP⟩ := hv
  refine ls_of av hn (fun ls hl => body p e s m below meth c _ ls X hP hl (fun pc ls x hx hd => ?_))
  subst hx
  exact W.iret X.1.1 X.1.2.1 X.2.1.1 (fun t ht _ => ⟨rfl, ht⟩) (fun q h => by cases h) hd X.2.1.2
theorem ROz {v : Int32} (hE : EnvOK G E) (hy : plainName y.cls = true) (hn : (lg_sl av).length ≤ nL) (hnar : narrow rt (.int v) = .int v)
    (body : ∀ (p : Program) (e : Env) (s : State) (m : MethodId) (below : List Frame) (meth : Method) (c : Code) (Q : State → Prop) (ls : Array Slot), KX G E p s m av.toArray meth c cc nL y.cls (some rt) → P s.heap → lv_has ls nL (lv_args 0 av) →
      (∀ (pc : Nat) (ls : Array Slot) (x : Int32), x = v → decode cc pc = .ok (.ireturn, 1) → W p l e (Rm k 0 0) s m av.toArray below meth c s.heap [] 0 0 Q (F0 m pc ls [.int x])) → W p l e (Rm k 0 0) s m av.toArray below meth c s.heap [] 0 0 Q (F0 m 0 ls [])) : RO l G E y cc nL rt k av P (.int v) := by
  refine Met.ofW (cc := cc) (maxL := nL) (ret := some rt) hy rfl ?_
  intro p e s m args below meth c s₁ B hml hv
  have X := kx_of hE B hml hv
  obtain ⟨rfl, hs, hN, hP⟩ := hv
  refine ls_of av hn (fun ls hl => body p e s m below meth c _ ls X hP hl (fun pc ls x hx hd => ?_))
  subst hx
  exact W.zret X.1.1 X.1.2.1 X.2.1.1 hnar (fun t ht _ => ⟨rfl, ht⟩) (fun q h => by cases h) hd X.2.1.2
theorem ROa {v : Value} (hE : EnvOK G E) (hy : plainName y.cls = true) (hn : (lg_sl av).length ≤ nL) (hrt : (∃ n, rt = .object n) ∨ ∃ t, rt = .array t) (hv0 : v = .null ∨ ∃ a, v = .ref a)
    (body : ∀ (p : Program) (e : Env) (s : State) (m : MethodId) (below : List Frame) (meth : Method) (c : Code) (Q : State → Prop) (ls : Array Slot), KX G E p s m av.toArray meth c cc nL y.cls (some rt) → P s.heap → lv_has ls nL (lv_args 0 av) →
      (∀ (pc : Nat) (ls : Array Slot) (x : Value), x = v → decode cc pc = .ok (.areturn, 1) → W p l e (Rm k 0 0) s m av.toArray below meth c s.heap [] 0 0 Q (F0 m pc ls [x])) → W p l e (Rm k 0 0) s m av.toArray below meth c s.heap [] 0 0 Q (F0 m 0 ls [])) : RO l G E y cc nL rt k av P v := by
  refine Met.ofW (cc := cc) (maxL := nL) (ret := some rt) hy rfl ?_
  intro p e s m args below meth c s₁ B hml hv
  have X := kx_of hE B hml hv
  obtain ⟨rfl, hs, hN, hP⟩ := hv
  refine ls_of av hn (fun ls hl => body p e s m below meth c _ ls X hP hl (fun pc ls x hx hd => ?_))
  subst hx
  exact W.aret X.1.1 X.1.2.1 X.2.1.1 hrt hv0 (fun t ht _ => ⟨rfl, ht⟩) (fun q h => by cases h) hd X.2.1.2
theorem ROl {v : Int64} (hE : EnvOK G E) (hy : plainName y.cls = true) (hn : (lg_sl av).length ≤ nL)
    (body : ∀ (p : Program) (e : Env) (s : State) (m : MethodId) (below : List Frame) (meth : Method) (c : Code) (Q : State → Prop) (ls : Array Slot), KX G E p s m av.toArray meth c cc nL y.cls (some .long) → P s.heap → lv_has ls nL (lv_args 0 av) →
      (∀ (pc : Nat) (ls : Array Slot) (x : Int64), x = v → decode cc pc = .ok (.lreturn, 1) → W p l e (Rm k 0 0) s m av.toArray below meth c s.heap [] 0 0 Q (F0 m pc ls [.long x])) → W p l e (Rm k 0 0) s m av.toArray below meth c s.heap [] 0 0 Q (F0 m 0 ls [])) : RO l G E y cc nL .long k av P (.long v) := by
  refine Met.ofW (cc := cc) (maxL := nL) (ret := some .long) hy rfl ?_
  intro p e s m args below meth c s₁ B hml hv
  have X := kx_of hE B hml hv
  obtain ⟨rfl, hs, hN, hP⟩ := hv
  refine ls_of av hn (fun ls hl => body p e s m below meth c _ ls X hP hl (fun pc ls x hx hd => ?_))
  subst hx
  exact W.lret X.1.1 X.1.2.1 X.2.1.1 (fun t ht _ => ⟨rfl, ht⟩) (fun q h => by cases h) hd X.2.1.2
variable {ws : va_W}
theorem MUi {Qw : Int32 → va_W → Prop} (hE : EnvOK G E) (hy : plainName y.cls = true) (hn : (lg_sl av).length ≤ nL)
    (body : ∀ (p : Program) (e : Env) (s : State) (m : MethodId) (below : List Frame) (meth : Method) (c : Code) (Q : State → Prop) (ls : Array Slot), KX G E p s m av.toArray meth c cc nL y.cls (some .int) → HH G s ws s.heap [] → lv_has ls nL (lv_args 0 av) →
      (∀ (pc : Nat) (ls : Array Slot) (H : Heap) (locs : List Loc) (cl sl : Nat) (x : Int32) (w : va_W), HH G s w H locs → Qw x w → cl ≤ mc → sl ≤ ms → decode cc pc = .ok (.ireturn, 1) → W p l e (Rm k mc ms) s m av.toArray below meth c H locs cl sl Q (F0 m pc ls [.int x])) → W p l e (Rm k mc ms) s m av.toArray below meth c s.heap [] 0 0 Q (F0 m 0 ls [])) : MU vI l G E y cc nL (some .int) k mc ms av ws Qw := by
  refine Met.ofW (cc := cc) (maxL := nL) (ret := some .int) hy rfl ?_
  intro p e s m args below meth c s₁ B hml hv
  have X := kx_of hE B hml hv
  obtain ⟨rfl, hs, hN, hP⟩ := hv
  refine ls_of av hn (fun ls hl => body p e s m below meth c _ ls X ⟨hP, va_S.rf⟩ hl (fun pc ls H locs cl sl x w hH hq h1 h2 hd => ?_))
  exact W.widen h1 h2 (W.iret X.1.1 X.1.2.1 X.2.1.1 (fun t ht _ => ⟨⟨x, w, rfl, hq, by rw [ht]; exact hH.1⟩, hH.2.F ht⟩) hH.2.2.2 hd X.2.1.2)
theorem MUz {Qw : Int32 → va_W → Prop} (hE : EnvOK G E) (hy : plainName y.cls = true) (hn : (lg_sl av).length ≤ nL)
    (body : ∀ (p : Program) (e : Env) (s : State) (m : MethodId) (below : List Frame) (meth : Method) (c : Code) (Q : State → Prop) (ls : Array Slot), KX G E p s m av.toArray meth c cc nL y.cls (some rt) → HH G s ws s.heap [] → lv_has ls nL (lv_args 0 av) →
      (∀ (pc : Nat) (ls : Array Slot) (H : Heap) (locs : List Loc) (cl sl : Nat) (x : Int32) (w : va_W), HH G s w H locs → Qw x w → narrow rt (.int x) = .int x → cl ≤ mc → sl ≤ ms → decode cc pc = .ok (.ireturn, 1) → W p l e (Rm k mc ms) s m av.toArray below meth c H locs cl sl Q (F0 m pc ls [.int x])) → W p l e (Rm k mc ms) s m av.toArray below meth c s.heap [] 0 0 Q (F0 m 0 ls [])) : MU vI l G E y cc nL (some rt) k mc ms av ws Qw := by
  refine Met.ofW (cc := cc) (maxL := nL) (ret := some rt) hy rfl ?_
  intro p e s m args below meth c s₁ B hml hv
  have X := kx_of hE B hml hv
  obtain ⟨rfl, hs, hN, hP⟩ := hv
  refine ls_of av hn (fun ls hl => body p e s m below meth c _ ls X ⟨hP, va_S.rf⟩ hl (fun pc ls H locs cl sl x w hH hq hnar h1 h2 hd => ?_))
  exact W.widen h1 h2 (W.zret X.1.1 X.1.2.1 X.2.1.1 hnar (fun t ht _ => ⟨⟨x, w, rfl, hq, by rw [ht]; exact hH.1⟩, hH.2.F ht⟩) hH.2.2.2 hd X.2.1.2)
theorem MUv {Qw : Unit → va_W → Prop} (hE : EnvOK G E) (hy : plainName y.cls = true) (hn : (lg_sl av).length ≤ nL)
    (body : ∀ (p : Program) (e : Env) (s : State) (m : MethodId) (below : List Frame) (meth : Method) (c : Code) (Q : State → Prop) (ls : Array Slot), KX G E p s m av.toArray meth c cc nL y.cls none → HH G s ws s.heap [] → lv_has ls nL (lv_args 0 av) →
      (∀ (pc : Nat) (ls : Array Slot) (H : Heap) (locs : List Loc) (cl sl : Nat) (w : va_W), HH G s w H locs → Qw () w → cl ≤ mc → sl ≤ ms → decode cc pc = .ok (.return_, 1) → W p l e (Rm k mc ms) s m av.toArray below meth c H locs cl sl Q (F0 m pc ls [])) → W p l e (Rm k mc ms) s m av.toArray below meth c s.heap [] 0 0 Q (F0 m 0 ls [])) : MU vV l G E y cc nL none k mc ms av ws Qw := by
  refine Met.ofW (cc := cc) (maxL := nL) (ret := none) hy rfl ?_
  intro p e s m args below meth c s₁ B hml hv
  have X := kx_of hE B hml hv
  obtain ⟨rfl, hs, hN, hP⟩ := hv
  refine ls_of av hn (fun ls hl => body p e s m below meth c _ ls X ⟨hP, va_S.rf⟩ hl (fun pc ls H locs cl sl w hH hq h1 h2 hd => ?_))
  exact W.widen h1 h2 (W.vret X.1.1 X.1.2.1 X.2.1.1 (fun t ht _ => ⟨⟨(), w, rfl, hq, by rw [ht]; exact hH.1⟩, hH.2.F ht⟩) hH.2.2.2 hd X.2.1.2)
theorem MUl {Qw : Int64 → va_W → Prop} (hE : EnvOK G E) (hy : plainName y.cls = true) (hn : (lg_sl av).length ≤ nL)
    (body : ∀ (p : Program) (e : Env) (s : State) (m : MethodId) (below : List Frame) (meth : Method) (c : Code) (Q : State → Prop) (ls : Array Slot), KX G E p s m av.toArray meth c cc nL y.cls (some .long) → HH G s ws s.heap [] → lv_has ls nL (lv_args 0 av) →
      (∀ (pc : Nat) (ls : Array Slot) (H : Heap) (locs : List Loc) (cl sl : Nat) (x : Int64) (w : va_W), HH G s w H locs → Qw x w → cl ≤ mc → sl ≤ ms → decode cc pc = .ok (.lreturn, 1) → W p l e (Rm k mc ms) s m av.toArray below meth c H locs cl sl Q (F0 m pc ls [.long x])) → W p l e (Rm k mc ms) s m av.toArray below meth c s.heap [] 0 0 Q (F0 m 0 ls [])) : MU vJ l G E y cc nL (some .long) k mc ms av ws Qw := by
  refine Met.ofW (cc := cc) (maxL := nL) (ret := some .long) hy rfl ?_
  intro p e s m args below meth c s₁ B hml hv
  have X := kx_of hE B hml hv
  obtain ⟨rfl, hs, hN, hP⟩ := hv
  refine ls_of av hn (fun ls hl => body p e s m below meth c _ ls X ⟨hP, va_S.rf⟩ hl (fun pc ls H locs cl sl x w hH hq h1 h2 hd => ?_))
  exact W.widen h1 h2 (W.lret X.1.1 X.1.2.1 X.2.1.1 (fun t ht _ => ⟨⟨x, w, rfl, hq, by rw [ht]; exact hH.1⟩, hH.2.F ht⟩) hH.2.2.2 hd X.2.1.2)
theorem MUd {Qw : UInt64 → va_W → Prop} (hE : EnvOK G E) (hy : plainName y.cls = true) (hn : (lg_sl av).length ≤ nL)
    (body : ∀ (p : Program) (e : Env) (s : State) (m : MethodId) (below : List Frame) (meth : Method) (c : Code) (Q : State → Prop) (ls : Array Slot), KX G E p s m av.toArray meth c cc nL y.cls (some .double) → HH G s ws s.heap [] → lv_has ls nL (lv_args 0 av) →
      (∀ (pc : Nat) (ls : Array Slot) (H : Heap) (locs : List Loc) (cl sl : Nat) (x : UInt64) (w : va_W), HH G s w H locs → Qw x w → cl ≤ mc → sl ≤ ms → decode cc pc = .ok (.dreturn, 1) → W p l e (Rm k mc ms) s m av.toArray below meth c H locs cl sl Q (F0 m pc ls [.double x])) → W p l e (Rm k mc ms) s m av.toArray below meth c s.heap [] 0 0 Q (F0 m 0 ls [])) : MU vD l G E y cc nL (some .double) k mc ms av ws Qw := by
  refine Met.ofW (cc := cc) (maxL := nL) (ret := some .double) hy rfl ?_
  intro p e s m args below meth c s₁ B hml hv
  have X := kx_of hE B hml hv
  obtain ⟨rfl, hs, hN, hP⟩ := hv
  refine ls_of av hn (fun ls hl => body p e s m below meth c _ ls X ⟨hP, va_S.rf⟩ hl (fun pc ls H locs cl sl x w hH hq h1 h2 hd => ?_))
  exact W.widen h1 h2 (W.dret X.1.1 X.1.2.1 X.2.1.1 (fun t ht _ => ⟨⟨x, w, rfl, hq, by rw [ht]; exact hH.1⟩, hH.2.F ht⟩) hH.2.2.2 hd X.2.1.2)
theorem MUa {Qw : Nat → va_W → Prop} (hE : EnvOK G E) (hy : plainName y.cls = true) (hn : (lg_sl av).length ≤ nL) (hrt : (∃ n, rt = .object n) ∨ ∃ t, rt = .array t)
    (body : ∀ (p : Program) (e : Env) (s : State) (m : MethodId) (below : List Frame) (meth : Method) (c : Code) (Q : State → Prop) (ls : Array Slot), KX G E p s m av.toArray meth c cc nL y.cls (some rt) → HH G s ws s.heap [] → lv_has ls nL (lv_args 0 av) →
      (∀ (pc : Nat) (ls : Array Slot) (H : Heap) (locs : List Loc) (cl sl : Nat) (x : Nat) (w : va_W), HH G s w H locs → Qw x w → cl ≤ mc → sl ≤ ms → decode cc pc = .ok (.areturn, 1) → W p l e (Rm k mc ms) s m av.toArray below meth c H locs cl sl Q (F0 m pc ls [.ref x])) → W p l e (Rm k mc ms) s m av.toArray below meth c s.heap [] 0 0 Q (F0 m 0 ls [])) : MU vA l G E y cc nL (some rt) k mc ms av ws Qw := by
  refine Met.ofW (cc := cc) (maxL := nL) (ret := some rt) hy rfl ?_
  intro p e s m args below meth c s₁ B hml hv
  have X := kx_of hE B hml hv
  obtain ⟨rfl, hs, hN, hP⟩ := hv
  refine ls_of av hn (fun ls hl => body p e s m below meth c _ ls X ⟨hP, va_S.rf⟩ hl (fun pc ls H locs cl sl x w hH hq h1 h2 hd => ?_))
  exact W.widen h1 h2 (W.aret X.1.1 X.1.2.1 X.2.1.1 hrt (Or.inr ⟨x, rfl⟩) (fun t ht _ => ⟨⟨x, w, rfl, hq, by rw [ht]; exact hH.1⟩, hH.2.F ht⟩) hH.2.2.2 hd X.2.1.2)
end START
section CALLS
variable {p : Program} {l : Launch} {e : Env} {R : Room} {s : State} {m : MethodId} {args : Array Value} {below : List Frame} {meth : Method} {c : Code} {H : Heap} {locs : List Loc} {cells slots : Nat} {Q : State → Prop}
  {G : GG} {E : State → Prop} {cc bytes : ByteArray} {nL maxL index n k mc ms pc : Nat} {own C : String} {y : MethodName} {ret rt0 : Option FieldType} {P : Heap → Prop} {Qc : Array Value → State → Outcome → State → Prop} {free : Addr → Prop}
  {b : Addr} {As rest st : List Value} {ls : Array Slot}
theorem gV (X : KX G E p s m args meth c cc nL own rt0) (hM : Met l y (ws_ y bytes maxL ret) (Rm k mc ms) (Pre G E (.ref b :: As) P) Qc mc ms free) (hS : va_S (GE G.2.2) s.heap H locs) (hP : P H)
    (hb : ∃ cell : Cell, H[b]? = some cell ∧ cell.vm.isStatics = false ∧ s.vm.findClass C = some cell.cls) (hw : GoodIn lw_all (wsV own index C y (ws_ y bytes maxL ret)))
    (hd : y.cls = C ∧ y.cls ≠ "java/lang/invoke/MethodHandle" ∧ y.cls ≠ "java/lang/invoke/VarHandle" ∧ (parseMethodDescriptor y.desc).map (fun d => d.parameters.length) = some n) (hR : k + 1 ≤ R.frames ∧ 8 + (maxL + 11) + 40 * k ≤ R.locals) (hn : As.length = n) (hsz : ls.size = nL) (hst : st = As.reverse ++ .ref b :: rest) (hc : (rest.map fun v => v.category).sum ≤ 8)
    (hf : cells + mc ≤ R.cells ∧ slots + ms ≤ R.slots) (hdg : decode cc pc = .ok (.invokevirtual index, 3)) : va_Run p l e R s m args below meth c H locs cells slots mc ms (F0 m pc ls st) rest (Qc (Value.ref b :: As).toArray) free :=
  va_runV (As := As) (rest := rest) X.1 hM (cwV n X.1.2.2.2.2 hw rfl rfl rfl hd hR) ⟨Pre.blind X.2.2.1, hb, Pre.here X.2.2.1 X.2.2.2.1 X.2.2.2.2 hS hP⟩ rfl hn hsz hst (lv_room hc) hdg hf
theorem gS (X : KX G E p s m args meth c cc nL own rt0) (hM : Met l y (ws_ y bytes maxL ret) (Rm k mc ms) (Pre G E As P) Qc mc ms free) (hS : va_S (GE G.2.2) s.heap H locs) (hP : P H)
    (hw : GoodIn lw_all (va_wsS own index y (ws_ y bytes maxL ret)))
    (hd : y.cls ≠ "java/lang/invoke/MethodHandle" ∧ y.cls ≠ "java/lang/invoke/VarHandle" ∧ (parseMethodDescriptor y.desc).map (fun d => d.parameters.length) = some n) (hR : k + 1 ≤ R.frames ∧ 8 + (maxL + 11) + 40 * k ≤ R.locals) (hn : As.length = n) (hsz : ls.size = nL) (hst : st = As.reverse ++ rest) (hc : (rest.map fun v => v.category).sum ≤ 8)
    (hf : cells + mc ≤ R.cells ∧ slots + ms ≤ R.slots) (hdg : decode cc pc = .ok (.invokestatic index, 3)) : va_Run p l e R s m args below meth c H locs cells slots mc ms (F0 m pc ls st) rest (Qc As.toArray) free :=
  va_runS (As := As) (rest := rest) X.1 hM (va_cwS n X.1.2.2.2.2 hw rfl rfl rfl hd hR) ⟨Pre.blind X.2.2.1, Pre.here X.2.2.1 X.2.2.2.1 X.2.2.2.2 hS hP⟩ rfl hn hsz hst (lv_room hc) hdg hf
theorem gI (X : KX G E p s m args meth c cc nL own rt0) (hM : Met l y (ws_ y bytes maxL none) (Rm k mc ms) (Pre G E (.ref b :: As) P) Qc mc ms free) (hS : va_S (GE G.2.2) s.heap H locs) (hP : P H)
    (hcd : Cond.code y bytes maxL none ∈ lw_all) (hini : Cond.initialized y.cls ∈ lw_all) (hl : Cond.methodLink own index y ∈ lw_all) (hin : Cond.instanceMethod y ∈ lw_all) (hy1 : y.name = "<init>")
    (hd : y.cls ≠ "java/lang/invoke/MethodHandle" ∧ y.cls ≠ "java/lang/invoke/VarHandle" ∧ (parseMethodDescriptor y.desc).map (fun d => d.parameters.length) = some n) (hR : k + 1 ≤ R.frames ∧ 8 + (maxL + 11) + 40 * k ≤ R.locals) (hn : As.length = n) (hsz : ls.size = nL) (hst : st = As.reverse ++ .ref b :: rest) (hc : (rest.map fun v => v.category).sum ≤ 8)
    (hf : cells + mc ≤ R.cells ∧ slots + ms ≤ R.slots) (hdg : decode cc pc = .ok (.invokespecial index, 3)) : va_Run p l e R s m args below meth c H locs cells slots mc ms (F0 m pc ls st) rest (Qc (Value.ref b :: As).toArray) free :=
  va_runI (As := As) (rest := rest) X.1 hM (cwI n X.1.2.2.2.2 (lw_meth hcd) rfl rfl rfl (X.1.2.2.2.2 _ hini) (X.1.2.2.2.2 _ hl) (X.1.2.2.2.2 _ hin) hy1 hd hR) ⟨Pre.blind X.2.2.1, Pre.here X.2.2.1 X.2.2.2.1 X.2.2.2.2 hS hP⟩ rfl hn hsz hst (lv_room hc) hdg hf
/-- behind a call that changes nothing -/
theorem kRO {v : Value} (hr : va_Run p l e R s m args below meth c H locs cells slots 0 0 (F0 m pc ls st) rest (fun st o t => o = .returned (some v) ∧ t.heap = st.heap) (fun _ => False)) (kk : W p l e R s m args below meth c H locs cells slots Q (F0 m (pc + 3) ls (v :: rest))) : W p l e R s m args below meth c H locs cells slots Q (F0 m pc ls st) := by
  intro T hT X
  obtain ⟨v', st₀, t, T', L, h0, X', hL, e1, e2, ⟨hv, hh⟩, go⟩ := hr T hT X
  cases hv
  obtain ⟨t2, a1, b1⟩ := kk T' (by rw [e1, hh, h0]) (Stand.forget X' (fun q h => (hL q h).elim))
  exact ⟨t2, go t2 a1, b1⟩
/-- behind a call that makes cells into others -/
theorem kMU {α : Type} {val : α → Option Value} {Qw : α → va_W → Prop} (hr : va_Run p l e R s m args below meth c H locs cells slots mc ms (F0 m pc ls st) rest (fun st o t => (∃ (x : α) (w : va_W), o = .returned (val x) ∧ Qw x w ∧ HW G w t.heap) ∧ va_F (GE G.2.2) st t) (GE G.2.2)) (hS : va_S (GE G.2.2) s.heap H locs)
    (kk : ∀ (x : α) (w : va_W) (H1 : Heap) (locs1 : List Loc), Qw x w → HH G s w H1 locs1 → W p l e R s m args below meth c H1 locs1 (cells + mc) (slots + ms) Q (F0 m (pc + 3) ls ((val x).toList ++ rest))) : W p l e R s m args below meth c H locs cells slots Q (F0 m pc ls st) := by
  intro T hT X
  obtain ⟨v', st₀, t, T', L, h0, X', hL, e1, e2, ⟨⟨x, w, hv, hq, hw⟩, hF⟩, go⟩ := hr T hT X
  have hk := vx_keep (H := H) (A0 := GE G.2.2) (H0 := s.heap) (locs := locs) h0 e1 hS (fun q _ h => h) (fun q h => h) hL hF
  cases hv
  obtain ⟨t2, a1, b1⟩ := kk x w t.heap (locs ++ L) hq ⟨hw, by rw [← e1]; exact hk.2.2⟩ T' e1 X'
  exact ⟨t2, go t2 a1, b1⟩
end CALLS
