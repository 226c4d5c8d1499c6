/-! ROWS for worlds of any cells: reading by membership, writing by place, new cells in front, cells rearranged; what a run gives beside the classes (EJ) -/
def nwK (w : Cond) : Bool := match w with
  | .fieldLinkNest .. => true
  | .methodLinkNest .. => true
  | .castable .. => true
  | .privateMethod .. => true
  | .declares .. => true
  | _ => false
theorem va_D.iff {A : Nat → Prop} {ws : va_W} : va_D A ws ↔ (ws.map Prod.fst).Nodup ∧ ∀ q ∈ ws, A q.1 := by
  constructor
  · intro h
    refine ⟨List.pairwise_iff_getElem.mpr (fun i j hi hj hij e => ?_), fun q hq => ?_⟩
    · rw [List.length_map] at hi hj
      rw [List.getElem_map, List.getElem_map] at e
      have := h.1 i j ws[i] ws[j] (List.getElem?_eq_getElem hi) (List.getElem?_eq_getElem hj) e
      omega
    · obtain ⟨k, hk⟩ := List.getElem?_of_mem hq
      exact h.2 k q hk
  · intro h
    refine ⟨fun i j p q hp hq e => ?_, fun k q hk => h.2 q (List.mem_of_getElem? hk)⟩
    have hpw := List.pairwise_iff_getElem.mp h.1
    obtain ⟨hi, ei⟩ := List.getElem?_eq_some_iff.mp hp
    obtain ⟨hj, ej⟩ := List.getElem?_eq_some_iff.mp hq
    rcases Nat.lt_trichotomy i j with c | c | c
    · exact absurd (by rw [List.getElem_map, List.getElem_map, ei, ej]; exact e) (hpw i j (by rw [List.length_map]; exact hi) (by rw [List.length_map]; exact hj) c)
    · exact c
    · exact absurd (by rw [List.getElem_map, List.getElem_map, ei, ej]; exact e.symm) (hpw j i (by rw [List.length_map]; exact hj) (by rw [List.length_map]; exact hi) c)
theorem va_P.mem {D : va_G} {cl : List vw_C} {ws : va_W} {H : Heap} : va_P D cl ws H ↔ ∀ q ∈ ws, va_at D cl q H :=
  ⟨fun h q hq => by obtain ⟨k, hk⟩ := List.getElem?_of_mem hq; exact h k q hk, fun h k q hk => h q (List.mem_of_getElem? hk)⟩
theorem va_P.perm {D : va_G} {cl : List vw_C} {ws ws' : va_W} {H : Heap} (h : va_P D cl ws H) (hp : ws.Perm ws') : va_P D cl ws' H := va_P.mem.mpr (fun q hq => va_P.mem.mp h q (hp.mem_iff.mpr hq))
theorem va_P.of_sub {D : va_G} {cl : List vw_C} {ws ws' : va_W} {H : Heap} (h : va_P D cl ws H) (hp : ∀ q ∈ ws', q ∈ ws) : va_P D cl ws' H := va_P.mem.mpr (fun q hq => va_P.mem.mp h q (hp q hq))
theorem HH.perm {G : GG} {s : State} {ws ws' : va_W} {H : Heap} {locs : List Loc} (h : HH G s ws H locs) (hp : ws.Perm ws') : HH G s ws' H locs := by
  obtain ⟨⟨h1, h2⟩, h3⟩ := h
  obtain ⟨a1, a2⟩ := va_D.iff.mp h2
  exact ⟨⟨h1.perm hp, va_D.iff.mpr ⟨(hp.map Prod.fst).nodup_iff.mp a1, fun q hq => a2 q (hp.mem_iff.mpr hq)⟩⟩, h3⟩
theorem pick_all : ∀ X : va_W, (List.range X.length).filterMap (fun i => X[i]?) = X := by
  intro X
  induction X with
  | nil => rfl
  | cons a l ih =>
    rw [List.length_cons, List.range_succ_eq_map, List.filterMap_cons]
    simp only [List.getElem?_cons_zero, List.filterMap_map]
    congr 1
theorem HH.pick {G : GG} {s : State} {X Y wr : va_W} {H : Heap} {locs : List Loc} (h : HH G s (X ++ wr) H locs) (is : List Nat) (hp : is.Perm (List.range X.length)) (hY : is.filterMap (fun i => X[i]?) = Y) : HH G s (Y ++ wr) H locs := by
  refine h.perm (List.Perm.append_right wr ?_)
  rw [← hY]
  have := List.Perm.filterMap (fun i => X[i]?) hp
  rw [pick_all] at this
  exact this.symm
theorem HH.cls {G : GG} {s : State} {ws : va_W} {H : Heap} {locs : List Loc} (h : HH G s ws H locs) : va_P G.1 cls ws H := h.1.1
section XROWS
variable {p : Program} {l : Launch} {e : Env} {R : Room} {s : State} {m : MethodId} {args : Array Value} {below : List Frame} {meth : Method} {c : Code} {H : Heap} {locs : List Loc} {cells slots : Nat} {Q : State → Prop}
  {G : GG} {E : State → Prop} {cc bytes : ByteArray} {nL maxL index n k pc i : Nat} {y : MethodName} {own ref : String} {ret rt0 : Option FieldType} {rt : FieldType} {ws wr : va_W}
  {As rest st : List Value} {ls : Array Slot} {x : Int32} {a b q0 ci N : Nat} {CC : String} {T : u_T} {fs : List Value} {v : Value} {f : Nat → Int32} {fr : Nat → Option Nat} {fl : Nat → Int64}
theorem x_get (X : KX G E p s m args meth c cc nL own rt0) (hP : va_P G.1 cls ws H) (hin : ∀ w ∈ u_ws CC T N, w ∈ lw_all) (hm : (a, Sum.inr (ci, fs)) ∈ ws) (hc : cls[ci]? = some (CC, T, N)) (k : Nat) (hk : k < N) (hlink : (Cond.fieldLink own index ref (T k).2.1 (T k).2.2.1) ∈ lw_all) (hsame : ∀ x, s.fieldFound? (T k).1 (T k).2.1 (T k).2.2.1 = some x → s.fieldFound? ref (T k).2.1 (T k).2.2.1 = some x) (hv : fs[k]? = some v) (hdg : decode cc pc = .ok (.getfield index, 3))
    (kk : W p l e R s m args below meth c H locs cells slots Q (F0 m (pc + 3) ls (v :: rest))) : W p l e R s m args below meth c H locs cells slots Q (F0 m pc ls (.ref a :: rest)) := by
  obtain ⟨q0, hq⟩ := List.getElem?_of_mem hm
  exact va_get X.1.1 X.1.2.1 X.1.2.2.2.2 hin X.1.2.2.2.1 X.K hP q0 hq hc k hk (X.1.2.2.2.2 _ hlink) hsame hv hdg kk
theorem x_getN {host : String} (X : KX G E p s m args meth c cc nL own rt0) (hP : va_P G.1 cls ws H) (hin : ∀ w ∈ u_ws CC T N, w ∈ lw_all) (hm : (a, Sum.inr (ci, fs)) ∈ ws) (hc : cls[ci]? = some (CC, T, N)) (k : Nat) (hk : k < N) (hlink : va_Nw (Cond.fieldLinkNest own index ref (T k).2.1 (T k).2.2.1 host) s) (hsame : ∀ x, s.fieldFound? (T k).1 (T k).2.1 (T k).2.2.1 = some x → s.fieldFound? ref (T k).2.1 (T k).2.2.1 = some x) (hv : fs[k]? = some v) (hdg : decode cc pc = .ok (.getfield index, 3))
    (kk : W p l e R s m args below meth c H locs cells slots Q (F0 m (pc + 3) ls (v :: rest))) : W p l e R s m args below meth c H locs cells slots Q (F0 m pc ls (.ref a :: rest)) := by
  obtain ⟨q0, hq⟩ := List.getElem?_of_mem hm
  exact va_getN X.1.1 X.1.2.1 X.1.2.2.2.2 hin X.1.2.2.2.1 X.K hP q0 hq hc k hk (hlink.use rfl) hsame hv hdg kk
theorem x_put (X : KX G E p s m args meth c cc nL own rt0) (hH : HH G s ws H locs) (hin : ∀ w ∈ u_ws CC T N, w ∈ lw_all) (ty0 : Nat → FieldType) (hty : ∀ k, k < N → parseFieldDescriptor (T k).2.2.1 = some (ty0 k)) (hnm : ∀ a, a < N → ∀ b, b < N → a ≠ b → (T a).2.1 ≠ (T b).2.1) (q0 : Nat) (he : ws[q0]? = some (a, Sum.inr (ci, fs))) (hc : cls[ci]? = some (CC, T, N)) (k : Nat) (hk : k < N) (hlink : (Cond.fieldLink own index ref (T k).2.1 (T k).2.2.1) ∈ lw_all) (hsame : ∀ x, s.fieldFound? (T k).1 (T k).2.1 (T k).2.2.1 = some x → s.fieldFound? ref (T k).2.1 (T k).2.2.1 = some x) (hfin : (T k).2.2.2 = false) {ty : FieldType} (hd : parseFieldDescriptor (T k).2.2.1 = some ty) (hn : narrow ty v = v) (hfit : fits ty v = true) (hl : k < fs.length)
    (hdg : decode cc pc = .ok (.putfield index, 3)) (kk : ∀ (H1 : Heap) (locs1 : List Loc), HH G s (ws.set q0 (a, Sum.inr (ci, fs.set k v))) H1 locs1 → W p l e R s m args below meth c H1 locs1 cells slots Q (F0 m (pc + 3) ls rest)) : W p l e R s m args below meth c H locs cells slots Q (F0 m pc ls (v :: .ref a :: rest)) :=
  va_put X.1.1 X.1.2.1 X.1.2.2.2.2 hin ty0 hty hnm X.1.2.2.2.1 X.K hH.1.1 hH.1.2 hH.2 q0 he hc k hk (X.1.2.2.2.2 _ hlink) hsame hfin hd hn hfit hl hdg (fun H1 locs1 h1 h2 h3 => kk H1 locs1 ⟨⟨h1, h2⟩, h3⟩)
theorem x_putN {host : String} (X : KX G E p s m args meth c cc nL own rt0) (hH : HH G s ws H locs) (hin : ∀ w ∈ u_ws CC T N, w ∈ lw_all) (ty0 : Nat → FieldType) (hty : ∀ k, k < N → parseFieldDescriptor (T k).2.2.1 = some (ty0 k)) (hnm : ∀ a, a < N → ∀ b, b < N → a ≠ b → (T a).2.1 ≠ (T b).2.1) (q0 : Nat) (he : ws[q0]? = some (a, Sum.inr (ci, fs))) (hc : cls[ci]? = some (CC, T, N)) (k : Nat) (hk : k < N) (hlink : va_Nw (Cond.fieldLinkNest own index ref (T k).2.1 (T k).2.2.1 host) s) (hsame : ∀ x, s.fieldFound? (T k).1 (T k).2.1 (T k).2.2.1 = some x → s.fieldFound? ref (T k).2.1 (T k).2.2.1 = some x) (hfin : (T k).2.2.2 = false) {ty : FieldType} (hd : parseFieldDescriptor (T k).2.2.1 = some ty) (hn : narrow ty v = v) (hfit : fits ty v = true) (hl : k < fs.length)
    (hdg : decode cc pc = .ok (.putfield index, 3)) (kk : ∀ (H1 : Heap) (locs1 : List Loc), HH G s (ws.set q0 (a, Sum.inr (ci, fs.set k v))) H1 locs1 → W p l e R s m args below meth c H1 locs1 cells slots Q (F0 m (pc + 3) ls rest)) : W p l e R s m args below meth c H locs cells slots Q (F0 m pc ls (v :: .ref a :: rest)) :=
  va_putN X.1.1 X.1.2.1 X.1.2.2.2.2 hin ty0 hty hnm X.1.2.2.2.1 X.K hH.1.1 hH.1.2 hH.2 q0 he hc k hk (hlink.use rfl) hsame hfin hd hn hfit hl hdg (fun H1 locs1 h1 h2 h3 => kk H1 locs1 ⟨⟨h1, h2⟩, h3⟩)
theorem x_putF (X : KX G E p s m args meth c cc nL own rt0) (hH : HH G s ws H locs) (hin : ∀ w ∈ u_ws CC T N, w ∈ lw_all) (ty0 : Nat → FieldType) (hty : ∀ k, k < N → parseFieldDescriptor (T k).2.2.1 = some (ty0 k)) (hnm : ∀ a, a < N → ∀ b, b < N → a ≠ b → (T a).2.1 ≠ (T b).2.1) (q0 : Nat) (he : ws[q0]? = some (a, Sum.inr (ci, fs))) (hc : cls[ci]? = some (CC, T, N)) (k : Nat) (hk : k < N) (hlink : (Cond.fieldLink own index ref (T k).2.1 (T k).2.2.1) ∈ lw_all) (hsame : ∀ x, s.fieldFound? (T k).1 (T k).2.1 (T k).2.2.1 = some x → s.fieldFound? ref (T k).2.1 (T k).2.2.1 = some x) (hfin : (T k).2.2.2 = true) (hin2 : meth.name = "<init>") (hdecl : (T k).1 = own) {ty : FieldType} (hd : parseFieldDescriptor (T k).2.2.1 = some ty) (hn : narrow ty v = v) (hfit : fits ty v = true) (hl : k < fs.length)
    (hdg : decode cc pc = .ok (.putfield index, 3)) (kk : ∀ (H1 : Heap) (locs1 : List Loc), HH G s (ws.set q0 (a, Sum.inr (ci, fs.set k v))) H1 locs1 → W p l e R s m args below meth c H1 locs1 cells slots Q (F0 m (pc + 3) ls rest)) : W p l e R s m args below meth c H locs cells slots Q (F0 m pc ls (v :: .ref a :: rest)) :=
  va_putF X.1.1 X.1.2.1 X.1.2.2.2.2 hin ty0 hty hnm X.1.2.2.2.1 X.K hH.1.1 hH.1.2 hH.2 q0 he hc k hk (X.1.2.2.2.2 _ hlink) hsame hfin hin2 hdecl hd hn hfit hl hdg (fun H1 locs1 h1 h2 h3 => kk H1 locs1 ⟨⟨h1, h2⟩, h3⟩)
theorem x_iald (X : KX G E p s m args meth c cc nL own rt0) (hP : va_P G.1 cls ws H) (hm : (a, Sum.inl (G.2.1 0, n, Sum.inl f)) ∈ ws) (hi : i < n) (hn : n < 2 ^ 31) (hdg : decode cc pc = .ok (.iaload, 1)) (kk : W p l e R s m args below meth c H locs cells slots Q (F0 m (pc + 1) ls (.int (f i) :: rest))) : W p l e R s m args below meth c H locs cells slots Q (F0 m pc ls (.int (nI i) :: .ref a :: rest)) := by
  obtain ⟨q0, hq⟩ := List.getElem?_of_mem hm
  refine va_iald X.1.1 X.1.2.1 X.K hP q0 0 hq rfl (vp_in_nI hi hn) hdg ?_
  rw [nI_clamp (n := i) (by omega)]
  exact kk
theorem x_bald (X : KX G E p s m args meth c cc nL own rt0) (hP : va_P G.1 cls ws H) (hm : (a, Sum.inl (G.2.1 1, n, Sum.inl f)) ∈ ws) (hi : i < n) (hn : n < 2 ^ 31) (hdg : decode cc pc = .ok (.baload, 1)) (kk : W p l e R s m args below meth c H locs cells slots Q (F0 m (pc + 1) ls (.int (f i) :: rest))) : W p l e R s m args below meth c H locs cells slots Q (F0 m pc ls (.int (nI i) :: .ref a :: rest)) := by
  obtain ⟨q0, hq⟩ := List.getElem?_of_mem hm
  refine va_bald X.1.1 X.1.2.1 X.K hP q0 1 hq rfl (vp_in_nI hi hn) hdg ?_
  rw [nI_clamp (n := i) (by omega)]
  exact kk
theorem x_lald (X : KX G E p s m args meth c cc nL own rt0) (hP : va_P G.1 cls ws H) (hm : (a, Sum.inl (G.2.1 4, n, Sum.inr (Sum.inl fl))) ∈ ws) (hi : i < n) (hn : n < 2 ^ 31) (hdg : decode cc pc = .ok (.laload, 1)) (kk : W p l e R s m args below meth c H locs cells slots Q (F0 m (pc + 1) ls (.long (fl i) :: rest))) : W p l e R s m args below meth c H locs cells slots Q (F0 m pc ls (.int (nI i) :: .ref a :: rest)) := by
  obtain ⟨q0, hq⟩ := List.getElem?_of_mem hm
  refine va_lald X.1.1 X.1.2.1 X.K hP q0 4 hq rfl (vp_in_nI hi hn) hdg ?_
  rw [nI_clamp (n := i) (by omega)]
  exact kk
theorem x_aald {t0 : Nat} {cA : ClassId} {C : String} (X : KX G E p s m args meth c cc nL own rt0) (hP : va_P G.1 cls ws H) (hm : (a, Sum.inl (cA, n, Sum.inr (Sum.inr (Sum.inr (Sum.inr fr))))) ∈ ws) (ht : (tysG G)[t0]? = some (cA, .object C)) (hi : i < n) (hn : n < 2 ^ 31) (hdg : decode cc pc = .ok (.aaload, 1)) (kk : W p l e R s m args below meth c H locs cells slots Q (F0 m (pc + 1) ls (va_rf (fr i) :: rest))) : W p l e R s m args below meth c H locs cells slots Q (F0 m pc ls (.int (nI i) :: .ref a :: rest)) := by
  obtain ⟨q0, hq⟩ := List.getElem?_of_mem hm
  refine va_aldq X.1.1 X.1.2.1 X.K hP q0 t0 hq ht (vp_in_nI hi hn) hdg ?_
  rw [nI_clamp (n := i) (by omega)]
  exact kk
theorem x_rf {o : Option Nat} {y : Nat} (h : o = some y) (kk : W p l e R s m args below meth c H locs cells slots Q (F0 m pc ls (.ref y :: rest))) : W p l e R s m args below meth c H locs cells slots Q (F0 m pc ls (va_rf o :: rest)) := by subst h; exact kk
theorem x_rfN {o : Option Nat} (h : o = none) (kk : W p l e R s m args below meth c H locs cells slots Q (F0 m pc ls (.null :: rest))) : W p l e R s m args below meth c H locs cells slots Q (F0 m pc ls (va_rf o :: rest)) := by subst h; exact kk
theorem x_alen {t0 : Nat} {cA : ClassId} {ty : FieldType} {z : (Nat → Int32) ⊕ (Nat → Int64) ⊕ (Nat → UInt32) ⊕ (Nat → UInt64) ⊕ (Nat → Option Nat)} (X : KX G E p s m args meth c cc nL own rt0) (hP : va_P G.1 cls ws H) (hm : (a, Sum.inl (cA, n, z)) ∈ ws) (ht : (tysG G)[t0]? = some (cA, ty)) (hdg : decode cc pc = .ok (.arraylength, 1)) (kk : W p l e R s m args below meth c H locs cells slots Q (F0 m (pc + 1) ls (.int (nI n) :: rest))) : W p l e R s m args below meth c H locs cells slots Q (F0 m pc ls (.ref a :: rest)) := by
  obtain ⟨q0, hq⟩ := List.getElem?_of_mem hm
  exact va_alen X.1.1 X.1.2.1 X.K hP q0 t0 hq ht rfl hdg kk
theorem x_iast (X : KX G E p s m args meth c cc nL own rt0) (hH : HH G s ws H locs) (q0 : Nat) (he : ws[q0]? = some (a, Sum.inl (G.2.1 0, n, Sum.inl f))) (hi : i < n) (hn : n < 2 ^ 31) (hdg : decode cc pc = .ok (.iastore, 1))
    (kk : ∀ (g : Nat → Int32) (H1 : Heap) (locs1 : List Loc), g = upd f i x → HH G s (ws.set q0 (a, Sum.inl (G.2.1 0, n, Sum.inl g))) H1 locs1 → W p l e R s m args below meth c H1 locs1 cells slots Q (F0 m (pc + 1) ls rest)) : W p l e R s m args below meth c H locs cells slots Q (F0 m pc ls (.int x :: .int (nI i) :: .ref a :: rest)) := by
  refine va_iast X.1.1 X.1.2.1 X.K hH.1.1 hH.1.2 hH.2 q0 0 he rfl (vp_in_nI hi hn) hdg (fun H1 locs1 h1 h2 h3 => kk _ H1 locs1 rfl ?_)
  rw [nI_clamp (n := i) (by omega)] at h1 h2
  exact ⟨⟨h1, h2⟩, h3⟩
theorem byte_nar {c : Nat} (h : c < 128) : vp_nar .byte (nI c) = nI c := by
  have : ∀ c, c < 128 → vp_nar .byte (nI c) = nI c := by decide +kernel
  exact this c h
theorem x_bast {cv : Nat} (X : KX G E p s m args meth c cc nL own rt0) (hH : HH G s ws H locs) (q0 : Nat) (he : ws[q0]? = some (a, Sum.inl (G.2.1 1, n, Sum.inl f))) (hi : i < n) (hn : n < 2 ^ 31) (hcv : cv < 128) (hdg : decode cc pc = .ok (.bastore, 1))
    (kk : ∀ (g : Nat → Int32) (H1 : Heap) (locs1 : List Loc), g = upd f i (nI cv) → HH G s (ws.set q0 (a, Sum.inl (G.2.1 1, n, Sum.inl g))) H1 locs1 → W p l e R s m args below meth c H1 locs1 cells slots Q (F0 m (pc + 1) ls rest)) : W p l e R s m args below meth c H locs cells slots Q (F0 m pc ls (.int (nI cv) :: .int (nI i) :: .ref a :: rest)) := by
  refine va_bast X.1.1 X.1.2.1 X.K hH.1.1 hH.1.2 hH.2 q0 1 he rfl (vp_in_nI hi hn) hdg (fun H1 locs1 h1 h2 h3 => kk _ H1 locs1 rfl ?_)
  rw [nI_clamp (n := i) (by omega), byte_nar hcv] at h1 h2
  exact ⟨⟨h1, h2⟩, h3⟩
theorem x_last {xl : Int64} (X : KX G E p s m args meth c cc nL own rt0) (hH : HH G s ws H locs) (q0 : Nat) (he : ws[q0]? = some (a, Sum.inl (G.2.1 4, n, Sum.inr (Sum.inl fl)))) (hi : i < n) (hn : n < 2 ^ 31) (hdg : decode cc pc = .ok (.lastore, 1))
    (kk : ∀ (g : Nat → Int64) (H1 : Heap) (locs1 : List Loc), g = vp_updL fl i xl → HH G s (ws.set q0 (a, Sum.inl (G.2.1 4, n, Sum.inr (Sum.inl g)))) H1 locs1 → W p l e R s m args below meth c H1 locs1 cells slots Q (F0 m (pc + 1) ls rest)) : W p l e R s m args below meth c H locs cells slots Q (F0 m pc ls (.long xl :: .int (nI i) :: .ref a :: rest)) := by
  refine va_last X.1.1 X.1.2.1 X.K hH.1.1 hH.1.2 hH.2 q0 4 he rfl (vp_in_nI hi hn) hdg (fun H1 locs1 h1 h2 h3 => kk _ H1 locs1 rfl ?_)
  rw [nI_clamp (n := i) (by omega)] at h1 h2
  exact ⟨⟨h1, h2⟩, h3⟩
/-- an object stored into an array of a class that it is of -/
theorem x_aast {t0 b : Nat} {cA : ClassId} {C : String} {r : vw_C} {vs : List Value} (X : KX G E p s m args meth c cc nL own rt0) (hH : HH G s ws H locs) (q0 : Nat) (he : ws[q0]? = some (a, Sum.inl (cA, n, Sum.inr (Sum.inr (Sum.inr (Sum.inr fr)))))) (ht : (tysG G)[t0]? = some (cA, .object C)) (hca : va_Nw (.castable r.1 C) s) (hv : (b, Sum.inr (ci, vs)) ∈ ws) (hc : cls[ci]? = some r) (hi : i < n) (hn : n < 2 ^ 31) (hdg : decode cc pc = .ok (.aastore, 1))
    (kk : ∀ (g : Nat → Option Nat) (H1 : Heap) (locs1 : List Loc), g = va_up fr i (some b) → HH G s (ws.set q0 (a, Sum.inl (cA, n, Sum.inr (Sum.inr (Sum.inr (Sum.inr g)))))) H1 locs1 → W p l e R s m args below meth c H1 locs1 cells slots Q (F0 m (pc + 1) ls rest)) : W p l e R s m args below meth c H locs cells slots Q (F0 m pc ls (.ref b :: .int (nI i) :: .ref a :: rest)) := by
  obtain ⟨qk, hq⟩ := List.getElem?_of_mem hv
  refine va_astqO X.1.1 X.1.2.1 X.K hH.1.1 hH.1.2 hH.2 q0 t0 qk ci he ht hca hq hc (vp_in_nI hi hn) hdg (fun H1 locs1 h1 h2 h3 => kk _ H1 locs1 rfl ?_)
  rw [nI_clamp (n := i) (by omega)] at h1 h2
  exact ⟨⟨h1, h2⟩, h3⟩
/-- an object of the array's own class stored -/
theorem x_aastS {t0 b : Nat} {cA : ClassId} {r : vw_C} {vs : List Value} (X : KX G E p s m args meth c cc nL own rt0) (hH : HH G s ws H locs) (q0 : Nat) (he : ws[q0]? = some (a, Sum.inl (cA, n, Sum.inr (Sum.inr (Sum.inr (Sum.inr fr)))))) (ht : (tysG G)[t0]? = some (cA, .object r.1)) (hv : (b, Sum.inr (ci, vs)) ∈ ws) (hc : cls[ci]? = some r) (hi : i < n) (hn : n < 2 ^ 31) (hdg : decode cc pc = .ok (.aastore, 1))
    (kk : ∀ (g : Nat → Option Nat) (H1 : Heap) (locs1 : List Loc), g = va_up fr i (some b) → HH G s (ws.set q0 (a, Sum.inl (cA, n, Sum.inr (Sum.inr (Sum.inr (Sum.inr g)))))) H1 locs1 → W p l e R s m args below meth c H1 locs1 cells slots Q (F0 m (pc + 1) ls rest)) : W p l e R s m args below meth c H locs cells slots Q (F0 m pc ls (.ref b :: .int (nI i) :: .ref a :: rest)) := by
  obtain ⟨qk, hq⟩ := List.getElem?_of_mem hv
  refine va_astq X.1.1 X.1.2.1 X.K hH.1.1 hH.1.2 hH.2 q0 t0 qk ci he ht hq hc (vp_in_nI hi hn) hdg (fun H1 locs1 h1 h2 h3 => kk _ H1 locs1 rfl ?_)
  rw [nI_clamp (n := i) (by omega)] at h1 h2
  exact ⟨⟨h1, h2⟩, h3⟩
theorem x_aastN {t0 : Nat} {cA : ClassId} {C : String} (X : KX G E p s m args meth c cc nL own rt0) (hH : HH G s ws H locs) (q0 : Nat) (he : ws[q0]? = some (a, Sum.inl (cA, n, Sum.inr (Sum.inr (Sum.inr (Sum.inr fr)))))) (ht : (tysG G)[t0]? = some (cA, .object C)) (hi : i < n) (hn : n < 2 ^ 31) (hdg : decode cc pc = .ok (.aastore, 1))
    (kk : ∀ (g : Nat → Option Nat) (H1 : Heap) (locs1 : List Loc), g = va_up fr i none → HH G s (ws.set q0 (a, Sum.inl (cA, n, Sum.inr (Sum.inr (Sum.inr (Sum.inr g)))))) H1 locs1 → W p l e R s m args below meth c H1 locs1 cells slots Q (F0 m (pc + 1) ls rest)) : W p l e R s m args below meth c H locs cells slots Q (F0 m pc ls (.null :: .int (nI i) :: .ref a :: rest)) := by
  refine va_astqN X.1.1 X.1.2.1 X.K hH.1.1 hH.1.2 hH.2 q0 t0 he ht (vp_in_nI hi hn) hdg (fun H1 locs1 h1 h2 h3 => kk _ H1 locs1 rfl ?_)
  rw [nI_clamp (n := i) (by omega)] at h1 h2
  exact ⟨⟨h1, h2⟩, h3⟩
theorem KX.hA (X : KX G E p s m args meth c cc nL own rt0) : ∀ q : Nat, s.heap.size ≤ q → GE G.2.2 q := fun _ h => Nat.le_trans X.2.2.2.2 h
theorem front {ws : va_W} {q : Nat × va_E} : (ws ++ [q]).Perm (q :: ws) := List.perm_append_singleton q ws
theorem x_new (X : KX G E p s m args meth c cc nL own rt0) (hH : HH G s ws H locs) (hin : ∀ w ∈ u_ws CC T N, w ∈ lw_all) (ty : Nat → FieldType) (hty : ∀ k, k < N → parseFieldDescriptor (T k).2.2.1 = some (ty k)) (hcl : Cond.classLink own index CC ∈ lw_all) (hinst : Cond.instantiable CC N ∈ lw_all) (hini : Cond.initialized CC ∈ lw_all) (hc : cls[ci]? = some (CC, T, N)) (hfs : ∀ j, j < N → defaultValue (ty j) = vp_V fs j) (hcells : cells + 1 ≤ R.cells) (hslots : slots + N ≤ R.slots) (hdg : decode cc pc = .ok (.new index, 3))
    (kk : ∀ (q : Nat) (H1 : Heap), HH G s ((q, Sum.inr (ci, fs)) :: ws) H1 locs → W p l e R s m args below meth c H1 locs (cells + 1) (slots + N) Q (F0 m (pc + 3) ls (.ref q :: rest))) : W p l e R s m args below meth c H locs cells slots Q (F0 m pc ls rest) :=
  va_new X.1.1 X.1.2.1 X.1.2.2.2.2 hin ty hty X.1.2.2.2.1 (X.1.2.2.2.2 _ hcl) (X.1.2.2.2.2 _ hinst) (X.1.2.2.2.2 _ hini) X.K hH.1.1 hH.1.2 hH.2 X.hA hc hfs hcells hslots hdg (fun q H1 h1 h2 h3 => kk q H1 (HH.perm ⟨⟨h1, h2⟩, h3⟩ front))
theorem arr_id {cA c0 : ClassId} {ty : FieldType} {tys : List (ClassId × FieldType)} (h : va_RA s cA ty) (h0 : va_RA s c0 ty) : cA = c0 := by
  unfold va_RA at h h0
  cases ty <;> first | (exact Option.some.inj (h.symm.trans h0)) | (obtain ⟨_, _, _, _, _, h⟩ := h; obtain ⟨_, _, _, _, _, h0⟩ := h0; exact Option.some.inj (h.symm.trans h0))
theorem last_ty {D : va_G} {cl : List vw_C} {tys : List (ClassId × FieldType)} {cA : ClassId} {ty : FieldType} {t0 : Nat} {c0 : ClassId} (h : va_K D cl (tys ++ [(cA, ty)]) s) (h0 : tys[t0]? = some (c0, ty)) : cA = c0 := by
  have h1 := (h.2 tys.length (cA, ty) (by rw [List.getElem?_append_right (Nat.le_refl _), Nat.sub_self]; rfl)).2
  have h2 := (h.2 t0 (c0, ty) (by rw [List.getElem?_append_left (List.getElem?_eq_some_iff.mp h0).1]; exact h0)).2
  exact arr_id (tys := tys) h1 h2
theorem x_newi {n : Nat} (X : KX G E p s m args meth c cc nL own rt0) (hH : HH G s ws H locs) (hn : n < 2 ^ 27) (hcells : cells + 1 ≤ R.cells) (hslots : slots + n ≤ R.slots) (hdg : decode cc pc = .ok (.newarray .int, 2))
    (kk : ∀ (q : Nat) (H1 : Heap), HH G s ((q, Sum.inl (G.2.1 0, n, Sum.inl (fun _ => nI 0))) :: ws) H1 locs → W p l e R s m args below meth c H1 locs (cells + 1) (slots + n) Q (F0 m (pc + 2) ls (.ref q :: rest))) : W p l e R s m args below meth c H locs cells slots Q (F0 m pc ls (.int (nI n) :: rest)) := by
  refine va_newa (atype := .int) (ty := .int) (a0 := (n, Sum.inl (fun _ => nI 0))) X.1.1 X.1.2.1 (X.1.2.2.2.2 _ q175) rfl X.K hH.1.1 hH.1.2 hH.2 X.hA (fun _ => rfl) (nI_pos (by omega)) (nI_clamp (by omega)) (show n * 4 ≤ 536870912 by omega) hcells hslots hdg (fun q cA H1 hK h1 h2 h3 => ?_)
  have e := last_ty (t0 := 0) hK rfl
  subst e
  exact kk q H1 (HH.perm ⟨⟨h1, h2⟩, h3⟩ front)
theorem x_newb {n : Nat} (X : KX G E p s m args meth c cc nL own rt0) (hH : HH G s ws H locs) (hn : n < 2 ^ 27) (hcells : cells + 1 ≤ R.cells) (hslots : slots + n ≤ R.slots) (hdg : decode cc pc = .ok (.newarray .byte, 2))
    (kk : ∀ (q : Nat) (H1 : Heap), HH G s ((q, Sum.inl (G.2.1 1, n, Sum.inl (fun _ => nI 0))) :: ws) H1 locs → W p l e R s m args below meth c H1 locs (cells + 1) (slots + n) Q (F0 m (pc + 2) ls (.ref q :: rest))) : W p l e R s m args below meth c H locs cells slots Q (F0 m pc ls (.int (nI n) :: rest)) := by
  refine va_newa (atype := .byte) (ty := .byte) (a0 := (n, Sum.inl (fun _ => nI 0))) X.1.1 X.1.2.1 (X.1.2.2.2.2 _ q303) rfl X.K hH.1.1 hH.1.2 hH.2 X.hA (fun _ => rfl) (nI_pos (by omega)) (nI_clamp (by omega)) (show n * 1 ≤ 536870912 by omega) hcells hslots hdg (fun q cA H1 hK h1 h2 h3 => ?_)
  have e := last_ty (t0 := 1) hK rfl
  subst e
  exact kk q H1 (HH.perm ⟨⟨h1, h2⟩, h3⟩ front)
theorem x_newl {n : Nat} (X : KX G E p s m args meth c cc nL own rt0) (hH : HH G s ws H locs) (hn : n < 2 ^ 26) (hcells : cells + 1 ≤ R.cells) (hslots : slots + n ≤ R.slots) (hdg : decode cc pc = .ok (.newarray .long, 2))
    (kk : ∀ (q : Nat) (H1 : Heap), HH G s ((q, Sum.inl (G.2.1 4, n, Sum.inr (Sum.inl (fun _ => 0)))) :: ws) H1 locs → W p l e R s m args below meth c H1 locs (cells + 1) (slots + n) Q (F0 m (pc + 2) ls (.ref q :: rest))) : W p l e R s m args below meth c H locs cells slots Q (F0 m pc ls (.int (nI n) :: rest)) := by
  refine va_newa (atype := .long) (ty := .long) (a0 := (n, Sum.inr (Sum.inl (fun _ => 0)))) X.1.1 X.1.2.1 (X.1.2.2.2.2 _ q1785) rfl X.K hH.1.1 hH.1.2 hH.2 X.hA (fun _ => rfl) (nI_pos (by omega)) (nI_clamp (by omega)) (show n * 8 ≤ 536870912 by omega) hcells hslots hdg (fun q cA H1 hK h1 h2 h3 => ?_)
  have e := last_ty (t0 := 4) hK rfl
  subst e
  exact kk q H1 (HH.perm ⟨⟨h1, h2⟩, h3⟩ front)
theorem x_newq {n t0 : Nat} {C : String} {c0 : ClassId} (X : KX G E p s m args meth c cc nL own rt0) (hH : HH G s ws H locs) (ht : (tysG G)[t0]? = some (c0, .object C)) (hcl : Cond.classLink own index C ∈ lw_all) (hAO : va_AO C s) (hn : n < 2 ^ 27) (hcells : cells + 1 ≤ R.cells) (hslots : slots + n ≤ R.slots) (hdg : decode cc pc = .ok (.anewarray index, 3))
    (kk : ∀ (q : Nat) (H1 : Heap), HH G s ((q, Sum.inl (c0, n, Sum.inr (Sum.inr (Sum.inr (Sum.inr (fun _ => none)))))) :: ws) H1 locs → W p l e R s m args below meth c H1 locs (cells + 1) (slots + n) Q (F0 m (pc + 3) ls (.ref q :: rest))) : W p l e R s m args below meth c H locs cells slots Q (F0 m pc ls (.int (nI n) :: rest)) := by
  refine va_newq X.1.1 X.1.2.1 X.1.2.2.2.1 (X.1.2.2.2.2 _ hcl) hAO X.K hH.1.1 hH.1.2 hH.2 X.hA (nI_pos (by omega)) (nI_clamp (by omega)) (by omega) hcells hslots hdg (fun q cA H1 hK h1 h2 h3 => ?_)
  have e := last_ty (t0 := t0) hK ht
  subst e
  exact kk q H1 (HH.perm ⟨⟨h1, h2⟩, h3⟩ front)
theorem x_rc {vs : List Value} {r : vw_C} (X : KX G E p s m args meth c cc nL own rt0) (hP : va_P G.1 cls ws H) (hm : (a, Sum.inr (ci, vs)) ∈ ws) (hc : cls[ci]? = some r) : ∃ cell : Cell, H[a]? = some cell ∧ cell.vm.isStatics = false ∧ s.vm.findClass r.1 = some cell.cls := by
  obtain ⟨q0, hq⟩ := List.getElem?_of_mem hm
  exact va_recv X.K hP hc hq
theorem x_widen {k2 n2 : Nat} (h1 : cells ≤ k2) (h2 : slots ≤ n2) (kk : W p l e R s m args below meth c H locs k2 n2 Q (F0 m pc ls st)) : W p l e R s m args below meth c H locs cells slots Q (F0 m pc ls st) := W.widen h1 h2 kk
theorem x_obj {idx : Nat} (X : KX G E p s m args meth c cc nL own rt0) (hsz : ls.size = nL) (h1 : Cond.methodLink own idx objectInit ∈ lw_all) (h2 : Cond.instanceMethod objectInit ∈ lw_all) (h3 : Cond.code objectInit ⟨#[0xb1]⟩ 1 none ∈ lw_all) (hR : 1 ≤ R.frames) (hL : (rest.map fun v => v.category).sum + 12 ≤ R.locals) (hdg : decode cc pc = .ok (.invokespecial idx, 3)) (kk : W p l e R s m args below meth c H locs cells slots Q (F0 m (pc + 3) ls rest)) : W p l e R s m args below meth c H locs cells slots Q (F0 m pc ls (.ref a :: rest)) :=
  W.objInit X.1.1 X.1.2.1 X.1.2.2.2.1 (X.1.2.2.2.2 _ h1) (X.1.2.2.2.2 _ h2) (X.1.2.2.2.2 _ h3) rfl (by rw [X.1.2.2.1]; exact hsz) rfl hdg hR (by show 0 + (rest.map fun v => v.category).sum + 12 ≤ R.locals; omega) kk
end XROWS
section CTOR
variable {l : Launch} {G : GG} {E : State → Prop} {y : MethodName} {cc : ByteArray} {nL k mc ms : Nat} {av : List Value} {ws : va_W}
/-- a constructor's start -/
theorem MUc {Qw : Unit → va_W → Prop} (hE : EnvOK G E) (hy : plainName y.cls = true) (hn : (lg_sl av).length ≤ nL)
    (body : ∀ (p : Program) (e : Env) (s : State) (m : MethodId) (below : List Frame) (meth : Method) (c : Code) (Q : State → Prop) (ls : Array Slot), meth.name = y.name → KX G E p s m av.toArray meth c cc nL y.cls none → HH G s ws s.heap [] → lv_has ls nL (lv_args 0 av) →
      (∀ (pc : Nat) (ls : Array Slot) (H : Heap) (locs : List Loc) (cl sl : Nat) (w : va_W), HH G s w H locs → Qw () w → cl ≤ mc → sl ≤ ms → decode cc pc = .ok (.return_, 1) → W p l e (Rm k mc ms) s m av.toArray below meth c H locs cl sl Q (F0 m pc ls [])) → W p l e (Rm k mc ms) s m av.toArray below meth c s.heap [] 0 0 Q (F0 m 0 ls [])) : MU vV l G E y cc nL none k mc ms av ws Qw := by
  refine Met.ofW (cc := cc) (maxL := nL) (ret := none) hy rfl ?_
  intro p e s m args below meth c s₁ B hml hv
  have X := kx_of hE B hml hv
  have hin : meth.name = y.name := (name_of_methodNamed B.named B.method).1
  obtain ⟨rfl, hs, hN, hP⟩ := hv
  refine ls_of av hn (fun ls hl => body p e s m below meth c _ ls hin X ⟨hP, va_S.rf⟩ hl (fun pc ls H locs cl sl w hH hq h1 h2 hd => ?_))
  exact W.widen h1 h2 (W.vret X.1.1 X.1.2.1 X.2.1.1 (fun t ht _ => ⟨⟨(), w, rfl, hq, by rw [ht]; exact hH.1⟩, hH.2.F ht⟩) hH.2.2.2 hd X.2.1.2)
end CTOR
abbrev yColl : MethodName := ⟨"java/util/Collection", "toArray", "()[Ljava/lang/Object;"⟩
abbrev yClass : MethodName := ⟨"java/lang/Object", "getClass", "()Ljava/lang/Class;"⟩
/-- an array that is exactly an Object[], and no cell of a world -/
def exC (t : Nat) (A : Nat → Prop) (U : State) (H : Heap) : Prop := ∃ cell : Cell, H[t]? = some cell ∧ cell.vm.isStatics = false ∧ U.vm.findClass "[Ljava/lang/Object;" = some cell.cls ∧ ¬ A t
/-- what a run gives beside the classes: links between nest mates, statics of the JDK, the texts of the exceptions; sa: addresses (0: ArrayList's empty array, 1, 2, 3: the texts, 4: the mirror of Object[]) -/
def EJ (G : GG) (sa : Nat → Nat) (U : State) : Prop :=
  (∀ w ∈ lw_tbl, nwK w = true → va_Nw w U) ∧
  (va_AO "java/lang/Object" U ∧ va_AO "RubberStamps$Inks" U) ∧
  (va_Fw "java/util/ArrayList" yColl ⟨"java/util/ArrayList", "toArray", "()[Ljava/lang/Object;"⟩ U ∧ va_Dc U ∧ va_Mi "[Ljava/lang/Object;" (sa 4) U) ∧
  (va_Z "java/util/ArrayList" "DEFAULTCAPACITY_EMPTY_ELEMENTDATA" "[Ljava/lang/Object;" (.ref (sa 0)) (GE G.2.2) U U.heap ∧ exC (sa 0) (GE G.2.2) U U.heap ∧ ∃ fv, va_T (.object "java/lang/Object") (sa 0) 0 fv (GE G.2.2) U U.heap) ∧
  (va_Z "java/lang/String" "COMPACT_STRINGS" "Z" (.int 1) (GE G.2.2) U U.heap ∧ va_Zq "jdk/internal/util/Preconditions" "SIOOBE_FORMATTER" "Ljava/util/function/BiFunction;" (GE G.2.2) U U.heap) ∧
  (vk_R "RubberStamps" 3 "argument out of range" (sa 1) U ∧ vk_R "RubberStamps" 11 "no such index" (sa 2) U ∧ vk_R "RubberStamps" 16 "not possible now" (sa 3) U) ∧
  (vx_Zq Bundle.tN "UNASSIGNED_STACK" Bundle.steD (GE G.2.2) U U.heap ∧ vx_Zq Bundle.tN "SUPPRESSED_SENTINEL" Bundle.listD (GE G.2.2) U U.heap)
/-- the rows of a run: E gives EJ -/
abbrev EnvJ (G : GG) (E : State → Prop) (sa : Nat → Nat) : Prop := ∀ U, E U → EJ G sa U
theorem KX.J {G : GG} {E : State → Prop} {sa : Nat → Nat} {p : Program} {s : State} {m : MethodId} {args : Array Value} {meth : Method} {c : Code} {cc : ByteArray} {nL : Nat} {own : String} {rt : Option FieldType} (X : KX G E p s m args meth c cc nL own rt) (hJ : EnvJ G E sa) : EJ G sa s := hJ s X.2.2.2.1
theorem EJ.nw {G : GG} {sa : Nat → Nat} {U : State} (h : EJ G sa U) {w : Cond} (hw : w ∈ lw_tbl) (hk : nwK w = true) : va_Nw w U := h.1 w hw hk
