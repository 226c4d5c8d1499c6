/-! MODEL, methods 5: whether a word can be written, a plan carried out -/
theorem cell_cg {cA : ClassId} {n : Nat} {f g : Nat → Int32} (h : ∀ k, k < n → g k = f k) : vp_cell cA (n, .inl g) = vp_cell cA (n, .inl f) := by
  have e : (fun j : Fin n => Value.int (g j.val)) = (fun j : Fin n => Value.int (f j.val)) := funext fun j => by rw [h j.val j.isLt]
  show arrV cA n (fun j => .int (g j)) = arrV cA n (fun j => .int (f j))
  unfold arrV
  rw [e]
theorem i_add0 (x : Int32) : x + nI 0 = x := Int32.add_zero x
theorem i_addn (x : Int32) (a b : Nat) : x + nI a + nI b = x + nI (a + b) := by rw [Int32.add_assoc, nI_add]
section
variable {l : Launch} {G : GG} {E : State → Prop} {a : Nat → Nat} {x4 x5 x7 x8 x11 x15 : Int32} {f1 f2 f3 f4 f5 f6 f7 f8 f9 f10 f11 : Nat → Int32} {h : Int64} {wr : va_W}
theorem m_cg1 {s : State} {H : Heap} {locs : List Loc} {g : Nat → Int32} (hg : ∀ k, k < 195 → g k = f1 k) (hH : HH G s (mw G a x4 x5 x7 x8 x11 x15 f1 f2 f3 f4 f5 f6 f7 f8 f9 f10 f11 h ++ wr) H locs) : HH G s (mw G a x4 x5 x7 x8 x11 x15 g f2 f3 f4 f5 f6 f7 f8 f9 f10 f11 h ++ wr) H locs := by
  have h0 := hH.1.1 1 (a 1, .inl (G.2.1 0, 195, .inl f1)) rfl
  have h1 : va_P G.1 cls ((mw G a x4 x5 x7 x8 x11 x15 f1 f2 f3 f4 f5 f6 f7 f8 f9 f10 f11 h ++ wr).set 1 (a 1, .inl (G.2.1 0, 195, .inl g))) H := hH.1.1.set hH.1.2 (p := 1) (a := a 1) (e0 := .inl (G.2.1 0, 195, .inl f1)) (e := .inl (G.2.1 0, 195, .inl g)) rfl (by show H[a 1]? = some (vp_cell _ _); rw [cell_cg hg]; exact h0) (fun q _ => rfl)
  have h2 : va_D (GE G.2.2) ((mw G a x4 x5 x7 x8 x11 x15 f1 f2 f3 f4 f5 f6 f7 f8 f9 f10 f11 h ++ wr).set 1 (a 1, .inl (G.2.1 0, 195, .inl g))) := hH.1.2.set (p := 1) (a := a 1) (e0 := .inl (G.2.1 0, 195, .inl f1)) rfl
  exact ⟨⟨h1, h2⟩, hH.2⟩
theorem m_cg2 {s : State} {H : Heap} {locs : List Loc} {g : Nat → Int32} (hg : ∀ k, k < 780 → g k = f2 k) (hH : HH G s (mw G a x4 x5 x7 x8 x11 x15 f1 f2 f3 f4 f5 f6 f7 f8 f9 f10 f11 h ++ wr) H locs) : HH G s (mw G a x4 x5 x7 x8 x11 x15 f1 g f3 f4 f5 f6 f7 f8 f9 f10 f11 h ++ wr) H locs := by
  have h0 := hH.1.1 2 (a 2, .inl (G.2.1 0, 780, .inl f2)) rfl
  have h1 : va_P G.1 cls ((mw G a x4 x5 x7 x8 x11 x15 f1 f2 f3 f4 f5 f6 f7 f8 f9 f10 f11 h ++ wr).set 2 (a 2, .inl (G.2.1 0, 780, .inl g))) H := hH.1.1.set hH.1.2 (p := 2) (a := a 2) (e0 := .inl (G.2.1 0, 780, .inl f2)) (e := .inl (G.2.1 0, 780, .inl g)) rfl (by show H[a 2]? = some (vp_cell _ _); rw [cell_cg hg]; exact h0) (fun q _ => rfl)
  have h2 : va_D (GE G.2.2) ((mw G a x4 x5 x7 x8 x11 x15 f1 f2 f3 f4 f5 f6 f7 f8 f9 f10 f11 h ++ wr).set 2 (a 2, .inl (G.2.1 0, 780, .inl g))) := hH.1.2.set (p := 2) (a := a 2) (e0 := .inl (G.2.1 0, 780, .inl f2)) rfl
  exact ⟨⟨h1, h2⟩, hH.2⟩
theorem m_cg3 {s : State} {H : Heap} {locs : List Loc} {g : Nat → Int32} (hg : ∀ k, k < 195 → g k = f3 k) (hH : HH G s (mw G a x4 x5 x7 x8 x11 x15 f1 f2 f3 f4 f5 f6 f7 f8 f9 f10 f11 h ++ wr) H locs) : HH G s (mw G a x4 x5 x7 x8 x11 x15 f1 f2 g f4 f5 f6 f7 f8 f9 f10 f11 h ++ wr) H locs := by
  have h0 := hH.1.1 3 (a 3, .inl (G.2.1 0, 195, .inl f3)) rfl
  have h1 : va_P G.1 cls ((mw G a x4 x5 x7 x8 x11 x15 f1 f2 f3 f4 f5 f6 f7 f8 f9 f10 f11 h ++ wr).set 3 (a 3, .inl (G.2.1 0, 195, .inl g))) H := hH.1.1.set hH.1.2 (p := 3) (a := a 3) (e0 := .inl (G.2.1 0, 195, .inl f3)) (e := .inl (G.2.1 0, 195, .inl g)) rfl (by show H[a 3]? = some (vp_cell _ _); rw [cell_cg hg]; exact h0) (fun q _ => rfl)
  have h2 : va_D (GE G.2.2) ((mw G a x4 x5 x7 x8 x11 x15 f1 f2 f3 f4 f5 f6 f7 f8 f9 f10 f11 h ++ wr).set 3 (a 3, .inl (G.2.1 0, 195, .inl g))) := hH.1.2.set (p := 3) (a := a 3) (e0 := .inl (G.2.1 0, 195, .inl f3)) rfl
  exact ⟨⟨h1, h2⟩, hH.2⟩
theorem m_cg4 {s : State} {H : Heap} {locs : List Loc} {g : Nat → Int32} (hg : ∀ k, k < 195 → g k = f4 k) (hH : HH G s (mw G a x4 x5 x7 x8 x11 x15 f1 f2 f3 f4 f5 f6 f7 f8 f9 f10 f11 h ++ wr) H locs) : HH G s (mw G a x4 x5 x7 x8 x11 x15 f1 f2 f3 g f5 f6 f7 f8 f9 f10 f11 h ++ wr) H locs := by
  have h0 := hH.1.1 4 (a 4, .inl (G.2.1 0, 195, .inl f4)) rfl
  have h1 : va_P G.1 cls ((mw G a x4 x5 x7 x8 x11 x15 f1 f2 f3 f4 f5 f6 f7 f8 f9 f10 f11 h ++ wr).set 4 (a 4, .inl (G.2.1 0, 195, .inl g))) H := hH.1.1.set hH.1.2 (p := 4) (a := a 4) (e0 := .inl (G.2.1 0, 195, .inl f4)) (e := .inl (G.2.1 0, 195, .inl g)) rfl (by show H[a 4]? = some (vp_cell _ _); rw [cell_cg hg]; exact h0) (fun q _ => rfl)
  have h2 : va_D (GE G.2.2) ((mw G a x4 x5 x7 x8 x11 x15 f1 f2 f3 f4 f5 f6 f7 f8 f9 f10 f11 h ++ wr).set 4 (a 4, .inl (G.2.1 0, 195, .inl g))) := hH.1.2.set (p := 4) (a := a 4) (e0 := .inl (G.2.1 0, 195, .inl f4)) rfl
  exact ⟨⟨h1, h2⟩, hH.2⟩
theorem m_cg5 {s : State} {H : Heap} {locs : List Loc} {g : Nat → Int32} (hg : ∀ k, k < 150 → g k = f5 k) (hH : HH G s (mw G a x4 x5 x7 x8 x11 x15 f1 f2 f3 f4 f5 f6 f7 f8 f9 f10 f11 h ++ wr) H locs) : HH G s (mw G a x4 x5 x7 x8 x11 x15 f1 f2 f3 f4 g f6 f7 f8 f9 f10 f11 h ++ wr) H locs := by
  have h0 := hH.1.1 5 (a 5, .inl (G.2.1 0, 150, .inl f5)) rfl
  have h1 : va_P G.1 cls ((mw G a x4 x5 x7 x8 x11 x15 f1 f2 f3 f4 f5 f6 f7 f8 f9 f10 f11 h ++ wr).set 5 (a 5, .inl (G.2.1 0, 150, .inl g))) H := hH.1.1.set hH.1.2 (p := 5) (a := a 5) (e0 := .inl (G.2.1 0, 150, .inl f5)) (e := .inl (G.2.1 0, 150, .inl g)) rfl (by show H[a 5]? = some (vp_cell _ _); rw [cell_cg hg]; exact h0) (fun q _ => rfl)
  have h2 : va_D (GE G.2.2) ((mw G a x4 x5 x7 x8 x11 x15 f1 f2 f3 f4 f5 f6 f7 f8 f9 f10 f11 h ++ wr).set 5 (a 5, .inl (G.2.1 0, 150, .inl g))) := hH.1.2.set (p := 5) (a := a 5) (e0 := .inl (G.2.1 0, 150, .inl f5)) rfl
  exact ⟨⟨h1, h2⟩, hH.2⟩
theorem m_cg6 {s : State} {H : Heap} {locs : List Loc} {g : Nat → Int32} (hg : ∀ k, k < 13 → g k = f6 k) (hH : HH G s (mw G a x4 x5 x7 x8 x11 x15 f1 f2 f3 f4 f5 f6 f7 f8 f9 f10 f11 h ++ wr) H locs) : HH G s (mw G a x4 x5 x7 x8 x11 x15 f1 f2 f3 f4 f5 g f7 f8 f9 f10 f11 h ++ wr) H locs := by
  have h0 := hH.1.1 6 (a 6, .inl (G.2.1 0, 13, .inl f6)) rfl
  have h1 : va_P G.1 cls ((mw G a x4 x5 x7 x8 x11 x15 f1 f2 f3 f4 f5 f6 f7 f8 f9 f10 f11 h ++ wr).set 6 (a 6, .inl (G.2.1 0, 13, .inl g))) H := hH.1.1.set hH.1.2 (p := 6) (a := a 6) (e0 := .inl (G.2.1 0, 13, .inl f6)) (e := .inl (G.2.1 0, 13, .inl g)) rfl (by show H[a 6]? = some (vp_cell _ _); rw [cell_cg hg]; exact h0) (fun q _ => rfl)
  have h2 : va_D (GE G.2.2) ((mw G a x4 x5 x7 x8 x11 x15 f1 f2 f3 f4 f5 f6 f7 f8 f9 f10 f11 h ++ wr).set 6 (a 6, .inl (G.2.1 0, 13, .inl g))) := hH.1.2.set (p := 6) (a := a 6) (e0 := .inl (G.2.1 0, 13, .inl f6)) rfl
  exact ⟨⟨h1, h2⟩, hH.2⟩
theorem m_cg7 {s : State} {H : Heap} {locs : List Loc} {g : Nat → Int32} (hg : ∀ k, k < 12 → g k = f7 k) (hH : HH G s (mw G a x4 x5 x7 x8 x11 x15 f1 f2 f3 f4 f5 f6 f7 f8 f9 f10 f11 h ++ wr) H locs) : HH G s (mw G a x4 x5 x7 x8 x11 x15 f1 f2 f3 f4 f5 f6 g f8 f9 f10 f11 h ++ wr) H locs := by
  have h0 := hH.1.1 7 (a 7, .inl (G.2.1 0, 12, .inl f7)) rfl
  have h1 : va_P G.1 cls ((mw G a x4 x5 x7 x8 x11 x15 f1 f2 f3 f4 f5 f6 f7 f8 f9 f10 f11 h ++ wr).set 7 (a 7, .inl (G.2.1 0, 12, .inl g))) H := hH.1.1.set hH.1.2 (p := 7) (a := a 7) (e0 := .inl (G.2.1 0, 12, .inl f7)) (e := .inl (G.2.1 0, 12, .inl g)) rfl (by show H[a 7]? = some (vp_cell _ _); rw [cell_cg hg]; exact h0) (fun q _ => rfl)
  have h2 : va_D (GE G.2.2) ((mw G a x4 x5 x7 x8 x11 x15 f1 f2 f3 f4 f5 f6 f7 f8 f9 f10 f11 h ++ wr).set 7 (a 7, .inl (G.2.1 0, 12, .inl g))) := hH.1.2.set (p := 7) (a := a 7) (e0 := .inl (G.2.1 0, 12, .inl f7)) rfl
  exact ⟨⟨h1, h2⟩, hH.2⟩
theorem m_cg8 {s : State} {H : Heap} {locs : List Loc} {g : Nat → Int32} (hg : ∀ k, k < 7 → g k = f8 k) (hH : HH G s (mw G a x4 x5 x7 x8 x11 x15 f1 f2 f3 f4 f5 f6 f7 f8 f9 f10 f11 h ++ wr) H locs) : HH G s (mw G a x4 x5 x7 x8 x11 x15 f1 f2 f3 f4 f5 f6 f7 g f9 f10 f11 h ++ wr) H locs := by
  have h0 := hH.1.1 8 (a 8, .inl (G.2.1 0, 7, .inl f8)) rfl
  have h1 : va_P G.1 cls ((mw G a x4 x5 x7 x8 x11 x15 f1 f2 f3 f4 f5 f6 f7 f8 f9 f10 f11 h ++ wr).set 8 (a 8, .inl (G.2.1 0, 7, .inl g))) H := hH.1.1.set hH.1.2 (p := 8) (a := a 8) (e0 := .inl (G.2.1 0, 7, .inl f8)) (e := .inl (G.2.1 0, 7, .inl g)) rfl (by show H[a 8]? = some (vp_cell _ _); rw [cell_cg hg]; exact h0) (fun q _ => rfl)
  have h2 : va_D (GE G.2.2) ((mw G a x4 x5 x7 x8 x11 x15 f1 f2 f3 f4 f5 f6 f7 f8 f9 f10 f11 h ++ wr).set 8 (a 8, .inl (G.2.1 0, 7, .inl g))) := hH.1.2.set (p := 8) (a := a 8) (e0 := .inl (G.2.1 0, 7, .inl f8)) rfl
  exact ⟨⟨h1, h2⟩, hH.2⟩
theorem m_cg9 {s : State} {H : Heap} {locs : List Loc} {g : Nat → Int32} (hg : ∀ k, k < 1365 → g k = f9 k) (hH : HH G s (mw G a x4 x5 x7 x8 x11 x15 f1 f2 f3 f4 f5 f6 f7 f8 f9 f10 f11 h ++ wr) H locs) : HH G s (mw G a x4 x5 x7 x8 x11 x15 f1 f2 f3 f4 f5 f6 f7 f8 g f10 f11 h ++ wr) H locs := by
  have h0 := hH.1.1 9 (a 9, .inl (G.2.1 0, 1365, .inl f9)) rfl
  have h1 : va_P G.1 cls ((mw G a x4 x5 x7 x8 x11 x15 f1 f2 f3 f4 f5 f6 f7 f8 f9 f10 f11 h ++ wr).set 9 (a 9, .inl (G.2.1 0, 1365, .inl g))) H := hH.1.1.set hH.1.2 (p := 9) (a := a 9) (e0 := .inl (G.2.1 0, 1365, .inl f9)) (e := .inl (G.2.1 0, 1365, .inl g)) rfl (by show H[a 9]? = some (vp_cell _ _); rw [cell_cg hg]; exact h0) (fun q _ => rfl)
  have h2 : va_D (GE G.2.2) ((mw G a x4 x5 x7 x8 x11 x15 f1 f2 f3 f4 f5 f6 f7 f8 f9 f10 f11 h ++ wr).set 9 (a 9, .inl (G.2.1 0, 1365, .inl g))) := hH.1.2.set (p := 9) (a := a 9) (e0 := .inl (G.2.1 0, 1365, .inl f9)) rfl
  exact ⟨⟨h1, h2⟩, hH.2⟩
theorem m_cg10 {s : State} {H : Heap} {locs : List Loc} {g : Nat → Int32} (hg : ∀ k, k < 7 → g k = f10 k) (hH : HH G s (mw G a x4 x5 x7 x8 x11 x15 f1 f2 f3 f4 f5 f6 f7 f8 f9 f10 f11 h ++ wr) H locs) : HH G s (mw G a x4 x5 x7 x8 x11 x15 f1 f2 f3 f4 f5 f6 f7 f8 f9 g f11 h ++ wr) H locs := by
  have h0 := hH.1.1 10 (a 10, .inl (G.2.1 0, 7, .inl f10)) rfl
  have h1 : va_P G.1 cls ((mw G a x4 x5 x7 x8 x11 x15 f1 f2 f3 f4 f5 f6 f7 f8 f9 f10 f11 h ++ wr).set 10 (a 10, .inl (G.2.1 0, 7, .inl g))) H := hH.1.1.set hH.1.2 (p := 10) (a := a 10) (e0 := .inl (G.2.1 0, 7, .inl f10)) (e := .inl (G.2.1 0, 7, .inl g)) rfl (by show H[a 10]? = some (vp_cell _ _); rw [cell_cg hg]; exact h0) (fun q _ => rfl)
  have h2 : va_D (GE G.2.2) ((mw G a x4 x5 x7 x8 x11 x15 f1 f2 f3 f4 f5 f6 f7 f8 f9 f10 f11 h ++ wr).set 10 (a 10, .inl (G.2.1 0, 7, .inl g))) := hH.1.2.set (p := 10) (a := a 10) (e0 := .inl (G.2.1 0, 7, .inl f10)) rfl
  exact ⟨⟨h1, h2⟩, hH.2⟩
theorem m_cg11 {s : State} {H : Heap} {locs : List Loc} {g : Nat → Int32} (hg : ∀ k, k < 4 → g k = f11 k) (hH : HH G s (mw G a x4 x5 x7 x8 x11 x15 f1 f2 f3 f4 f5 f6 f7 f8 f9 f10 f11 h ++ wr) H locs) : HH G s (mw G a x4 x5 x7 x8 x11 x15 f1 f2 f3 f4 f5 f6 f7 f8 f9 f10 g h ++ wr) H locs := by
  have h0 := hH.1.1 11 (a 11, .inl (G.2.1 0, 4, .inl f11)) rfl
  have h1 : va_P G.1 cls ((mw G a x4 x5 x7 x8 x11 x15 f1 f2 f3 f4 f5 f6 f7 f8 f9 f10 f11 h ++ wr).set 11 (a 11, .inl (G.2.1 0, 4, .inl g))) H := hH.1.1.set hH.1.2 (p := 11) (a := a 11) (e0 := .inl (G.2.1 0, 4, .inl f11)) (e := .inl (G.2.1 0, 4, .inl g)) rfl (by show H[a 11]? = some (vp_cell _ _); rw [cell_cg hg]; exact h0) (fun q _ => rfl)
  have h2 : va_D (GE G.2.2) ((mw G a x4 x5 x7 x8 x11 x15 f1 f2 f3 f4 f5 f6 f7 f8 f9 f10 f11 h ++ wr).set 11 (a 11, .inl (G.2.1 0, 4, .inl g))) := hH.1.2.set (p := 11) (a := a 11) (e0 := .inl (G.2.1 0, 4, .inl f11)) rfl
  exact ⟨⟨h1, h2⟩, hH.2⟩
/-- how often the first i presses of a plan use a stamp -/
def usN (R : Nat → Int32) (w : Nat) (m : Int32) (s : Nat) : Nat → Nat
  | 0 => 0
  | i + 1 => usN R w m s i + (if plP R w m i / 2 = s then 1 else 0)
def usB (R : Nat → Int32) (w : Nat) (m : Int32) (s : Nat) : Bool := decide (R (7 + 9 * s + 8) + nI (usN R w m s (pmN R w m)) ≤ R 2) || decide (R (7 + 9 * s + 8) + nI (usN R w m s (pmN R w m)) = R (7 + 9 * s + 8))
def wrB (R : Nat → Int32) (w : Nat) (m : Int32) : Bool := decide (pr R w m ≠ 100) && allB (nS R) (usB R w m)
theorem plP_le {R : Nat → Int32} {w : Nat} {m : Int32} {i : Nat} : plP R w m i ≤ 22 := by
  unfold plP pP
  exact (fstP_spec (P := okP R w m (posF R w m i)) 22).1
theorem usN_t {R : Nat → Int32} {w : Nat} {m : Int32} {s i : Nat} (h : plP R w m i / 2 = s) : usN R w m s (i + 1) = usN R w m s i + 1 := by rw [usN, if_pos h]
theorem usN_f {R : Nat → Int32} {w : Nat} {m : Int32} {s i : Nat} (h : ¬ plP R w m i / 2 = s) : usN R w m s (i + 1) = usN R w m s i + 0 := by rw [usN, if_neg h]
def prsA (R : Nat → Int32) (t : Nat) (cl : Int32) (o : Bool) : Nat → Int32 := (fun A1 => (fun A2 => (fun A3 => upd A3 (t + 7) (A3 3)) (upd A2 (t + 6) cl)) (upd A1 6 (A1 6 + (if o && decide (A1 (t + 6) ≠ -1) then nI 1 else nI 0)))) (upd R 5 (R 5 + nI 1))
def prsB (B : Nat → Int32) (t : Nat) : Nat → Int32 := (fun B1 => (fun B2 => upd B2 4 (B2 4 + nI 1)) (upd B1 (t + 8) (B1 (t + 8) + nI 1))) (upd B (t + 7) (B (t + 7) - nI 1))
/-- a press of a stamp in a color -/
def prsR (R : Nat → Int32) (s : Nat) (cl : Int32) : Nat → Int32 := prsB (if decide (R (7 + 9 * s + 6) ≠ cl) || decide (R (7 + 9 * s + 7) = nI 0) then prsA R (7 + 9 * s) cl (decide (R (7 + 9 * s + 6) ≠ cl)) else R) (7 + 9 * s)
def carR (R : Nat → Int32) (pl : Nat → Nat) (cl : Int32) : Nat → Nat → Int32
  | 0 => R
  | i + 1 => prsR (carR R pl cl i) (pl i / 2) cl
theorem hdv_X6_canWrite : yX6_canWrite.cls = RX6 ∧ yX6_canWrite.cls ≠ "java/lang/invoke/MethodHandle" ∧ yX6_canWrite.cls ≠ "java/lang/invoke/VarHandle" ∧ (parseMethodDescriptor yX6_canWrite.desc).map (fun d => d.parameters.length) = some 1 := by decide +kernel
theorem c_X6_canWrite (hE : EnvOK G E) {wN : Nat} (hR : ROk f1) (hw : wN < nW f1) : MU vI l G E yX6_canWrite cX6_canWrite 6 (some .boolean) 6 0 0 [.ref (a 0), .int (nI wN)] (mw G a x4 x5 x7 x8 x11 x15 f1 f2 f3 f4 f5 f6 f7 f8 f9 f10 f11 h ++ wr) (fun r w => ∃ g6 g7, (∀ k, k ≤ wL f1 wN → g6 k = nI (lf f1 wN (frM f1) k)) ∧ (∀ i, i < pmN f1 wN (frM f1) → g7 i = nI (plP f1 wN (frM f1) i)) ∧ r = bI (wrB f1 wN (frM f1)) ∧ w = mw G a x4 x5 x7 x8 (nI (pmN f1 wN (frM f1))) x15 f1 f2 f3 f4 f5 g6 g7 f8 f9 f10 f11 h ++ wr) := by
  refine MUz hE (by decide) (Nat.le_of_ble_eq_true rfl) (fun pR eV sT mI below meth cd QQ ls X hH hl ret => ?_)
  obtain ⟨⟨hx, hb, hml, hown, hts⟩, ⟨hr, hlk⟩, -, -, -⟩ := id X
  have hl : lv_has ls 6 [(0, .ref (a 0)), (1, .int (nI wN))] := hl
  refine wgen (H := sT.heap) (locs := []) hH (fun H locs hH => ?_)
  have hm := hR.s1
  have hw9 := hR.w1
  have hM := hR.wl1 hw
  have hpm := pmN_le hR (w := wN) (m := frM f1)
  refine lv_aload_n hx hb dX6_canWrite_0 rfl (lv_at hl 0 rfl) ?_
  refine lv_iload_n hx hb dX6_canWrite_1 rfl (lv_at hl 1 rfl) ?_
  refine lv_aload_n hx hb dX6_canWrite_2 rfl (lv_at hl 0 rfl) ?_
  refine m_R (c_X6_fresh hE hR) X hH.2 hH.mp (lw_V q1633 q1635 qs39 q72 q1636) hdv_X6_fresh ⟨Nat.le_of_ble_eq_true rfl, Nat.le_of_ble_eq_true rfl⟩ ⟨Nat.le_refl _, Nat.le_refl _⟩ rfl hl.1 rfl (Nat.le_of_ble_eq_true rfl) dX6_canWrite_3 ?_
  refine m_Mi (c_X6_plans (mk := frM f1) hE hR hw) X hH (lw_V q1684 q1686 qs48 q72 q1687) hdv_X6_plans ⟨Nat.le_of_ble_eq_true rfl, Nat.le_of_ble_eq_true rfl⟩ ⟨Nat.le_refl _, Nat.le_refl _⟩ rfl hl.1 rfl (Nat.le_of_ble_eq_true rfl) dX6_canWrite_6 (fun r w H locs hq hH => ?_)
  obtain ⟨g6, g7, hg6, hg7, rfl, rfl⟩ := hq
  refine b_if_ne (tgt := 14) hx hb dX6_canWrite_9 (by decide) (fun c0 => ?_) (fun c0 => ?_)
  · refine lv_iconst (v := nI 1) hx hb dX6_canWrite_14 (by decide) ?_
    refine lv_istore_n (lv' := [(2, .int (nI 1)), (0, .ref (a 0)), (1, .int (nI wN))]) hx hb dX6_canWrite_15 rfl hl (by decide) rfl (fun ls hl => ?_)
    refine lv_iconst (v := nI 0) hx hb dX6_canWrite_16 (by decide) ?_
    refine lv_istore_n (lv' := [(3, .int (nI 0)), (2, .int (nI 1)), (0, .ref (a 0)), (1, .int (nI wN))]) hx hb dX6_canWrite_17 rfl hl (by decide) rfl (fun ls hl => ?_)
    have hl : lv_has ls 6 [(3, .int (nI 0)), (2, .int (bI (allB 0 (usB f1 wN (frM f1))))), (0, .ref (a 0)), (1, .int (nI wN))] := by rw [← (show (nI 1 : Int32) = bI (allB 0 (usB f1 wN (frM f1))) from rfl)]; exact hl
    have lp : ∀ (fu : Nat) (sN : Nat), sN ≤ nS f1 → nS f1 - sN < fu → ∀ (H : Heap) (locs : List Loc), HH G sT (mw G a x4 x5 x7 x8 (nI (pmN f1 wN (frM f1))) x15 f1 f2 f3 f4 f5 g6 g7 f8 f9 f10 f11 h ++ wr) H locs → ∀ ls : Array Slot, lv_has ls 6 [(0, .ref (a 0)), (1, .int (nI wN)), (2, .int (bI (allB sN (usB f1 wN (frM f1))))), (3, .int (nI sN))] → W pR l eV (Rm 6 0 0) sT mI ([.ref (a 0), .int (nI wN)] : List Value).toArray below meth cd H locs 0 0 QQ (F0 mI 18 ls []) := by
      intro fu
      induction fu with
      | zero => intro sN hs hm; exact absurd hm (Nat.not_lt_zero _)
      | succ fu ih_lp =>
        intro sN hs hm H locs hH ls hl
        refine lv_iload_n hx hb dX6_canWrite_18 rfl (lv_at hl 3 rfl) ?_
        refine lv_aload_n hx hb dX6_canWrite_19 rfl (lv_at hl 0 rfl) ?_
        refine m_g0 X hH.mp dX6_canWrite_20 ?_
        refine lv_iconst (v := nI 0) hx hb dX6_canWrite_23 (by decide) ?_
        refine m_ld1 X hH.mp (by omega) dX6_canWrite_24 ?_
        refine n_top (y := nI (nS f1)) (hR.s0) ?_
        refine n_icmp_ge (tgt := 127) hx hb (by omega) (by omega) dX6_canWrite_25 (by decide) (fun c1 => ?_) (fun c1 => ?_)
        · refine lv_iload_n hx hb dX6_canWrite_127 rfl (lv_at hl 2 rfl) ?_
          refine n_top (y := bI (wrB f1 wN (frM f1))) (by unfold wrB; rw [c0, show nS f1 = sN by omega]; rfl) ?_
          exact ret _ _ _ _ _ _ _ _ hH (⟨g6, g7, hg6, hg7, rfl, rfl⟩) (bI_nar _) (Nat.le_refl _) (Nat.le_refl _) dX6_canWrite_128
        · refine lv_aload_n hx hb dX6_canWrite_28 rfl (lv_at hl 0 rfl) ?_
          refine m_g0 X hH.mp dX6_canWrite_29 ?_
          refine lv_iload_n hx hb dX6_canWrite_32 rfl (lv_at hl 3 rfl) ?_
          refine m_S (c_X6_stampAt hE) X hH.2 (lw_S q1551 q1552 q72 q1553) hds_X6_stampAt ⟨Nat.le_of_ble_eq_true rfl, Nat.le_of_ble_eq_true rfl⟩ ⟨Nat.le_refl _, Nat.le_refl _⟩ rfl hl.1 rfl (Nat.le_of_ble_eq_true rfl) dX6_canWrite_33 ?_
          refine lv_bipush (v := nI 8) hx hb dX6_canWrite_36 (by decide) ?_
          refine n_iadd hx hb dX6_canWrite_38 ?_
          refine m_ld1 X hH.mp (by omega) dX6_canWrite_39 ?_
          refine lv_istore (lv' := [(4, .int (f1 ((7 + 9 * sN) + 8))), (0, .ref (a 0)), (1, .int (nI wN)), (2, .int (bI (allB sN (usB f1 wN (frM f1))))), (3, .int (nI sN))]) hx hb dX6_canWrite_40 hl (by decide) rfl (fun ls hl => ?_)
          refine lv_iconst (v := nI 0) hx hb dX6_canWrite_42 (by decide) ?_
          refine lv_istore (lv' := [(5, .int (nI 0)), (4, .int (f1 ((7 + 9 * sN) + 8))), (0, .ref (a 0)), (1, .int (nI wN)), (2, .int (bI (allB sN (usB f1 wN (frM f1))))), (3, .int (nI sN))]) hx hb dX6_canWrite_43 hl (by decide) rfl (fun ls hl => ?_)
          have hl : lv_has ls 6 [(5, .int (nI 0)), (4, .int (f1 (7 + 9 * sN + 8) + nI (usN f1 wN (frM f1) sN 0))), (0, .ref (a 0)), (1, .int (nI wN)), (2, .int (bI (allB sN (usB f1 wN (frM f1))))), (3, .int (nI sN))] := by rw [← (show (f1 ((7 + 9 * sN) + 8) : Int32) = f1 (7 + 9 * sN + 8) + nI (usN f1 wN (frM f1) sN 0) from (i_add0 _).symm)]; exact hl
          have lq : ∀ (fu : Nat) (iN : Nat), iN ≤ pmN f1 wN (frM f1) → pmN f1 wN (frM f1) - iN < fu → ∀ (H : Heap) (locs : List Loc), HH G sT (mw G a x4 x5 x7 x8 (nI (pmN f1 wN (frM f1))) x15 f1 f2 f3 f4 f5 g6 g7 f8 f9 f10 f11 h ++ wr) H locs → ∀ ls : Array Slot, lv_has ls 6 [(0, .ref (a 0)), (1, .int (nI wN)), (2, .int (bI (allB sN (usB f1 wN (frM f1))))), (3, .int (nI sN)), (4, .int (f1 (7 + 9 * sN + 8) + nI (usN f1 wN (frM f1) sN iN))), (5, .int (nI iN))] → W pR l eV (Rm 6 0 0) sT mI ([.ref (a 0), .int (nI wN)] : List Value).toArray below meth cd H locs 0 0 QQ (F0 mI 45 ls []) := by
            intro fu
            induction fu with
            | zero => intro iN hi hm; exact absurd hm (Nat.not_lt_zero _)
            | succ fu ih_lq =>
              intro iN hi hm H locs hH ls hl
              have hq := plP_le (R := f1) (w := wN) (m := frM f1) (i := iN)
              refine lv_iload hx hb dX6_canWrite_45 (lv_at hl 5 rfl) ?_
              refine lv_aload_n hx hb dX6_canWrite_47 rfl (lv_at hl 0 rfl) ?_
              refine m_g11 X hH.mp dX6_canWrite_48 ?_
              refine n_icmp_ge (tgt := 83) hx hb (by omega) (by omega) dX6_canWrite_51 (by decide) (fun c4 => ?_) (fun c4 => ?_)
              · have hiN : iN = pmN f1 wN (frM f1) := by omega
                subst hiN
                refine lv_iload_n hx hb dX6_canWrite_83 rfl (lv_at hl 2 rfl) ?_
                refine b_if_eq (tgt := 119) hx hb dX6_canWrite_84 (by decide) (fun c5 => ?_) (fun c5 => ?_)
                · refine lv_iconst (v := nI 0) hx hb dX6_canWrite_119 (by decide) ?_
                  refine n_top (y := bI (allB (sN + 1) (usB f1 wN (frM f1)))) (bI_f (by simp only [allB, c5, Bool.false_and])) ?_
                  refine lv_istore_n (lv' := [(2, .int (bI (allB (sN + 1) (usB f1 wN (frM f1))))), (0, .ref (a 0)), (1, .int (nI wN)), (3, .int (nI sN)), (4, .int (f1 (7 + 9 * sN + 8) + nI (usN f1 wN (frM f1) sN (pmN f1 wN (frM f1))))), (5, .int (nI (pmN f1 wN (frM f1))))]) hx hb dX6_canWrite_120 rfl hl (by decide) rfl (fun ls hl => ?_)
                  refine lv_iinc (v := nI (sN + 1)) (lv' := [(3, .int (nI (sN + 1))), (2, .int (bI (allB (sN + 1) (usB f1 wN (frM f1))))), (0, .ref (a 0)), (1, .int (nI wN)), (4, .int (f1 (7 + 9 * sN + 8) + nI (usN f1 wN (frM f1) sN (pmN f1 wN (frM f1))))), (5, .int (nI (pmN f1 wN (frM f1))))]) hx hb dX6_canWrite_121 hl (k := 3) rfl (nI_add _ 1) (by decide) rfl (fun ls hl => ?_)
                  refine lv_goto (tgt := 18) hx hb dX6_canWrite_124 (by decide) ?_
                  exact ih_lp (sN + 1)  (by omega) (by omega) _ _ hH ls (lv_sub hl [2, 3, 1, 0] rfl)
                · refine lv_iload hx hb dX6_canWrite_87 (lv_at hl 4 rfl) ?_
                  refine lv_aload_n hx hb dX6_canWrite_89 rfl (lv_at hl 0 rfl) ?_
                  refine m_g0 X hH.mp dX6_canWrite_90 ?_
                  refine lv_iconst (v := nI 2) hx hb dX6_canWrite_93 (by decide) ?_
                  refine m_ld1 X hH.mp (by omega) dX6_canWrite_94 ?_
                  refine lv_icmp_le (tgt := 115) hx hb dX6_canWrite_95 (by decide) (fun c6 => ?_) (fun c6 => ?_)
                  · refine lv_iconst (v := nI 1) hx hb dX6_canWrite_115 (by decide) ?_
                    refine lv_goto (tgt := 120) hx hb dX6_canWrite_116 (by decide) ?_
                    refine n_top (y := bI (allB (sN + 1) (usB f1 wN (frM f1)))) (bI_t (by simp only [allB, c5, Bool.true_and]; unfold usB; rw [decide_eq_true c6]; rfl)) ?_
                    refine lv_istore_n (lv' := [(2, .int (bI (allB (sN + 1) (usB f1 wN (frM f1))))), (0, .ref (a 0)), (1, .int (nI wN)), (3, .int (nI sN)), (4, .int (f1 (7 + 9 * sN + 8) + nI (usN f1 wN (frM f1) sN (pmN f1 wN (frM f1))))), (5, .int (nI (pmN f1 wN (frM f1))))]) hx hb dX6_canWrite_120 rfl hl (by decide) rfl (fun ls hl => ?_)
                    refine lv_iinc (v := nI (sN + 1)) (lv' := [(3, .int (nI (sN + 1))), (2, .int (bI (allB (sN + 1) (usB f1 wN (frM f1))))), (0, .ref (a 0)), (1, .int (nI wN)), (4, .int (f1 (7 + 9 * sN + 8) + nI (usN f1 wN (frM f1) sN (pmN f1 wN (frM f1))))), (5, .int (nI (pmN f1 wN (frM f1))))]) hx hb dX6_canWrite_121 hl (k := 3) rfl (nI_add _ 1) (by decide) rfl (fun ls hl => ?_)
                    refine lv_goto (tgt := 18) hx hb dX6_canWrite_124 (by decide) ?_
                    exact ih_lp (sN + 1)  (by omega) (by omega) _ _ hH ls (lv_sub hl [2, 3, 1, 0] rfl)
                  · refine lv_iload hx hb dX6_canWrite_98 (lv_at hl 4 rfl) ?_
                    refine lv_aload_n hx hb dX6_canWrite_100 rfl (lv_at hl 0 rfl) ?_
                    refine m_g0 X hH.mp dX6_canWrite_101 ?_
                    refine lv_iload_n hx hb dX6_canWrite_104 rfl (lv_at hl 3 rfl) ?_
                    refine m_S (c_X6_stampAt hE) X hH.2 (lw_S q1551 q1552 q72 q1553) hds_X6_stampAt ⟨Nat.le_of_ble_eq_true rfl, Nat.le_of_ble_eq_true rfl⟩ ⟨Nat.le_refl _, Nat.le_refl _⟩ rfl hl.1 rfl (Nat.le_of_ble_eq_true rfl) dX6_canWrite_105 ?_
                    refine lv_bipush (v := nI 8) hx hb dX6_canWrite_108 (by decide) ?_
                    refine n_iadd hx hb dX6_canWrite_110 ?_
                    refine m_ld1 X hH.mp (by omega) dX6_canWrite_111 ?_
                    refine lv_icmp_ne (tgt := 119) hx hb dX6_canWrite_112 (by decide) (fun c7 => ?_) (fun c7 => ?_)
                    · refine lv_iconst (v := nI 0) hx hb dX6_canWrite_119 (by decide) ?_
                      refine n_top (y := bI (allB (sN + 1) (usB f1 wN (frM f1)))) (bI_f (by simp only [allB, c5, Bool.true_and]; unfold usB; rw [decide_eq_false c6, decide_eq_false c7]; rfl)) ?_
                      refine lv_istore_n (lv' := [(2, .int (bI (allB (sN + 1) (usB f1 wN (frM f1))))), (0, .ref (a 0)), (1, .int (nI wN)), (3, .int (nI sN)), (4, .int (f1 (7 + 9 * sN + 8) + nI (usN f1 wN (frM f1) sN (pmN f1 wN (frM f1))))), (5, .int (nI (pmN f1 wN (frM f1))))]) hx hb dX6_canWrite_120 rfl hl (by decide) rfl (fun ls hl => ?_)
                      refine lv_iinc (v := nI (sN + 1)) (lv' := [(3, .int (nI (sN + 1))), (2, .int (bI (allB (sN + 1) (usB f1 wN (frM f1))))), (0, .ref (a 0)), (1, .int (nI wN)), (4, .int (f1 (7 + 9 * sN + 8) + nI (usN f1 wN (frM f1) sN (pmN f1 wN (frM f1))))), (5, .int (nI (pmN f1 wN (frM f1))))]) hx hb dX6_canWrite_121 hl (k := 3) rfl (nI_add _ 1) (by decide) rfl (fun ls hl => ?_)
                      refine lv_goto (tgt := 18) hx hb dX6_canWrite_124 (by decide) ?_
                      exact ih_lp (sN + 1)  (by omega) (by omega) _ _ hH ls (lv_sub hl [2, 3, 1, 0] rfl)
                    · refine lv_iconst (v := nI 1) hx hb dX6_canWrite_115 (by decide) ?_
                      refine lv_goto (tgt := 120) hx hb dX6_canWrite_116 (by decide) ?_
                      refine n_top (y := bI (allB (sN + 1) (usB f1 wN (frM f1)))) (bI_t (by simp only [allB, c5, Bool.true_and]; unfold usB; rw [decide_eq_true c7, Bool.or_true])) ?_
                      refine lv_istore_n (lv' := [(2, .int (bI (allB (sN + 1) (usB f1 wN (frM f1))))), (0, .ref (a 0)), (1, .int (nI wN)), (3, .int (nI sN)), (4, .int (f1 (7 + 9 * sN + 8) + nI (usN f1 wN (frM f1) sN (pmN f1 wN (frM f1))))), (5, .int (nI (pmN f1 wN (frM f1))))]) hx hb dX6_canWrite_120 rfl hl (by decide) rfl (fun ls hl => ?_)
                      refine lv_iinc (v := nI (sN + 1)) (lv' := [(3, .int (nI (sN + 1))), (2, .int (bI (allB (sN + 1) (usB f1 wN (frM f1))))), (0, .ref (a 0)), (1, .int (nI wN)), (4, .int (f1 (7 + 9 * sN + 8) + nI (usN f1 wN (frM f1) sN (pmN f1 wN (frM f1))))), (5, .int (nI (pmN f1 wN (frM f1))))]) hx hb dX6_canWrite_121 hl (k := 3) rfl (nI_add _ 1) (by decide) rfl (fun ls hl => ?_)
                      refine lv_goto (tgt := 18) hx hb dX6_canWrite_124 (by decide) ?_
                      exact ih_lp (sN + 1)  (by omega) (by omega) _ _ hH ls (lv_sub hl [2, 3, 1, 0] rfl)
              · refine lv_iload hx hb dX6_canWrite_54 (lv_at hl 4 rfl) ?_
                refine lv_aload_n hx hb dX6_canWrite_56 rfl (lv_at hl 0 rfl) ?_
                refine m_g10 X hH.mp dX6_canWrite_57 ?_
                refine lv_iload hx hb dX6_canWrite_60 (lv_at hl 5 rfl) ?_
                refine m_ld7 X hH.mp (by omega) dX6_canWrite_62 ?_
                refine n_top (y := nI (plP f1 wN (frM f1) iN)) (hg7 iN c4) ?_
                refine lv_iconst (v := nI 2) hx hb dX6_canWrite_63 (by decide) ?_
                refine n_idiv hx hb (by omega) (by omega) (by omega) dX6_canWrite_64 ?_
                refine lv_iload_n hx hb dX6_canWrite_65 rfl (lv_at hl 3 rfl) ?_
                refine n_icmp_ne (tgt := 73) hx hb (by omega) (by omega) dX6_canWrite_66 (by decide) (fun c8 => ?_) (fun c8 => ?_)
                · refine lv_iconst (v := nI 0) hx hb dX6_canWrite_73 (by decide) ?_
                  refine lv_iadd hx hb dX6_canWrite_74 ?_
                  refine n_top (y := f1 (7 + 9 * sN + 8) + nI (usN f1 wN (frM f1) sN (iN + 1))) (by rw [usN_f c8]; exact i_addn _ _ _) ?_
                  refine lv_istore (lv' := [(4, .int (f1 (7 + 9 * sN + 8) + nI (usN f1 wN (frM f1) sN (iN + 1)))), (0, .ref (a 0)), (1, .int (nI wN)), (2, .int (bI (allB sN (usB f1 wN (frM f1))))), (3, .int (nI sN)), (5, .int (nI iN))]) hx hb dX6_canWrite_75 hl (by decide) rfl (fun ls hl => ?_)
                  refine lv_iinc (v := nI (iN + 1)) (lv' := [(5, .int (nI (iN + 1))), (4, .int (f1 (7 + 9 * sN + 8) + nI (usN f1 wN (frM f1) sN (iN + 1)))), (0, .ref (a 0)), (1, .int (nI wN)), (2, .int (bI (allB sN (usB f1 wN (frM f1))))), (3, .int (nI sN))]) hx hb dX6_canWrite_77 hl (k := 5) rfl (nI_add _ 1) (by decide) rfl (fun ls hl => ?_)
                  refine lv_goto (tgt := 45) hx hb dX6_canWrite_80 (by decide) ?_
                  exact ih_lq (iN + 1)  (by omega) (by omega) _ _ hH ls (lv_sub hl [2, 3, 4, 5, 1, 0] rfl)
                · refine lv_iconst (v := nI 1) hx hb dX6_canWrite_69 (by decide) ?_
                  refine lv_goto (tgt := 74) hx hb dX6_canWrite_70 (by decide) ?_
                  refine lv_iadd hx hb dX6_canWrite_74 ?_
                  refine n_top (y := f1 (7 + 9 * sN + 8) + nI (usN f1 wN (frM f1) sN (iN + 1))) (by rw [usN_t c8]; exact i_addn _ _ _) ?_
                  refine lv_istore (lv' := [(4, .int (f1 (7 + 9 * sN + 8) + nI (usN f1 wN (frM f1) sN (iN + 1)))), (0, .ref (a 0)), (1, .int (nI wN)), (2, .int (bI (allB sN (usB f1 wN (frM f1))))), (3, .int (nI sN)), (5, .int (nI iN))]) hx hb dX6_canWrite_75 hl (by decide) rfl (fun ls hl => ?_)
                  refine lv_iinc (v := nI (iN + 1)) (lv' := [(5, .int (nI (iN + 1))), (4, .int (f1 (7 + 9 * sN + 8) + nI (usN f1 wN (frM f1) sN (iN + 1)))), (0, .ref (a 0)), (1, .int (nI wN)), (2, .int (bI (allB sN (usB f1 wN (frM f1))))), (3, .int (nI sN))]) hx hb dX6_canWrite_77 hl (k := 5) rfl (nI_add _ 1) (by decide) rfl (fun ls hl => ?_)
                  refine lv_goto (tgt := 45) hx hb dX6_canWrite_80 (by decide) ?_
                  exact ih_lq (iN + 1)  (by omega) (by omega) _ _ hH ls (lv_sub hl [2, 3, 4, 5, 1, 0] rfl)
          exact lq _ 0  (Nat.zero_le _) (Nat.lt_succ_self _) _ _ hH ls (lv_sub hl [2, 3, 4, 5, 1, 0] rfl)
    exact lp _ 0  (Nat.zero_le _) (Nat.lt_succ_self _) _ _ hH ls (lv_sub hl [2, 3, 1, 0] rfl)
  · refine lv_iconst (v := nI 0) hx hb dX6_canWrite_12 (by decide) ?_
    refine n_top (y := bI (wrB f1 wN (frM f1))) (bI_f (by unfold wrB; rw [c0]; rfl)) ?_
    exact ret _ _ _ _ _ _ _ _ hH (⟨g6, g7, hg6, hg7, rfl, rfl⟩) (bI_nar _) (Nat.le_refl _) (Nat.le_refl _) dX6_canWrite_13
theorem hdv_X6_carries : yX6_carries.cls = RX6 ∧ yX6_carries.cls ≠ "java/lang/invoke/MethodHandle" ∧ yX6_carries.cls ≠ "java/lang/invoke/VarHandle" ∧ (parseMethodDescriptor yX6_carries.desc).map (fun d => d.parameters.length) = some 1 := by decide +kernel
theorem c_X6_carries (hE : EnvOK G E) {nP : Nat} {pl : Nat → Nat} {cl : Int32} (hn : nP ≤ 12) (hp : ∀ i, i < nP → f7 i = nI (pl i) ∧ pl i < 20) : MU vV l G E yX6_carries cX6_carries 5 none 2 0 0 [.ref (a 0), .int cl] (mw G a x4 x5 x7 x8 (nI nP) x15 f1 f2 f3 f4 f5 f6 f7 f8 f9 f10 f11 h ++ wr) (fun _ w => w = mw G a x4 x5 x7 x8 (nI nP) x15 (carR f1 pl cl nP) f2 f3 f4 f5 f6 f7 f8 f9 f10 f11 h ++ wr) := by
  refine MUv hE (by decide) (Nat.le_of_ble_eq_true rfl) (fun pR eV sT mI below meth cd QQ ls X hH hl ret => ?_)
  obtain ⟨⟨hx, hb, hml, hown, hts⟩, ⟨hr, hlk⟩, -, -, -⟩ := id X
  have hl : lv_has ls 5 [(0, .ref (a 0)), (1, .int cl)] := hl
  refine wgen (H := sT.heap) (locs := []) hH (fun H locs hH => ?_)
  refine lv_iconst (v := nI 0) hx hb dX6_carries_0 (by decide) ?_
  refine lv_istore_n (lv' := [(2, .int (nI 0)), (0, .ref (a 0)), (1, .int cl)]) hx hb dX6_carries_1 rfl hl (by decide) rfl (fun ls hl => ?_)
  rw [show f1 = carR f1 pl cl 0 from rfl] at hH
  have lp : ∀ (fu : Nat) (iN : Nat), iN ≤ nP → nP - iN < fu → ∀ (H : Heap) (locs : List Loc), HH G sT (mw G a x4 x5 x7 x8 (nI nP) x15 (carR f1 pl cl iN) f2 f3 f4 f5 f6 f7 f8 f9 f10 f11 h ++ wr) H locs → ∀ ls : Array Slot, lv_has ls 5 [(0, .ref (a 0)), (1, .int cl), (2, .int (nI iN))] → W pR l eV (Rm 2 0 0) sT mI ([.ref (a 0), .int cl] : List Value).toArray below meth cd H locs 0 0 QQ (F0 mI 2 ls []) := by
    intro fu
    induction fu with
    | zero => intro iN hi hm; exact absurd hm (Nat.not_lt_zero _)
    | succ fu ih_lp =>
      intro iN hi hm H locs hH ls hl
      refine lv_iload_n hx hb dX6_carries_2 rfl (lv_at hl 2 rfl) ?_
      refine lv_aload_n hx hb dX6_carries_3 rfl (lv_at hl 0 rfl) ?_
      refine m_g11 X hH.mp dX6_carries_4 ?_
      refine n_icmp_ge (tgt := 169) hx hb (by omega) (by omega) dX6_carries_7 (by decide) (fun c1 => ?_) (fun c1 => ?_)
      · rw [show carR f1 pl cl iN = carR f1 pl cl nP from by rw [show nP = iN by omega]] at hH
        exact ret _ _ _ _ _ _ _ hH rfl (Nat.le_refl _) (Nat.le_refl _) dX6_carries_169
      · obtain ⟨hp1, hp2⟩ := hp iN c1
        refine lv_aload_n hx hb dX6_carries_10 rfl (lv_at hl 0 rfl) ?_
        refine m_g10 X hH.mp dX6_carries_11 ?_
        refine lv_iload_n hx hb dX6_carries_14 rfl (lv_at hl 2 rfl) ?_
        refine m_ld7 X hH.mp (by omega) dX6_carries_15 ?_
        refine n_top (y := nI (pl iN)) (hp1) ?_
        refine lv_iconst (v := nI 2) hx hb dX6_carries_16 (by decide) ?_
        refine n_idiv hx hb (by omega) (by omega) (by omega) dX6_carries_17 ?_
        refine m_S (c_X6_stampAt hE) X hH.2 (lw_S q1551 q1552 q72 q1553) hds_X6_stampAt ⟨Nat.le_of_ble_eq_true rfl, Nat.le_of_ble_eq_true rfl⟩ ⟨Nat.le_refl _, Nat.le_refl _⟩ rfl hl.1 rfl (Nat.le_of_ble_eq_true rfl) dX6_carries_18 ?_
        refine lv_istore_n (lv' := [(3, .int (nI (7 + 9 * ((pl iN) / 2)))), (0, .ref (a 0)), (1, .int cl), (2, .int (nI iN))]) hx hb dX6_carries_21 rfl hl (by decide) rfl (fun ls hl => ?_)
        refine lv_aload_n hx hb dX6_carries_22 rfl (lv_at hl 1 rfl) ?_
        refine m_g0 X hH.mp dX6_carries_23 ?_
        refine lv_iload_n hx hb dX6_carries_26 rfl (lv_at hl 0 rfl) ?_
        refine lv_bipush (v := nI 6) hx hb dX6_carries_27 (by decide) ?_
        refine n_iadd hx hb dX6_carries_29 ?_
        refine m_ld1 X hH.mp (by omega) dX6_carries_30 ?_
        refine lv_iload_n hx hb dX6_carries_31 rfl (lv_at hl 2 rfl) ?_
        refine lv_icmp_eq (tgt := 39) hx hb dX6_carries_32 (by decide) (fun c2 => ?_) (fun c2 => ?_)
        · refine lv_iconst (v := nI 0) hx hb dX6_carries_39 (by decide) ?_
          refine lv_istore (lv' := [(4, .int (nI 0)), (3, .int (nI (7 + 9 * ((pl iN) / 2)))), (0, .ref (a 0)), (1, .int cl), (2, .int (nI iN))]) hx hb dX6_carries_40 hl (by decide) rfl (fun ls hl => ?_)
          refine lv_iload hx hb dX6_carries_42 (lv_at hl 0 rfl) ?_
          refine lv_if_ne (tgt := 59) hx hb dX6_carries_44 (by decide) (fun h => absurd rfl h) (fun _ => ?_)
          refine lv_aload_n hx hb dX6_carries_47 rfl (lv_at hl 2 rfl) ?_
          refine m_g0 X hH.mp dX6_carries_48 ?_
          refine lv_iload_n hx hb dX6_carries_51 rfl (lv_at hl 1 rfl) ?_
          refine lv_bipush (v := nI 7) hx hb dX6_carries_52 (by decide) ?_
          refine n_iadd hx hb dX6_carries_54 ?_
          refine m_ld1 X hH.mp (by omega) dX6_carries_55 ?_
          refine lv_if_ne (tgt := 127) hx hb dX6_carries_56 (by decide) (fun c3 => ?_) (fun c3 => ?_)
          · refine lv_aload_n hx hb dX6_carries_127 rfl (lv_at hl 2 rfl) ?_
            refine m_g0 X hH.mp dX6_carries_128 ?_
            refine lv_iload_n hx hb dX6_carries_131 rfl (lv_at hl 1 rfl) ?_
            refine lv_bipush (v := nI 7) hx hb dX6_carries_132 (by decide) ?_
            refine n_iadd hx hb dX6_carries_134 ?_
            refine lv_dup2_11 hx hb dX6_carries_135 rfl rfl ?_
            refine m_ld1 X hH.mp (by omega) dX6_carries_136 ?_
            refine lv_iconst (v := nI 1) hx hb dX6_carries_137 (by decide) ?_
            refine lv_isub hx hb dX6_carries_138 ?_
            refine m_st1 X hH (by omega) dX6_carries_139 (fun f1_1 H locs ef1_1 hH => ?_)
            refine lv_aload_n hx hb dX6_carries_140 rfl (lv_at hl 2 rfl) ?_
            refine m_g0 X hH.mp dX6_carries_141 ?_
            refine lv_iload_n hx hb dX6_carries_144 rfl (lv_at hl 1 rfl) ?_
            refine lv_bipush (v := nI 8) hx hb dX6_carries_145 (by decide) ?_
            refine n_iadd hx hb dX6_carries_147 ?_
            refine lv_dup2_11 hx hb dX6_carries_148 rfl rfl ?_
            refine m_ld1 X hH.mp (by omega) dX6_carries_149 ?_
            refine lv_iconst (v := nI 1) hx hb dX6_carries_150 (by decide) ?_
            refine lv_iadd hx hb dX6_carries_151 ?_
            refine m_st1 X hH (by omega) dX6_carries_152 (fun f1_2 H locs ef1_2 hH => ?_)
            refine lv_aload_n hx hb dX6_carries_153 rfl (lv_at hl 2 rfl) ?_
            refine m_g0 X hH.mp dX6_carries_154 ?_
            refine lv_iconst (v := nI 4) hx hb dX6_carries_157 (by decide) ?_
            refine lv_dup2_11 hx hb dX6_carries_158 rfl rfl ?_
            refine m_ld1 X hH.mp (by omega) dX6_carries_159 ?_
            refine lv_iconst (v := nI 1) hx hb dX6_carries_160 (by decide) ?_
            refine lv_iadd hx hb dX6_carries_161 ?_
            refine m_st1 X hH (by omega) dX6_carries_162 (fun f1_3 H locs ef1_3 hH => ?_)
            refine lv_iinc (v := nI (iN + 1)) (lv' := [(2, .int (nI (iN + 1))), (4, .int (nI 0)), (3, .int (nI (7 + 9 * ((pl iN) / 2)))), (0, .ref (a 0)), (1, .int cl)]) hx hb dX6_carries_163 hl (k := 4) rfl (nI_add _ 1) (by decide) rfl (fun ls hl => ?_)
            refine lv_goto (tgt := 2) hx hb dX6_carries_166 (by decide) ?_
            have hB : prsR (carR f1 pl cl iN) (pl iN / 2) cl = f1_3 := by unfold prsR; rw [if_neg (by simp [c2]; exact c3)]; unfold prsB; dsimp only; rw [← ef1_1, ← ef1_2, ← ef1_3]
            rw [show f1_3 = carR f1 pl cl (iN + 1) from hB.symm] at hH
            exact ih_lp (iN + 1)  (by omega) (by omega) _ _ hH ls (lv_sub hl [3, 4, 0] rfl)
          · refine lv_aload_n hx hb dX6_carries_59 rfl (lv_at hl 2 rfl) ?_
            refine m_g0 X hH.mp dX6_carries_60 ?_
            refine lv_iconst (v := nI 5) hx hb dX6_carries_63 (by decide) ?_
            refine lv_dup2_11 hx hb dX6_carries_64 rfl rfl ?_
            refine m_ld1 X hH.mp (by omega) dX6_carries_65 ?_
            refine lv_iconst (v := nI 1) hx hb dX6_carries_66 (by decide) ?_
            refine lv_iadd hx hb dX6_carries_67 ?_
            refine m_st1 X hH (by omega) dX6_carries_68 (fun f1_4 H locs ef1_4 hH => ?_)
            refine lv_aload_n hx hb dX6_carries_69 rfl (lv_at hl 2 rfl) ?_
            refine m_g0 X hH.mp dX6_carries_70 ?_
            refine lv_bipush (v := nI 6) hx hb dX6_carries_73 (by decide) ?_
            refine lv_dup2_11 hx hb dX6_carries_75 rfl rfl ?_
            refine m_ld1 X hH.mp (by omega) dX6_carries_76 ?_
            refine lv_iload hx hb dX6_carries_77 (lv_at hl 0 rfl) ?_
            refine lv_if_eq (tgt := 99) hx hb dX6_carries_79 (by decide) (fun _ => ?_) (fun h => absurd rfl h)
            refine lv_iconst (v := nI 0) hx hb dX6_carries_99 (by decide) ?_
            refine lv_iadd hx hb dX6_carries_100 ?_
            refine m_st1 X hH (by omega) dX6_carries_101 (fun f1_5 H locs ef1_5 hH => ?_)
            refine lv_aload_n hx hb dX6_carries_102 rfl (lv_at hl 2 rfl) ?_
            refine m_g0 X hH.mp dX6_carries_103 ?_
            refine lv_iload_n hx hb dX6_carries_106 rfl (lv_at hl 1 rfl) ?_
            refine lv_bipush (v := nI 6) hx hb dX6_carries_107 (by decide) ?_
            refine n_iadd hx hb dX6_carries_109 ?_
            refine lv_iload_n hx hb dX6_carries_110 rfl (lv_at hl 3 rfl) ?_
            refine m_st1 X hH (by omega) dX6_carries_111 (fun f1_6 H locs ef1_6 hH => ?_)
            refine lv_aload_n hx hb dX6_carries_112 rfl (lv_at hl 2 rfl) ?_
            refine m_g0 X hH.mp dX6_carries_113 ?_
            refine lv_iload_n hx hb dX6_carries_116 rfl (lv_at hl 1 rfl) ?_
            refine lv_bipush (v := nI 7) hx hb dX6_carries_117 (by decide) ?_
            refine n_iadd hx hb dX6_carries_119 ?_
            refine lv_aload_n hx hb dX6_carries_120 rfl (lv_at hl 2 rfl) ?_
            refine m_g0 X hH.mp dX6_carries_121 ?_
            refine lv_iconst (v := nI 3) hx hb dX6_carries_124 (by decide) ?_
            refine m_ld1 X hH.mp (by omega) dX6_carries_125 ?_
            refine m_st1 X hH (by omega) dX6_carries_126 (fun f1_7 H locs ef1_7 hH => ?_)
            refine lv_aload_n hx hb dX6_carries_127 rfl (lv_at hl 2 rfl) ?_
            refine m_g0 X hH.mp dX6_carries_128 ?_
            refine lv_iload_n hx hb dX6_carries_131 rfl (lv_at hl 1 rfl) ?_
            refine lv_bipush (v := nI 7) hx hb dX6_carries_132 (by decide) ?_
            refine n_iadd hx hb dX6_carries_134 ?_
            refine lv_dup2_11 hx hb dX6_carries_135 rfl rfl ?_
            refine m_ld1 X hH.mp (by omega) dX6_carries_136 ?_
            refine lv_iconst (v := nI 1) hx hb dX6_carries_137 (by decide) ?_
            refine lv_isub hx hb dX6_carries_138 ?_
            refine m_st1 X hH (by omega) dX6_carries_139 (fun f1_8 H locs ef1_8 hH => ?_)
            refine lv_aload_n hx hb dX6_carries_140 rfl (lv_at hl 2 rfl) ?_
            refine m_g0 X hH.mp dX6_carries_141 ?_
            refine lv_iload_n hx hb dX6_carries_144 rfl (lv_at hl 1 rfl) ?_
            refine lv_bipush (v := nI 8) hx hb dX6_carries_145 (by decide) ?_
            refine n_iadd hx hb dX6_carries_147 ?_
            refine lv_dup2_11 hx hb dX6_carries_148 rfl rfl ?_
            refine m_ld1 X hH.mp (by omega) dX6_carries_149 ?_
            refine lv_iconst (v := nI 1) hx hb dX6_carries_150 (by decide) ?_
            refine lv_iadd hx hb dX6_carries_151 ?_
            refine m_st1 X hH (by omega) dX6_carries_152 (fun f1_9 H locs ef1_9 hH => ?_)
            refine lv_aload_n hx hb dX6_carries_153 rfl (lv_at hl 2 rfl) ?_
            refine m_g0 X hH.mp dX6_carries_154 ?_
            refine lv_iconst (v := nI 4) hx hb dX6_carries_157 (by decide) ?_
            refine lv_dup2_11 hx hb dX6_carries_158 rfl rfl ?_
            refine m_ld1 X hH.mp (by omega) dX6_carries_159 ?_
            refine lv_iconst (v := nI 1) hx hb dX6_carries_160 (by decide) ?_
            refine lv_iadd hx hb dX6_carries_161 ?_
            refine m_st1 X hH (by omega) dX6_carries_162 (fun f1_10 H locs ef1_10 hH => ?_)
            refine lv_iinc (v := nI (iN + 1)) (lv' := [(2, .int (nI (iN + 1))), (4, .int (nI 0)), (3, .int (nI (7 + 9 * ((pl iN) / 2)))), (0, .ref (a 0)), (1, .int cl)]) hx hb dX6_carries_163 hl (k := 4) rfl (nI_add _ 1) (by decide) rfl (fun ls hl => ?_)
            refine lv_goto (tgt := 2) hx hb dX6_carries_166 (by decide) ?_
            have hA : prsA (carR f1 pl cl iN) (7 + 9 * (pl iN / 2)) cl false = f1_7 := by unfold prsA; dsimp only; rw [← ef1_4]; rw [if_neg (by simp)]; rw [← ef1_5, ← ef1_6]; rw [← ef1_7]; try rfl
            have hB : prsR (carR f1 pl cl iN) (pl iN / 2) cl = f1_10 := by unfold prsR; rw [show (decide (carR f1 pl cl iN (7 + 9 * (pl iN / 2) + 6) ≠ cl)) = false by simp [c2], if_pos (by simp; exact c3), hA]; unfold prsB; dsimp only; rw [← ef1_8, ← ef1_9, ← ef1_10]
            rw [show f1_10 = carR f1 pl cl (iN + 1) from hB.symm] at hH
            exact ih_lp (iN + 1)  (by omega) (by omega) _ _ hH ls (lv_sub hl [3, 4, 0] rfl)
        · refine lv_iconst (v := nI 1) hx hb dX6_carries_35 (by decide) ?_
          refine lv_goto (tgt := 40) hx hb dX6_carries_36 (by decide) ?_
          refine lv_istore (lv' := [(4, .int (nI 1)), (3, .int (nI (7 + 9 * ((pl iN) / 2)))), (0, .ref (a 0)), (1, .int cl), (2, .int (nI iN))]) hx hb dX6_carries_40 hl (by decide) rfl (fun ls hl => ?_)
          refine lv_iload hx hb dX6_carries_42 (lv_at hl 0 rfl) ?_
          refine lv_if_ne (tgt := 59) hx hb dX6_carries_44 (by decide) (fun _ => ?_) (fun h => absurd h (by decide))
          refine lv_aload_n hx hb dX6_carries_59 rfl (lv_at hl 2 rfl) ?_
          refine m_g0 X hH.mp dX6_carries_60 ?_
          refine lv_iconst (v := nI 5) hx hb dX6_carries_63 (by decide) ?_
          refine lv_dup2_11 hx hb dX6_carries_64 rfl rfl ?_
          refine m_ld1 X hH.mp (by omega) dX6_carries_65 ?_
          refine lv_iconst (v := nI 1) hx hb dX6_carries_66 (by decide) ?_
          refine lv_iadd hx hb dX6_carries_67 ?_
          refine m_st1 X hH (by omega) dX6_carries_68 (fun f1_11 H locs ef1_11 hH => ?_)
          refine lv_aload_n hx hb dX6_carries_69 rfl (lv_at hl 2 rfl) ?_
          refine m_g0 X hH.mp dX6_carries_70 ?_
          refine lv_bipush (v := nI 6) hx hb dX6_carries_73 (by decide) ?_
          refine lv_dup2_11 hx hb dX6_carries_75 rfl rfl ?_
          refine m_ld1 X hH.mp (by omega) dX6_carries_76 ?_
          refine lv_iload hx hb dX6_carries_77 (lv_at hl 0 rfl) ?_
          refine lv_if_eq (tgt := 99) hx hb dX6_carries_79 (by decide) (fun h => absurd h (by decide)) (fun _ => ?_)
          refine lv_aload_n hx hb dX6_carries_82 rfl (lv_at hl 2 rfl) ?_
          refine m_g0 X hH.mp dX6_carries_83 ?_
          refine lv_iload_n hx hb dX6_carries_86 rfl (lv_at hl 1 rfl) ?_
          refine lv_bipush (v := nI 6) hx hb dX6_carries_87 (by decide) ?_
          refine n_iadd hx hb dX6_carries_89 ?_
          refine m_ld1 X hH.mp (by omega) dX6_carries_90 ?_
          refine lv_iconst (v := (-1)) hx hb dX6_carries_91 (by decide) ?_
          refine lv_icmp_eq (tgt := 99) hx hb dX6_carries_92 (by decide) (fun c5 => ?_) (fun c5 => ?_)
          · refine lv_iconst (v := nI 0) hx hb dX6_carries_99 (by decide) ?_
            refine lv_iadd hx hb dX6_carries_100 ?_
            refine m_st1 X hH (by omega) dX6_carries_101 (fun f1_12 H locs ef1_12 hH => ?_)
            refine lv_aload_n hx hb dX6_carries_102 rfl (lv_at hl 2 rfl) ?_
            refine m_g0 X hH.mp dX6_carries_103 ?_
            refine lv_iload_n hx hb dX6_carries_106 rfl (lv_at hl 1 rfl) ?_
            refine lv_bipush (v := nI 6) hx hb dX6_carries_107 (by decide) ?_
            refine n_iadd hx hb dX6_carries_109 ?_
            refine lv_iload_n hx hb dX6_carries_110 rfl (lv_at hl 3 rfl) ?_
            refine m_st1 X hH (by omega) dX6_carries_111 (fun f1_13 H locs ef1_13 hH => ?_)
            refine lv_aload_n hx hb dX6_carries_112 rfl (lv_at hl 2 rfl) ?_
            refine m_g0 X hH.mp dX6_carries_113 ?_
            refine lv_iload_n hx hb dX6_carries_116 rfl (lv_at hl 1 rfl) ?_
            refine lv_bipush (v := nI 7) hx hb dX6_carries_117 (by decide) ?_
            refine n_iadd hx hb dX6_carries_119 ?_
            refine lv_aload_n hx hb dX6_carries_120 rfl (lv_at hl 2 rfl) ?_
            refine m_g0 X hH.mp dX6_carries_121 ?_
            refine lv_iconst (v := nI 3) hx hb dX6_carries_124 (by decide) ?_
            refine m_ld1 X hH.mp (by omega) dX6_carries_125 ?_
            refine m_st1 X hH (by omega) dX6_carries_126 (fun f1_14 H locs ef1_14 hH => ?_)
            refine lv_aload_n hx hb dX6_carries_127 rfl (lv_at hl 2 rfl) ?_
            refine m_g0 X hH.mp dX6_carries_128 ?_
            refine lv_iload_n hx hb dX6_carries_131 rfl (lv_at hl 1 rfl) ?_
            refine lv_bipush (v := nI 7) hx hb dX6_carries_132 (by decide) ?_
            refine n_iadd hx hb dX6_carries_134 ?_
            refine lv_dup2_11 hx hb dX6_carries_135 rfl rfl ?_
            refine m_ld1 X hH.mp (by omega) dX6_carries_136 ?_
            refine lv_iconst (v := nI 1) hx hb dX6_carries_137 (by decide) ?_
            refine lv_isub hx hb dX6_carries_138 ?_
            refine m_st1 X hH (by omega) dX6_carries_139 (fun f1_15 H locs ef1_15 hH => ?_)
            refine lv_aload_n hx hb dX6_carries_140 rfl (lv_at hl 2 rfl) ?_
            refine m_g0 X hH.mp dX6_carries_141 ?_
            refine lv_iload_n hx hb dX6_carries_144 rfl (lv_at hl 1 rfl) ?_
            refine lv_bipush (v := nI 8) hx hb dX6_carries_145 (by decide) ?_
            refine n_iadd hx hb dX6_carries_147 ?_
            refine lv_dup2_11 hx hb dX6_carries_148 rfl rfl ?_
            refine m_ld1 X hH.mp (by omega) dX6_carries_149 ?_
            refine lv_iconst (v := nI 1) hx hb dX6_carries_150 (by decide) ?_
            refine lv_iadd hx hb dX6_carries_151 ?_
            refine m_st1 X hH (by omega) dX6_carries_152 (fun f1_16 H locs ef1_16 hH => ?_)
            refine lv_aload_n hx hb dX6_carries_153 rfl (lv_at hl 2 rfl) ?_
            refine m_g0 X hH.mp dX6_carries_154 ?_
            refine lv_iconst (v := nI 4) hx hb dX6_carries_157 (by decide) ?_
            refine lv_dup2_11 hx hb dX6_carries_158 rfl rfl ?_
            refine m_ld1 X hH.mp (by omega) dX6_carries_159 ?_
            refine lv_iconst (v := nI 1) hx hb dX6_carries_160 (by decide) ?_
            refine lv_iadd hx hb dX6_carries_161 ?_
            refine m_st1 X hH (by omega) dX6_carries_162 (fun f1_17 H locs ef1_17 hH => ?_)
            refine lv_iinc (v := nI (iN + 1)) (lv' := [(2, .int (nI (iN + 1))), (4, .int (nI 1)), (3, .int (nI (7 + 9 * ((pl iN) / 2)))), (0, .ref (a 0)), (1, .int cl)]) hx hb dX6_carries_163 hl (k := 4) rfl (nI_add _ 1) (by decide) rfl (fun ls hl => ?_)
            refine lv_goto (tgt := 2) hx hb dX6_carries_166 (by decide) ?_
            have hA : prsA (carR f1 pl cl iN) (7 + 9 * (pl iN / 2)) cl true = f1_14 := by unfold prsA; dsimp only; rw [← ef1_11]; rw [if_neg (by simp [c5])]; rw [← ef1_12, ← ef1_13]; rw [← ef1_14]; try rfl
            have hB : prsR (carR f1 pl cl iN) (pl iN / 2) cl = f1_17 := by unfold prsR; rw [show (decide (carR f1 pl cl iN (7 + 9 * (pl iN / 2) + 6) ≠ cl)) = true from decide_eq_true c2, if_pos (by simp), hA]; unfold prsB; dsimp only; rw [← ef1_15, ← ef1_16, ← ef1_17]
            rw [show f1_17 = carR f1 pl cl (iN + 1) from hB.symm] at hH
            exact ih_lp (iN + 1)  (by omega) (by omega) _ _ hH ls (lv_sub hl [3, 4, 0] rfl)
          · refine lv_iconst (v := nI 1) hx hb dX6_carries_95 (by decide) ?_
            refine lv_goto (tgt := 100) hx hb dX6_carries_96 (by decide) ?_
            refine lv_iadd hx hb dX6_carries_100 ?_
            refine m_st1 X hH (by omega) dX6_carries_101 (fun f1_18 H locs ef1_18 hH => ?_)
            refine lv_aload_n hx hb dX6_carries_102 rfl (lv_at hl 2 rfl) ?_
            refine m_g0 X hH.mp dX6_carries_103 ?_
            refine lv_iload_n hx hb dX6_carries_106 rfl (lv_at hl 1 rfl) ?_
            refine lv_bipush (v := nI 6) hx hb dX6_carries_107 (by decide) ?_
            refine n_iadd hx hb dX6_carries_109 ?_
            refine lv_iload_n hx hb dX6_carries_110 rfl (lv_at hl 3 rfl) ?_
            refine m_st1 X hH (by omega) dX6_carries_111 (fun f1_19 H locs ef1_19 hH => ?_)
            refine lv_aload_n hx hb dX6_carries_112 rfl (lv_at hl 2 rfl) ?_
            refine m_g0 X hH.mp dX6_carries_113 ?_
            refine lv_iload_n hx hb dX6_carries_116 rfl (lv_at hl 1 rfl) ?_
            refine lv_bipush (v := nI 7) hx hb dX6_carries_117 (by decide) ?_
            refine n_iadd hx hb dX6_carries_119 ?_
            refine lv_aload_n hx hb dX6_carries_120 rfl (lv_at hl 2 rfl) ?_
            refine m_g0 X hH.mp dX6_carries_121 ?_
            refine lv_iconst (v := nI 3) hx hb dX6_carries_124 (by decide) ?_
            refine m_ld1 X hH.mp (by omega) dX6_carries_125 ?_
            refine m_st1 X hH (by omega) dX6_carries_126 (fun f1_20 H locs ef1_20 hH => ?_)
            refine lv_aload_n hx hb dX6_carries_127 rfl (lv_at hl 2 rfl) ?_
            refine m_g0 X hH.mp dX6_carries_128 ?_
            refine lv_iload_n hx hb dX6_carries_131 rfl (lv_at hl 1 rfl) ?_
            refine lv_bipush (v := nI 7) hx hb dX6_carries_132 (by decide) ?_
            refine n_iadd hx hb dX6_carries_134 ?_
            refine lv_dup2_11 hx hb dX6_carries_135 rfl rfl ?_
            refine m_ld1 X hH.mp (by omega) dX6_carries_136 ?_
            refine lv_iconst (v := nI 1) hx hb dX6_carries_137 (by decide) ?_
            refine lv_isub hx hb dX6_carries_138 ?_
            refine m_st1 X hH (by omega) dX6_carries_139 (fun f1_21 H locs ef1_21 hH => ?_)
            refine lv_aload_n hx hb dX6_carries_140 rfl (lv_at hl 2 rfl) ?_
            refine m_g0 X hH.mp dX6_carries_141 ?_
            refine lv_iload_n hx hb dX6_carries_144 rfl (lv_at hl 1 rfl) ?_
            refine lv_bipush (v := nI 8) hx hb dX6_carries_145 (by decide) ?_
            refine n_iadd hx hb dX6_carries_147 ?_
            refine lv_dup2_11 hx hb dX6_carries_148 rfl rfl ?_
            refine m_ld1 X hH.mp (by omega) dX6_carries_149 ?_
            refine lv_iconst (v := nI 1) hx hb dX6_carries_150 (by decide) ?_
            refine lv_iadd hx hb dX6_carries_151 ?_
            refine m_st1 X hH (by omega) dX6_carries_152 (fun f1_22 H locs ef1_22 hH => ?_)
            refine lv_aload_n hx hb dX6_carries_153 rfl (lv_at hl 2 rfl) ?_
            refine m_g0 X hH.mp dX6_carries_154 ?_
            refine lv_iconst (v := nI 4) hx hb dX6_carries_157 (by decide) ?_
            refine lv_dup2_11 hx hb dX6_carries_158 rfl rfl ?_
            refine m_ld1 X hH.mp (by omega) dX6_carries_159 ?_
            refine lv_iconst (v := nI 1) hx hb dX6_carries_160 (by decide) ?_
            refine lv_iadd hx hb dX6_carries_161 ?_
            refine m_st1 X hH (by omega) dX6_carries_162 (fun f1_23 H locs ef1_23 hH => ?_)
            refine lv_iinc (v := nI (iN + 1)) (lv' := [(2, .int (nI (iN + 1))), (4, .int (nI 1)), (3, .int (nI (7 + 9 * ((pl iN) / 2)))), (0, .ref (a 0)), (1, .int cl)]) hx hb dX6_carries_163 hl (k := 4) rfl (nI_add _ 1) (by decide) rfl (fun ls hl => ?_)
            refine lv_goto (tgt := 2) hx hb dX6_carries_166 (by decide) ?_
            have hA : prsA (carR f1 pl cl iN) (7 + 9 * (pl iN / 2)) cl true = f1_20 := by unfold prsA; dsimp only; rw [← ef1_11]; rw [if_pos (by simp [c5])]; rw [← ef1_18, ← ef1_19]; rw [← ef1_20]; try rfl
            have hB : prsR (carR f1 pl cl iN) (pl iN / 2) cl = f1_23 := by unfold prsR; rw [show (decide (carR f1 pl cl iN (7 + 9 * (pl iN / 2) + 6) ≠ cl)) = true from decide_eq_true c2, if_pos (by simp), hA]; unfold prsB; dsimp only; rw [← ef1_21, ← ef1_22, ← ef1_23]
            rw [show f1_23 = carR f1 pl cl (iN + 1) from hB.symm] at hH
            exact ih_lp (iN + 1)  (by omega) (by omega) _ _ hH ls (lv_sub hl [3, 4, 0] rfl)
  exact lp _ 0  (Nat.zero_le _) (Nat.lt_succ_self _) _ _ hH ls (lv_sub hl [1, 2, 0] rfl)
end
