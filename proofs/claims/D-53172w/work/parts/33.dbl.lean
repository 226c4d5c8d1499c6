/-! a quotient of small numbers is a number -/
set_option maxRecDepth 100000 in
theorem dv_nan : ∀ a, a < 85 → ∀ b, b < 84 → (FP.ddiv (FP.i2d (nI a)) (FP.i2d (nI (b + 1)))) &&& 0x7fffffffffffffff ≤ 0x7ff0000000000000 := by decide +kernel
theorem dv_ok {a b : Nat} (ha : a ≤ 84) (h0 : 0 < b) (hb : b ≤ 84) : vf_n64 (FP.ddiv (FP.i2d (nI a)) (FP.i2d (nI b))) := by
  have h := dv_nan a (by omega) (b - 1) (by omega)
  rw [Nat.sub_add_cancel h0] at h
  exact h
