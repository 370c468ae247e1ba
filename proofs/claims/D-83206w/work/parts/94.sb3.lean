set_option maxRecDepth 100000
/-! a text within a text -/
def ixT (f h : Nat → Nat) (k : Nat) : Nat → Nat → Option Nat
  | 0, _ => none
  | d + 1, i => if eqT f i h 0 k = true then some i else ixT f h k d (i + 1)
theorem ixT_y {f h : Nat → Nat} {k d i : Nat} (e : eqT f i h 0 k = true) : ixT f h k (d + 1) i = some i := by rw [ixT, if_pos e]
theorem ixT_n {f h : Nat → Nat} {k d i : Nat} (e : eqT f i h 0 k = false) : ixT f h k (d + 1) i = ixT f h k d (i + 1) := by rw [ixT, if_neg (by rw [e]; decide)]
theorem eqT_f0 {f h : Nat → Nat} {i k : Nat} (hk : 1 ≤ k) (e : ¬ f i = h 0) : eqT f i h 0 k = false := by
  refine eqT_no' (j := 1) ?_ hk
  show (true && decide (f (i + 0) = h (0 + 0))) = false
  rw [Nat.add_zero, decide_eq_false e]
  rfl
theorem eqT_fj {b f : Nat → Nat} {fr a j n : Nat} (hj : j < n) (e : ¬ b (fr + j) = f (a + j)) : eqT b fr f a n = false := by
  refine eqT_no' (j := j + 1) ?_ hj
  show (eqT b fr f a j && decide (b (fr + j) = f (a + j))) = false
  rw [decide_eq_false e, Bool.and_false]
theorem eqT_s {b f : Nat → Nat} {fr a j : Nat} (h : eqT b fr f a j = true) (e : b (fr + j) = f (a + j)) : eqT b fr f a (j + 1) = true := by
  show (eqT b fr f a j && decide (b (fr + j) = f (a + j))) = true
  rw [h, decide_eq_true e]
  rfl
