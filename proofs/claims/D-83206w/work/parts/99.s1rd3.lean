set_option maxRecDepth 100000
/-- a text's number -/
def hsI (f : Nat → Nat) : Nat → Int32
  | 0 => nI 0
  | j + 1 => nI 31 * hsI f j + nI (f j)
theorem hsI_cg {f g : Nat → Nat} : ∀ n, (∀ j, j < n → f j = g j) → hsI f n = hsI g n := by
  intro n
  induction n with
  | zero => intro _; rfl
  | succ n ih => intro h; rw [hsI, hsI, ih (fun j hj => h j (by omega)), h n (by omega)]
theorem and255_n {x : Nat} (h : x < 128) : nI x &&& nI 255 = nI x := by
  have h1 : ∀ x, x < 128 → nI x &&& nI 255 = nI x := by decide +kernel
  exact h1 x h
