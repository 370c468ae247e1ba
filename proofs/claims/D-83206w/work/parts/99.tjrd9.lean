set_option maxRecDepth 100000
/-! what goes wrong in a condition, in an act: kind and place -/
def CoT (t : Nat) (b : Nat → Nat) (x : Nat × Nat × Nat × Nat) (had kd pl : Nat) : Prop := x.1 = 1 ∧ (((ixW 5 b x).isSome = false ∧ kd = 1 ∧ pl = x.2.1) ∨ ((ixW 5 b x).isSome = true ∧ had = 3 ∧ kd = 2 ∧ pl = x.2.1) ∨ ((ixW 5 b x).isSome = true ∧ (had ≠ 3 ∧ had < 2 ^ 31) ∧ ¬ ((nx t b x).1 = 3 ∧ 60 ≤ (nx t b x).2.2.2 ∧ (nx t b x).2.2.2 ≤ 62) ∧ kd = 1 ∧ pl = (nx t b x).2.1) ∨ ((ixW 5 b x).isSome = true ∧ (had ≠ 3 ∧ had < 2 ^ 31) ∧ ((nx t b x).1 = 3 ∧ 60 ≤ (nx t b x).2.2.2 ∧ (nx t b x).2.2.2 ≤ 62) ∧ (nx t b (nx t b x)).1 ≠ 2 ∧ kd = 1 ∧ pl = (nx t b (nx t b x)).2.1))
def CoF (t : Nat) (b : Nat → Nat) (x : Nat × Nat × Nat × Nat) (had kd pl : Nat) : Prop := (x.1 ≠ 1 ∧ kd = 1 ∧ pl = x.2.1) ∨ CoT t b x had kd pl
def AcT (t : Nat) (b : Nat → Nat) (x : Nat × Nat × Nat × Nat) (kd pl : Nat) : Prop := x.1 = 1 ∧ (((ixW 3 b x).isSome = false ∧ kd = 1 ∧ pl = x.2.1) ∨ (IsAct b x 5 ∧ (nx t b x).1 ≠ 2 ∧ kd = 1 ∧ pl = (nx t b x).2.1))
def AcF (t : Nat) (b : Nat → Nat) (x : Nat × Nat × Nat × Nat) (kd pl : Nat) : Prop := (x.1 ≠ 1 ∧ kd = 1 ∧ pl = x.2.1) ∨ AcT t b x kd pl
/-- an act is read, and no ; follows -/
def EnF (t : Nat) (b : Nat → Nat) (x : Nat × Nat × Nat × Nat) (kd pl : Nat) : Prop := ∃ a, a < 6 ∧ IsAct b x a ∧ (a = 5 → (nx t b x).1 = 2) ∧ ¬ ((actS t b a x).1 = 3 ∧ (actS t b a x).2.2.2 = 59) ∧ kd = 1 ∧ pl = (actS t b a x).2.1
/-- behind some conditions -/
def RuF (t : Nat) (b : Nat → Nat) (z : Nat × Nat × Nat × Nat) (had kd pl : Nat) : Prop := (IsK b z 6 ∧ CoF t b (nx t b z) had kd pl) ∨ (¬ IsK b z 6 ∧ ¬ (z.1 = 3 ∧ z.2.2.2 = 58) ∧ kd = 1 ∧ pl = z.2.1) ∨ ((z.1 = 3 ∧ z.2.2.2 = 58) ∧ AcF t b (nx t b z) kd pl) ∨ ((z.1 = 3 ∧ z.2.2.2 = 58) ∧ EnF t b (nx t b z) kd pl)
def Ru0 (t : Nat) (b : Nat → Nat) (x : Nat × Nat × Nat × Nat) (kd pl : Nat) : Prop := (IsK b x 2 ∧ CoF t b (nx t b x) 0 kd pl) ∨ (IsAct b x 5 ∧ (nx t b x).1 ≠ 2 ∧ kd = 1 ∧ pl = (nx t b x).2.1) ∨ EnF t b x kd pl
theorem IsK.of {b : Nat → Nat} {x : Nat × Nat × Nat × Nat} {k : Nat} (h1 : x.1 = 1) (h : (decide (x.2.2.1 - x.2.1 = klen k) && eqT (fun j => b (x.2.1 + j)) 0 (kch k) 0 (x.2.2.1 - x.2.1)) = true) : IsK b x k := by
  rw [Bool.and_eq_true] at h
  have h2 := of_decide_eq_true h.1
  refine ⟨h1, h2, ?_⟩
  have h3 := h.2
  have key : ∀ n, eqT (fun j => b (x.2.1 + j)) 0 (kch k) 0 n = true → ∀ j, j < n → b (x.2.1 + j) = kch k j := by
    intro n
    induction n with
    | zero => intro _ j hj; omega
    | succ n ih =>
      intro e j hj
      rw [eqT, Bool.and_eq_true] at e
      by_cases hn : j = n
      · have := of_decide_eq_true e.2
        rw [Nat.zero_add] at this
        rw [hn]
        exact this
      · exact ih e.1 j (by omega)
  exact key _ h3
