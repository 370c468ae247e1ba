set_option maxRecDepth 100000
/-! THE READER -/
/-- a builder's room as letters come -/
def capS : Nat → Nat
  | 0 => 16
  | k + 1 => if k < capS k then capS k else capS k + (capS k + 2)
def gcS : Nat → Nat
  | 0 => 0
  | k + 1 => if k < capS k then gcS k else gcS k + 1
def glS : Nat → Nat
  | 0 => 0
  | k + 1 => if k < capS k then glS k else glS k + (capS k + (capS k + 2))
theorem capS_ge : ∀ k, k ≤ capS k ∧ 16 ≤ capS k := by
  intro k
  induction k with
  | zero => exact ⟨Nat.zero_le _, Nat.le_refl _⟩
  | succ k ih =>
    rw [capS]
    split <;> omega
theorem capS_r {k : Nat} (h : k < capS k) : capS (k + 1) = capS k ∧ gcS (k + 1) = gcS k ∧ glS (k + 1) = glS k := ⟨by rw [capS, if_pos h], by rw [gcS, if_pos h], by rw [glS, if_pos h]⟩
theorem capS_g {k : Nat} (h : ¬ k < capS k) : capS k = k ∧ capS (k + 1) = k + (k + 2) ∧ gcS (k + 1) = gcS k + 1 ∧ glS (k + 1) = glS k + (k + (k + 2)) := by
  have e : capS k = k := by have := (capS_ge k).1; omega
  refine ⟨e, ?_, by rw [gcS, if_neg h], ?_⟩
  · rw [capS, if_neg h, e]
  · rw [glS, if_neg h, e]
theorem capS_le : ∀ k, (capS k = 16 ∧ glS k = 0) ∨ (glS k + 16 ≤ 2 * capS k ∧ capS k ≤ 2 * k) := by
  intro k
  induction k with
  | zero => exact Or.inl ⟨rfl, rfl⟩
  | succ k ih =>
    by_cases h : k < capS k
    · obtain ⟨e1, -, e2⟩ := capS_r h
      rw [e1, e2]
      rcases ih with q | q
      · exact Or.inl q
      · exact Or.inr ⟨q.1, by omega⟩
    · obtain ⟨e0, e1, -, e2⟩ := capS_g h
      rw [e1, e2]
      refine Or.inr ⟨?_, by omega⟩
      rcases ih with q | q <;> omega
theorem glS_le (k : Nat) : glS k ≤ 4 * k ∧ capS k ≤ 2 * k + 16 := by
  rcases capS_le k with q | q <;> omega
theorem gcS_le : ∀ k, gcS k ≤ k := by
  intro k
  induction k with
  | zero => exact Nat.le_refl _
  | succ k ih =>
    rw [gcS]
    split <;> omega
/-- the token at hand, as the reader keeps it: sort, place, at, value -/
def nxT (t : Nat) (b : Nat → Nat) (p v0 : Nat) : Nat × Nat × Nat × Nat :=
  if t ≤ skW b (t - p) p then (0, skW b (t - p) p, skW b (t - p) p, v0)
  else if 97 ≤ b (skW b (t - p) p) ∧ b (skW b (t - p) p) ≤ 122 then (if 8 < ruC b 97 122 (t - skW b (t - p) p) (skW b (t - p) p) - skW b (t - p) p then 4 else 1, skW b (t - p) p, ruC b 97 122 (t - skW b (t - p) p) (skW b (t - p) p), v0)
  else if 48 ≤ b (skW b (t - p) p) ∧ b (skW b (t - p) p) ≤ 57 then (if 4 < ruC b 48 57 (t - skW b (t - p) p) (skW b (t - p) p) - skW b (t - p) p then 4 else 2, skW b (t - p) p, ruC b 48 57 (t - skW b (t - p) p) (skW b (t - p) p), vaC b (skW b (t - p) p) (ruC b 48 57 (t - skW b (t - p) p) (skW b (t - p) p) - skW b (t - p) p))
  else (if sgnB (b (skW b (t - p) p)) = true then 3 else 4, skW b (t - p) p, skW b (t - p) p + 1, b (skW b (t - p) p))
/-- by how much it goes on -/
def nxL (t : Nat) (b : Nat → Nat) (p : Nat) : Nat := (nxT t b p 0).2.2.1 - p
theorem nxT_at (t : Nat) (b : Nat → Nat) (p v0 v1 : Nat) : (nxT t b p v0).2.2.1 = (nxT t b p v1).2.2.1 := by
  unfold nxT
  split
  · rfl
  · split
    · rfl
    · split <;> rfl
theorem nxL_eq (t : Nat) (b : Nat → Nat) (p v0 : Nat) : nxL t b p = (nxT t b p v0).2.2.1 - p := by
  unfold nxL
  rw [nxT_at t b p 0 v0]
/-- the cells of a reader: itself, the text, the word at hand -/
def rdC (tx t : Nat) (x : Nat × Nat × Nat × Nat) (r w : Nat) : Nat × va_E := (r, .inr (6, [.ref tx, .int (nI t), .int (nI x.2.2.1), .int (nI x.2.1), .int (nI x.1), .int (nI x.2.2.2), .ref w]))
def wdC (dA : Nat → ClassId) (x : Nat × Nat × Nat × Nat) (b : Nat → Nat) (w q : Nat) : va_W := if x.1 = 1 then [(w, .inr (16, [.ref q, .int (nI 0), .int (nI 0), .int (nI 0)])), (q, .inl (dA 1, x.2.2.1 - x.2.1, .inl (bw (fun j => b (x.2.1 + j)) (x.2.2.1 - x.2.1))))] else []
def rdW (dA : Nat → ClassId) (r tx t : Nat) (tf : Nat → Int32) (x : Nat × Nat × Nat × Nat) (w q : Nat) : va_W := [rdC tx t x r w, (tx, .inl (dA 1, 300, .inl tf))] ++ wdC dA x (byS t tf) w q
theorem rdW_1 {dA : Nat → ClassId} {r tx t : Nat} {tf : Nat → Int32} {x : Nat × Nat × Nat × Nat} {w q : Nat} (h : x.1 = 1) : rdW dA r tx t tf x w q = [rdC tx t x r w, (tx, .inl (dA 1, 300, .inl tf)), (w, .inr (16, [.ref q, .int (nI 0), .int (nI 0), .int (nI 0)])), (q, .inl (dA 1, x.2.2.1 - x.2.1, .inl (bw (fun j => byS t tf (x.2.1 + j)) (x.2.2.1 - x.2.1))))] := by
  unfold rdW wdC
  rw [if_pos h]
  rfl
theorem rdW_0 {dA : Nat → ClassId} {r tx t : Nat} {tf : Nat → Int32} {x : Nat × Nat × Nat × Nat} {w q : Nat} (h : x.1 ≠ 1) : rdW dA r tx t tf x w q = [rdC tx t x r w, (tx, .inl (dA 1, 300, .inl tf))] := by
  unfold rdW wdC
  rw [if_neg h]
  rfl
theorem i2c_n {x : Nat} (h : x < 128) : ((nI x).toUInt32 % 65536).toInt32 = nI x := by
  have h1 : ∀ x, x < 128 → ((nI x).toUInt32 % 65536).toInt32 = nI x := by decide +kernel
  exact h1 x h
