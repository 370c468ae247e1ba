set_option maxRecDepth 100000
/-! the acts' words -/
def actW : Nat → List Nat
  | 0 => [112, 114, 101, 115, 115]
  | 1 => [116, 104, 114, 111, 119]
  | 2 => [114, 101, 97, 100, 121]
  | 3 => [99, 111, 111, 108]
  | 4 => [119, 97, 114, 109]
  | _ => [115, 97, 108, 116]
def actF (a j : Nat) : Nat := (actW a).getD j 0
/-- the word at hand is that one -/
def IsAct (b : Nat → Nat) (x : Nat × Nat × Nat × Nat) (a : Nat) : Prop := x.1 = 1 ∧ x.2.2.1 - x.2.1 = (actW a).length ∧ ∀ j, j < x.2.2.1 - x.2.1 → b (x.2.1 + j) = actF a j
theorem eqT_cg {b b' f : Nat → Nat} {fr fr' a : Nat} : ∀ n, (∀ j, j < n → b (fr + j) = b' (fr' + j)) → eqT b fr f a n = eqT b' fr' f a n := by
  intro n
  induction n with
  | zero => intro _; rfl
  | succ n ih => intro h; rw [eqT, eqT, ih (fun j hj => h j (by omega)), h n (by omega)]
theorem eqT_cg2 {b f f' : Nat → Nat} {fr a : Nat} : ∀ n, (∀ j, j < n → f (a + j) = f' (a + j)) → eqT b fr f a n = eqT b fr f' a n := by
  intro n
  induction n with
  | zero => intro _; rfl
  | succ n ih => intro h; rw [eqT, eqT, ih (fun j hj => h j (by omega)), h n (by omega)]
theorem ixT_cg {f h h' : Nat → Nat} {k : Nat} (e : ∀ j, j < k → h j = h' j) : ∀ d i, ixT f h k d i = ixT f h' k d i := by
  intro d
  induction d with
  | zero => intro i; rfl
  | succ d ih => intro i; rw [ixT, ixT, eqT_cg2 (f' := h') k (fun j hj => by rw [Nat.zero_add]; exact e j hj), ih]
theorem spW_cg {g g' : Nat → Nat} {n : Nat} (e : ∀ j, j < n → g j = g' j) : ∀ j, j < n + 2 → spW g n j = spW g' n j := by
  intro j hj
  unfold spW
  split
  · rfl
  · split
    · exact e _ (by omega)
    · rfl
theorem act_ix {b : Nat → Nat} {x : Nat × Nat × Nat × Nat} {a : Nat} (h : IsAct b x a) (ha : a < 6) : ixT (kch 3) (spW (fun j => b (x.2.1 + j)) (x.2.2.1 - x.2.1)) (x.2.2.1 - x.2.1 + 2) (klen 3 - (x.2.2.1 - x.2.1 + 2) + 1) 0 = ixT (kch 3) (spW (actF a) (actW a).length) ((actW a).length + 2) (klen 3 - ((actW a).length + 2) + 1) 0 := by
  obtain ⟨-, h2, h3⟩ := h
  rw [ixT_cg (spW_cg (g' := actF a) h3), h2]
theorem act_ix2 : ∀ a, a < 6 → (ixT (kch 3) (spW (actF a) (actW a).length) ((actW a).length + 2) (klen 3 - ((actW a).length + 2) + 1) 0).isSome = true := by decide +kernel
theorem act_hs {b : Nat → Nat} {x : Nat × Nat × Nat × Nat} {a : Nat} (h : IsAct b x a) : hsI (fun j => b (x.2.1 + j)) (x.2.2.1 - x.2.1) = hsI (actF a) (actW a).length := by
  rw [hsI_cg _ h.2.2, h.2.1]
theorem act_eq {b : Nat → Nat} {x : Nat × Nat × Nat × Nat} {a i : Nat} (h : IsAct b x a) : (decide (x.2.2.1 - x.2.1 = klen i) && eqT (fun j => b (x.2.1 + j)) 0 (kch i) 0 (x.2.2.1 - x.2.1)) = (decide ((actW a).length = klen i) && eqT (actF a) 0 (kch i) 0 (actW a).length) := by
  rw [eqT_cg (b' := actF a) (fr' := 0) _ (fun j hj => by rw [Nat.zero_add]; exact h.2.2 j hj), h.2.1]
theorem act_len : ∀ a, a < 6 → 4 ≤ (actW a).length ∧ (actW a).length ≤ 5 := by decide
theorem act_lt : ∀ a, a < 6 → ∀ j, j < (actW a).length → actF a j < 128 := by decide
theorem act_h0 : ∀ a, a < 6 → ¬ hsI (actF a) (actW a).length = 0 := by decide +kernel
theorem KZ.ne {K : Nat → Nat} {A : Nat → Prop} {s : State} {H : Heap} {w : Nat} (h : KZ K A s H) (hw : A w) (i : Nat) (hi : i < 21) : w ≠ K i := by
  intro e
  obtain ⟨-, -, -, -, q⟩ := (h.2.1 i hi).1
  exact q (e ▸ hw)
