set_option maxRecDepth 100000
/-! how the house's own numbers stand to the reference's -/
def PlOk (N : Nat → Nat) (G : Nat → Nat → Nat) (Y : Nat → Nat → Nat → Int32) : Prop := ∀ c, c < N 3 → lv G c = true → Y 0 c 0 = nI (G 5 c)
def RtOk (N : Nat → Nat) (G : Nat → Nat → Nat) (Y : Nat → Nat → Nat → Int32) : Prop := ∀ c, c < N 3 → lv G c = true → ∀ h, G 9 c ≤ h → h < N 14 → ∃ r, r ≤ 12 ∧ G 12 (600 * c + h) = r + 1 ∧ Y 1 c h = nI r
def WrOk (G : Nat → Nat → Nat) (J : Nat → Nat → Int32) (X : Nat → Nat → Nat) (Y : Nat → Nat → Nat → Int32) : Prop := ∀ z, z < 3 → (X 1 z = 1 ∧ ∀ h, h < 600 → Y 2 z h = if G 17 (600 * z + h) = 0 then nI 100 else J 16 (600 * z + h)) ∨ (X 1 z ≠ 1 ∧ ∀ h, h < 600 → G 17 (600 * z + h) = 0)
def TsOk (N : Nat → Nat) (G : Nat → Nat → Nat) : Prop := ∀ k, k < N 19 → G 20 k < N 3
/-- the house's side in order -/
def HOk (N : Nat → Nat) (G : Nat → Nat → Nat) (J : Nat → Nat → Int32) (X : Nat → Nat → Nat) (Y : Nat → Nat → Nat → Int32) : Prop := XOk N G X ∧ PlOk N G Y ∧ RtOk N G Y ∧ WrOk G J X Y ∧ TsOk N G
theorem lv_t {G : Nat → Nat → Nat} {c : Nat} (h : G 6 c ≤ 1) : lv G c = true := decide_eq_true h
theorem lv_f {G : Nat → Nat → Nat} {c : Nat} (h : ¬ G 6 c ≤ 1) : lv G c = false := decide_eq_false h
