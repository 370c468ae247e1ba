set_option maxRecDepth 100000
theorem up2_cm {α : Type} {f : Nat → Nat → α} {k i k' i' : Nat} {v v' : α} (h : k ≠ k') : up2 (up2 f k i v) k' i' v' = up2 (up2 f k' i' v') k i v := by
  funext a b
  unfold up2
  by_cases h1 : a = k
  · subst h1; simp [h]
  · simp [h1]
theorem pourT_up {G : Nat → Nat → Nat} {a b k i v : Nat} (h : k ≠ 4) : ∀ n, pourT (up2 G k i v) a b n = up2 (pourT G a b n) k i v := by
  intro n
  induction n with
  | zero => rfl
  | succ n ih =>
    rw [pourT, pourT, ih, up2_o (Ne.symm h), up2_cm h, up2_cm h]
theorem max_n {a b : Nat} (ha : a < 2 ^ 31) (hb : b < 2 ^ 31) : (if nI a < nI b then nI b else nI a) = nI (if b < a then a else b) := by
  by_cases h : a < b
  · rw [if_pos ((nI_ltI ha hb).mpr h), if_neg (by omega)]
  · rw [if_neg (fun q => h ((nI_ltI ha hb).mp q))]
    by_cases h2 : b < a
    · rw [if_pos h2]
    · rw [if_neg h2, show a = b by omega]
theorem pourG_eq (N : Nat → Nat) (G : Nat → Nat → Nat) (a b : Nat) : up2 (up2 (pourT (up2 (up2 (up2 G 7 b ((gr G a * G 7 a + gr G b * G 7 b) / (gr G a + gr G b))) 9 b (N 14)) 8 b (if G 8 b < G 8 a then G 8 a else G 8 b)) a b 20) 6 b 0) 6 a 4 = pourG N G a b := by
  unfold pourG
  rw [pourT_up (by decide), pourT_up (by decide)]
theorem dI_sub (n : Nat) : nI n - nI 1 = dI n := by
  unfold dI
  rw [Int32.sub_eq_add_neg]
  congr 1
