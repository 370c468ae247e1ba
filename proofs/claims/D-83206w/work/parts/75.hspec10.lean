set_option maxRecDepth 100000
def fdA (a b c d e : Int32) (i : Nat) : Int32 := if i = 0 then a else if i = 1 then b else if i = 2 then c else if i = 3 then d else e
theorem fd_at {a b c d e : Int32} {i t : Nat} (ht : t < 4) : fdW a b c d e (4 * i + t) = fdA a b c d e i := by
  unfold fdW fdA
  by_cases h0 : i = 0
  · rw [if_pos (by omega), if_pos h0]
  · rw [if_neg (by omega), if_neg h0]
    by_cases h1 : i = 1
    · rw [if_pos (by omega), if_pos h1]
    · rw [if_neg (by omega), if_neg h1]
      by_cases h2 : i = 2
      · rw [if_pos (by omega), if_pos h2]
      · rw [if_neg (by omega), if_neg h2]
        by_cases h3 : i = 3
        · rw [if_pos (by omega), if_pos h3]
        · rw [if_neg (by omega), if_neg h3]
theorem fdB_at {a b c d e : Int32} {i t s : Nat} (ht : t < 4) (hs : s = 24 - 8 * t) : ((fdA a b c d e i) >>> (nI s &&& 31)).toInt8.toInt32 = fdB a b c d e (4 * i + t) := by
  unfold fdB
  rw [fd_at ht, show (4 * i + t) % 4 = t by omega, hs]
theorem fd_arr {a b c d e : Int32} {i : Nat} (hi : i < 5) : upd (upd (upd (upd (upd (fun _ => 0) 0 a) 1 b) 2 c) 3 d) 4 e i = fdA a b c d e i := by
  unfold fdA
  have h : i = 0 ∨ i = 1 ∨ i = 2 ∨ i = 3 ∨ i = 4 := by omega
  rcases h with rfl | rfl | rfl | rfl | rfl <;> rfl
