set_option maxRecDepth 100000
/-- a rule's conditions, as its act keeps them -/
def askF (c q1 q2 q3 : Nat) : Nat → Option Nat := fun j => if j = 0 ∧ 0 < c then some q1 else if j = 1 ∧ 1 < c then some q2 else if j = 2 ∧ 2 < c then some q3 else none
theorem askF_1 {q1 q2 q3 : Nat} : va_up (fun _ => none) 0 (some q1) = askF 1 q1 q2 q3 := by
  funext j
  unfold va_up askF
  by_cases h0 : j = 0
  · rw [if_pos h0, if_pos (by omega)]
  · rw [if_neg h0, if_neg (by omega), if_neg (by omega), if_neg (by omega)]
theorem askF_2 {q1 q2 q3 : Nat} : va_up (va_up (fun _ => none) 0 (some q1)) 1 (some q2) = askF 2 q1 q2 q3 := by
  funext j
  unfold va_up askF
  by_cases h1 : j = 1
  · rw [if_pos h1, if_neg (by omega), if_pos (by omega)]
  · rw [if_neg h1]
    by_cases h0 : j = 0
    · rw [if_pos h0, if_pos (by omega)]
    · rw [if_neg h0, if_neg (by omega), if_neg (by omega), if_neg (by omega)]
theorem askF_3 {q1 q2 q3 : Nat} : va_up (va_cpy (va_up (va_up (fun _ => none) 0 (some q1)) 1 (some q2)) (fun _ => none) 0 0 2) 2 (some q3) = askF 3 q1 q2 q3 := by
  rw [askF_2 (q3 := q3)]
  funext j
  unfold va_up va_cpy
  by_cases h2 : j = 2
  · rw [if_pos h2]
    unfold askF
    rw [if_neg (by omega), if_neg (by omega), if_pos (by omega)]
  · rw [if_neg h2]
    by_cases h1 : j < 2
    · rw [if_pos (by omega), show 0 + (j - 0) = j by omega]
      unfold askF
      by_cases h0 : j = 0
      · rw [if_pos (by omega), if_pos (by omega)]
      · rw [if_neg (by omega), if_pos (by omega), if_neg (by omega), if_pos (by omega)]
    · rw [if_neg (by omega)]
      unfold askF
      rw [if_neg (by omega), if_neg (by omega), if_neg (by omega)]
