set_option maxRecDepth 100000
theorem sw_out {x : Int32} (n : Nat) (h : ∀ k, k < n + 1 → ¬ x = nI k) : x.toInt < 0 ∨ (n : Int) < x.toInt := by
  rcases Int.lt_or_le x.toInt 0 with q | q
  · exact Or.inl q
  · right
    have h0 : ¬ x < 0 := by rw [Int32.lt_iff_toInt_lt, Int32.toInt_zero]; omega
    obtain ⟨j, hj, rfl⟩ := nI_of h0
    rw [nI_toInt hj]
    rcases Nat.lt_or_ge n j with q2 | q2
    · omega
    · exact absurd rfl (h j (by omega))
theorem swN_out {e n : Nat} (h : n < e) (he : e < 2 ^ 31) : (nI e).toInt < 0 ∨ (n : Int) < (nI e).toInt := by
  right
  rw [nI_toInt he]
  omega
def limB (a b : Int32) : Bool := wi a (nI 0) (nI 1000) && wi b a (nI 1000)
def orderB (N : Nat → Nat) (g a b q : Int32) : Bool := !decide (N 44 = 6) && (wi g (nI 1) (nI 100000) && (wi a (nI 0) (nI 1000) && (wi b a (nI 1000) && wi q (nI 0) (nI 10000))))
def orderG (G : Nat → Nat → Nat) (n g a b q : Nat) : Nat → Nat → Nat := up2 (up2 (up2 (up2 G 45 n g) 46 n a) 47 n b) 48 n q
def inJarB (N : Nat → Nat) (j l : Int32) : Bool := wi j (nI 0) (nI (N 40) - nI 1) && wi l (nI 0) (nI (N 1) - nI 1)
/-- how many of the first n jars hold of a lot -/
def calledS (G : Nat → Nat → Nat) (l : Nat) : Nat → Nat
  | 0 => 0
  | n + 1 => calledS G l n + (if G 41 (20 * n + l) = 0 then 0 else 1)
theorem calledS_le {G : Nat → Nat → Nat} {l : Nat} : ∀ n, calledS G l n ≤ n := by
  intro n
  induction n with
  | zero => exact Nat.le_refl 0
  | succ n ih => unfold calledS; split <;> omega
/-- fit to be eaten: ready, and its latest test lies in the limits -/
def fitS (G : Nat → Nat → Nat) (c now tests lo hi : Nat) : Bool := decide (G 6 c = 1) && (match latS G c now tests with | none => false | some k => wi (nI (G 22 k)) (nI lo) (nI hi))
def dmS (G : Nat → Nat → Nat) (J : Nat → Nat → Int32) (c o now tests lo hi : Nat) : Bool :=
  fitS G c now tests lo hi && (!decide (nI (gr G c) < nI (G 45 o)) && (!decide (spanS G J c now tests false < nI (G 46 o)) && !decide (nI (G 47 o) < spanS G J c now tests true)))
def meetsB (N : Nat → Nat) (c o : Int32) : Bool := wi c (nI 0) (nI (N 3) - nI 1) && wi o (nI 0) (nI (N 44) - nI 1)
/-- the recipe in force on a day, of the first n -/
def ifS (G : Nat → Nat → Nat) (d : Nat) : Nat → Option Nat
  | 0 => none
  | n + 1 => if G 24 n ≤ d ∧ (∀ k, ifS G d n = some k → G 24 k ≤ G 24 n) then some n else ifS G d n
theorem ifS_lt {G : Nat → Nat → Nat} {d : Nat} : ∀ {n k : Nat}, ifS G d n = some k → k < n := by
  intro n
  induction n with
  | zero => intro k h; cases h
  | succ n ih =>
    intro k h
    unfold ifS at h
    split at h
    · cases h; omega
    · have := ih h; omega
theorem ifS_y {G : Nat → Nat → Nat} {d n : Nat} (h1 : G 24 n ≤ d) (h4 : ∀ k, ifS G d n = some k → G 24 k ≤ G 24 n) : ifS G d (n + 1) = some n := by
  rw [ifS, if_pos ⟨h1, h4⟩]
theorem ifS_n {G : Nat → Nat → Nat} {d n : Nat} (h : ¬ (G 24 n ≤ d ∧ (∀ k, ifS G d n = some k → G 24 k ≤ G 24 n))) : ifS G d (n + 1) = ifS G d n := by
  rw [ifS, if_neg h]
/-- how many of the first n tests are of crock c, from its beginning on -/
def toS (G : Nat → Nat → Nat) (c : Nat) : Nat → Nat
  | 0 => 0
  | n + 1 => toS G c n + (if G 20 n = c ∧ G 9 c ≤ G 21 n then 1 else 0)
theorem toS_le {G : Nat → Nat → Nat} {c : Nat} : ∀ n, toS G c n ≤ n := by
  intro n
  induction n with
  | zero => exact Nat.le_refl 0
  | succ n ih => unfold toS; split <;> omega
/-- what a condition asks of crock c -/
def fldS (G : Nat → Nat → Nat) (J : Nat → Nat → Int32) (c now tests f : Nat) : Int32 :=
  if f = 0 then spanS G J c now tests false
  else if f = 1 then spanS G J c now tests true
  else if f = 2 then nI (G 8 c)
  else if f = 3 then nI (G 7 c)
  else if f = 4 then nI now - nI (G 9 c)
  else if f = 5 then nI (toS G c tests)
  else if f = 6 then nI (if 7 < G 5 c then 1 else 0)
  else nI (now / 24)
/-- what is told of crock c -/
def coS (N : Nat → Nat) (G : Nat → Nat → Nat) (J : Nat → Nat → Int32) (c : Nat) (w : Int32) : Int32 :=
  if w = nI 0 then (if lv G c = true then nI (G 5 c) else -1)
  else if w = nI 1 then nI (G 6 c)
  else if w = nI 2 then nI (G 7 c)
  else if w = nI 3 then nI (G 8 c)
  else if w = nI 4 then nI (G 9 c)
  else if w = nI 5 then nI (gr G c)
  else if w = nI 6 then bI (fitS G c (N 14) (N 19) (N 42) (N 43))
  else if w = nI 7 then J 13 c
  else -1
/-- what is counted -/
def cntS (N : Nat → Nat) (G : Nat → Nat → Nat) (w : Int32) : Int32 :=
  if w = nI 0 then nI (N 1)
  else if w = nI 1 then nI (N 3)
  else if w = nI 2 then nI (N 14)
  else if w = nI 3 then nI (N 19)
  else if w = nI 4 then nI (N 23)
  else if w = nI 5 then nI (N 40)
  else if w = nI 6 then nI (N 44)
  else if w = nI 7 then nI (N 33)
  else if w = nI 8 then nI (sumTo (G 2) (N 1))
  else if w = nI 9 then nI (sumTo (gr G) (N 3))
  else if w = nI 10 then nI (sumTo (G 41) (20 * N 40))
  else if w = nI 11 then nI (N 15)
  else if w = nI 12 then oI (ifS G (N 14 / 24) (N 23))
  else -1
theorem byt {n : Nat} (h : n < 128) : vp_nar .byte (nI n) = nI n := by
  have h1 : ∀ n, n < 128 → vp_nar .byte (nI n) = nI n := by decide +kernel
  exact h1 n h
theorem byt2 {n : Nat} (h : n < 128) : vp_nar .byte (nI n).toInt8.toInt32 = nI n := by
  have h1 : ∀ n, n < 128 → vp_nar .byte (nI n).toInt8.toInt32 = nI n := by decide +kernel
  exact h1 n h
theorem vb_i {v : Int32} (h : wi v (-5) (nI 42) = true) : vp_nar .byte v.toInt8.toInt32 = v ∧ ∃ k, k ≤ 47 ∧ v + nI 5 = nI k := by
  obtain ⟨h1, h2⟩ := wi_iff.mp h
  have h0 : ¬ v + nI 5 < 0 := by
    intro q
    rw [Int32.lt_iff_toInt_lt] at q h1 h2
    rw [nI_toInt (by decide)] at h2
    rw [show (-5 : Int32).toInt = -5 by decide] at h1
    rw [Int32.toInt_add, nI_toInt (by decide), Int32.toInt_zero] at q
    rw [Int.bmod_def] at q
    split at q <;> omega
  obtain ⟨k, hk, e⟩ := nI_of h0
  have hv : v = nI k - nI 5 := by rw [← e, Int32.add_sub_cancel]
  have hk2 : k ≤ 47 := by
    rcases Nat.lt_or_ge 47 k with q | q
    · rw [Int32.lt_iff_toInt_lt, hv, nI_toInt (by decide), Int32.toInt_sub, nI_toInt hk, nI_toInt (by decide), Int.bmod_def] at h2
      split at h2 <;> omega
    · exact q
  refine ⟨?_, k, hk2, e⟩
  rw [hv]
  have h3 : ∀ k, k < 48 → vp_nar .byte (nI k - nI 5).toInt8.toInt32 = nI k - nI 5 := by decide +kernel
  exact h3 k (by omega)
