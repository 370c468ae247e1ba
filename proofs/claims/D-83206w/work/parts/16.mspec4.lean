set_option maxRecDepth 100000
/-- the grams of a lot that are left or in crocks -/
def tot (G : Nat → Nat → Nat) (l : Nat) : Nat := G 2 l + sumTo (fun c => G 4 (20 * c + l)) 10
/-- no lot has more grams than came in; lots that didn't come have none -/
def CsOk (N : Nat → Nat) (G : Nat → Nat → Nat) : Prop := ∀ l, l < 20 → tot G l ≤ 100000 ∧ (N 1 ≤ l → tot G l = 0)
theorem sumTo_mem {f : Nat → Nat} : ∀ {n k : Nat}, k < n → f k ≤ sumTo f n := by
  intro n
  induction n with
  | zero => intro k h; omega
  | succ n ih =>
    intro k h
    show f k ≤ sumTo f n + f n
    rcases Nat.lt_or_ge k n with q | q
    · have := ih q; omega
    · have e : k = n := by omega
      subst e; omega
theorem sumTo_le {f : Nat → Nat} {b : Nat} : ∀ {n : Nat}, (∀ k, k < n → f k ≤ b) → sumTo f n ≤ n * b := by
  intro n
  induction n with
  | zero => intro _; exact Nat.zero_le _
  | succ n ih =>
    intro h
    show sumTo f n + f n ≤ (n + 1) * b
    have h1 := ih (fun k q => h k (by omega))
    have h2 := h n (by omega)
    rw [Nat.add_mul]
    omega
theorem CsOk.one {N : Nat → Nat} {G : Nat → Nat → Nat} (h : CsOk N G) {c l : Nat} (hc : c < 10) (hl : l < 20) : G 4 (20 * c + l) ≤ 100000 := by
  have h1 := (h l hl).1
  have h2 := sumTo_mem (f := fun c => G 4 (20 * c + l)) hc
  unfold tot at h1
  have h3 : (fun c => G 4 (20 * c + l)) c = G 4 (20 * c + l) := rfl
  omega
theorem CsOk.gr {N : Nat → Nat} {G : Nat → Nat → Nat} (h : CsOk N G) {c : Nat} (hc : c < 10) : gr G c ≤ 2000000 := by
  have := sumTo_le (f := fun l => G 4 (20 * c + l)) (b := 100000) (n := 20) (fun l hl => h.one hc hl)
  exact this
/-- two weighed numbers, floor and ceiling, as longs -/
def mixD (w v x y : Int64) : Int32 := ((w * x + v * y) / (w + v)).toInt32
def mixU (w v x y : Int64) : Int32 := (((w * x + v * y + w) + v - 1) / (w + v)).toInt32
theorem mixN {w v x y : Nat} (hw : w < 2 ^ 31) (hv : v < 2 ^ 31) (hx : x < 2 ^ 31) (hy : y < 2 ^ 31) (h0 : 0 < w + v) : mixD (nI w).toInt64 (nI v).toInt64 (nI x).toInt64 (nI y).toInt64 = nI ((w * x + v * y) / (w + v)) := by
  have e1 : w * x ≤ 2147483647 * 2147483647 := Nat.mul_le_mul (by omega) (by omega)
  have e2 : v * y ≤ 2147483647 * 2147483647 := Nat.mul_le_mul (by omega) (by omega)
  unfold mixD
  rw [nI_l hw, nI_l hv, nI_l hx, nI_l hy, lN_mul, lN_mul, lN_add, lN_add, pk_lDiv (by omega) h0 (by omega), lN_i]
theorem mix_le {w v x y b : Nat} (hx : x ≤ b) (hy : y ≤ b) (h0 : 0 < w + v) : (w * x + v * y) / (w + v) ≤ b := by
  have e1 : w * x ≤ w * b := Nat.mul_le_mul_left w hx
  have e2 : v * y ≤ v * b := Nat.mul_le_mul_left v hy
  have e3 : w * x + v * y ≤ (w + v) * b := by rw [Nat.add_mul]; omega
  exact Nat.div_le_of_le_mul e3
theorem mix_ne {w v : Nat} (hw : w < 2 ^ 31) (hv : v < 2 ^ 31) (h0 : 0 < w + v) : ¬ (nI w).toInt64 + (nI v).toInt64 = 0 := by
  rw [nI_l hw, nI_l hv, lN_add]
  intro q
  have := (pk_lEQ (a := w + v) (b := 0) (by omega) (by decide)).mp q
  omega
theorem nI_n0 {x : Nat} (h : ¬ nI x = 0) : 0 < x := Nat.pos_of_ne_zero (fun q => h (by rw [q]; exact nI_0))
theorem rem_eq {x y z : Nat} (hx : x < 2 ^ 31) (hy : y < 2 ^ 31) (h0 : 0 < z) (hz : z < 2 ^ 31) : (nI x).toInt64 * (nI y).toInt64 - (nI x).toInt64 * (nI y).toInt64 / (nI z).toInt64 * (nI z).toInt64 = lN (x * y % z) := by
  have e1 : x * y ≤ 2147483648 * 2147483648 := Nat.mul_le_mul (by omega) (by omega)
  rw [nI_l hx, nI_l hy, nI_l hz, lN_mul, pk_lRem (by omega) h0 (by omega)]
theorem div_eq {x y z : Nat} (hx : x < 2 ^ 31) (hy : y < 2 ^ 31) (h0 : 0 < z) (hz : z < 2 ^ 31) : ((nI x).toInt64 * (nI y).toInt64 / (nI z).toInt64).toInt32 = nI (x * y / z) := by
  have e1 : x * y ≤ 2147483648 * 2147483648 := Nat.mul_le_mul (by omega) (by omega)
  rw [nI_l hx, nI_l hy, nI_l hz, lN_mul, pk_lDiv (by omega) h0 (by omega), lN_i]
theorem l_ne {z : Nat} (h0 : 0 < z) (hz : z < 2 ^ 31) : ¬ (nI z).toInt64 = 0 := by
  rw [nI_l hz]
  intro q
  have := (pk_lEQ (a := z) (b := 0) (by omega) (by decide)).mp q
  omega
theorem cmp_le {a b : Nat} (ha : a < 2 ^ 63) (hb : b < 2 ^ 63) : lg_cmp (lN a) (lN b) ≤ 0 ↔ a ≤ b := by
  unfold lg_cmp
  by_cases h1 : lN a > lN b
  · rw [if_pos h1]
    have h2 : b < a := (pk_lLT hb ha).mp h1
    constructor
    · intro q; exact absurd q (by decide)
    · intro q; omega
  · rw [if_neg h1]
    have h2 : a ≤ b := Nat.not_lt.mp (fun q => h1 ((pk_lLT hb ha).mpr q))
    constructor
    · intro _; exact h2
    · intro _; split <;> decide
/-- pouring: all grams of a go to b -/
def pourT (G : Nat → Nat → Nat) (a b : Nat) : Nat → Nat → Nat → Nat
  | 0 => G
  | n + 1 => up2 (up2 (pourT G a b n) 4 (20 * b + n) (pourT G a b n 4 (20 * b + n) + pourT G a b n 4 (20 * a + n))) 4 (20 * a + n) 0
theorem pourT_o {G : Nat → Nat → Nat} {a b k : Nat} (h : k ≠ 4) : ∀ n, pourT G a b n k = G k := by
  intro n
  induction n with
  | zero => rfl
  | succ n ih => show up2 _ 4 _ _ k = _; rw [up2_o h, up2_o h, ih]
def pourB (N : Nat → Nat) (G : Nat → Nat → Nat) (a b : Int32) : Bool := lvI (N 3) G a && (lvI (N 3) G b && (!decide (a = b) && (!decide (nI (gr G (tn a)) = 0) && !decide (nI (gr G (tn b)) = 0))))
def pourG (N : Nat → Nat) (G : Nat → Nat → Nat) (a b : Nat) : Nat → Nat → Nat :=
  up2 (up2 (up2 (up2 (pourT (up2 G 7 b ((gr G a * G 7 a + gr G b * G 7 b) / (gr G a + gr G b))) a b 20) 9 b (N 14)) 8 b (if G 8 b < G 8 a then G 8 a else G 8 b)) 6 b 0) 6 a 4
def pourJ (N : Nat → Nat) (G : Nat → Nat → Nat) (J : Nat → Nat → Int32) (a b : Nat) : Nat → Nat → Int32 :=
  up2 (up2 J 10 b (mixD (nI (gr G a)).toInt64 (nI (gr G b)).toInt64 (spanS G J a (N 14) (N 19) false).toInt64 (spanS G J b (N 14) (N 19) false).toInt64)) 11 b (mixU (nI (gr G a)).toInt64 (nI (gr G b)).toInt64 (spanS G J a (N 14) (N 19) true).toInt64 (spanS G J b (N 14) (N 19) true).toInt64)
