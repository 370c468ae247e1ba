set_option maxRecDepth 100000
/-! words of the text against words of a constant -/
def eqT (b : Nat → Nat) (fr : Nat) (f : Nat → Nat) (a : Nat) : Nat → Bool
  | 0 => true
  | j + 1 => eqT b fr f a j && decide (b (fr + j) = f (a + j))
theorem eqT_no {b : Nat → Nat} {fr : Nat} {f : Nat → Nat} {a j : Nat} (h : eqT b fr f a j = false) : ∀ m, eqT b fr f a (j + m) = false := by
  intro m
  induction m with
  | zero => exact h
  | succ m ih => show (eqT b fr f a (j + m) && _) = false; rw [ih]; rfl
theorem eqT_no' {b : Nat → Nat} {fr : Nat} {f : Nat → Nat} {a j n : Nat} (h : eqT b fr f a j = false) (hq : j ≤ n) : eqT b fr f a n = false := by
  have := eqT_no h (n - j)
  rwa [show j + (n - j) = n by omega] at this
/-- the token at hand is the text f of n letters -/
def isT (N : Nat → Nat) (J : Nat → Nat → Int32) (n : Nat) (f : Nat → Nat) (k : Nat) : Bool := decide (N 34 = 0) && (decide (N 38 - N 37 = n) && eqT (byS (N 33) (J 32)) (N 37) f 0 k)
def isQ (N : Nat → Nat) (J : Nat → Nat → Int32) (i : Nat) : Bool := isT N J (klen i) (kch i) (klen i)
theorem isT_no {N : Nat → Nat} {J : Nat → Nat → Int32} {n : Nat} {f : Nat → Nat} {k : Nat} (h : isT N J n f k = false) (hk : k ≤ n) : isT N J n f n = false := by
  unfold isT at h ⊢
  by_cases h1 : N 34 = 0
  · by_cases h2 : N 38 - N 37 = n
    · simp only [h1, h2, decide_true, Bool.true_and] at h ⊢
      exact eqT_no' h hk
    · simp [h2]
  · simp [h1]
def spN (f : Nat → Nat) : Nat → Nat
  | 0 => 0
  | k + 1 => if f k = 32 then spN f k + 1 else spN f k
def spA (f : Nat → Nat) : Nat → Nat
  | 0 => 0
  | k + 1 => if f k = 32 then k + 1 else spA f k
theorem spN_le (f : Nat → Nat) : ∀ k, spN f k ≤ k := by
  intro k
  induction k with
  | zero => exact Nat.le_refl _
  | succ k ih => unfold spN; split <;> omega
theorem spA_le (f : Nat → Nat) : ∀ k, spA f k ≤ k := by
  intro k
  induction k with
  | zero => exact Nat.le_refl _
  | succ k ih => unfold spA; split <;> omega
def maT (N : Nat → Nat) (J : Nat → Nat → Int32) (f : Nat → Nat) (a k j : Nat) : Bool := decide (N 36 = 1) && (decide (N 34 = 0) && (decide (N 38 - N 37 = k - a) && eqT (byS (N 33) (J 32)) (N 37) f a j))
theorem maT_no {N : Nat → Nat} {J : Nat → Nat → Int32} {f : Nat → Nat} {a k j n : Nat} (h : maT N J f a k j = false) (hk : j ≤ n) : maT N J f a k n = false := by
  unfold maT at h ⊢
  by_cases h0 : N 36 = 1
  · by_cases h1 : N 34 = 0
    · by_cases h2 : N 38 - N 37 = k - a
      · simp only [h0, h1, h2, decide_true, Bool.true_and] at h ⊢
        exact eqT_no' h hk
      · simp [h2]
    · simp [h1]
  · simp [h0]
/-- which of the words f of n letters the token at hand is, among the first k letters -/
def whT (N : Nat → Nat) (J : Nat → Nat → Int32) (f : Nat → Nat) : Nat → Option Nat
  | 0 => none
  | k + 1 => match whT N J f k with
    | some r => some r
    | none => if f k = 32 ∧ maT N J f (spA f k) k (k - spA f k) = true then some (spN f k) else none
theorem whT_some {N : Nat → Nat} {J : Nat → Nat → Int32} {f : Nat → Nat} {k r : Nat} (h : whT N J f k = some r) : ∀ m, whT N J f (k + m) = some r := by
  intro m
  induction m with
  | zero => exact h
  | succ m ih => show whT N J f ((k + m) + 1) = _; rw [whT, ih]
theorem whT_hit {N : Nat → Nat} {J : Nat → Nat → Int32} {f : Nat → Nat} {k n : Nat} (h : whT N J f k = none) (h1 : f k = 32) (h2 : maT N J f (spA f k) k (k - spA f k) = true) (hn : k < n) : whT N J f n = some (spN f k) := by
  have h3 : whT N J f (k + 1) = some (spN f k) := by rw [whT, h]; exact if_pos ⟨h1, h2⟩
  have := whT_some h3 (n - (k + 1))
  rwa [show k + 1 + (n - (k + 1)) = n by omega] at this
theorem whT_miss {N : Nat → Nat} {J : Nat → Nat → Int32} {f : Nat → Nat} {k : Nat} (h : whT N J f k = none) (h1 : ¬ (f k = 32 ∧ maT N J f (spA f k) k (k - spA f k) = true)) : whT N J f (k + 1) = none := by
  rw [whT, h]; exact if_neg h1
theorem whT_lt {N : Nat → Nat} {J : Nat → Nat → Int32} {f : Nat → Nat} : ∀ {n r : Nat}, whT N J f n = some r → r < spN f n := by
  intro n
  induction n with
  | zero => intro r h; cases h
  | succ n ih =>
    intro r h
    rw [whT] at h
    cases h2 : whT N J f n with
    | some r2 =>
      rw [h2] at h
      cases h
      have := ih h2
      unfold spN
      split <;> omega
    | none =>
      rw [h2] at h
      by_cases q : f n = 32 ∧ maT N J f (spA f n) n (n - spA f n) = true
      · rw [show (match (none : Option Nat) with | some r => some r | none => if f n = 32 ∧ maT N J f (spA f n) n (n - spA f n) = true then some (spN f n) else none) = some (spN f n) from if_pos q] at h
        cases h
        show spN f n < (if f n = 32 then spN f n + 1 else spN f n)
        rw [if_pos q.1]
        omega
      · rw [show (match (none : Option Nat) with | some r => some r | none => if f n = 32 ∧ maT N J f (spA f n) n (n - spA f n) = true then some (spN f n) else none) = none from if_neg q] at h
        cases h
def whQ (N : Nat → Nat) (J : Nat → Nat → Int32) (i : Nat) : Option Nat := whT N J (kch i) (klen i)
theorem whQ13 {N : Nat → Nat} {J : Nat → Nat → Int32} {r : Nat} (h : whQ N J 13 = some r) : r ≤ 5 := by
  have h1 := whT_lt h
  have h2 : spN (kch 13) (klen 13) = 6 := by decide +kernel
  omega
theorem whQ14 {N : Nat → Nat} {J : Nat → Nat → Int32} {r : Nat} (h : whQ N J 14 = some r) : r ≤ 7 := by
  have h1 := whT_lt h
  have h2 : spN (kch 14) (klen 14) = 8 := by decide +kernel
  omega
/-- the reader's numbers, always -/
def PsOk (N : Nat → Nat) : Prop := N 33 ≤ 300 ∧ N 37 ≤ N 38 ∧ N 38 ≤ N 33 ∧ N 34 ≤ 2 ∧ N 36 ≤ 4 ∧ N 39 ≤ 9999
theorem ruC_all (b : Nat → Nat) (lo hi : Nat) : ∀ n p j, p ≤ j → j < ruC b lo hi n p → lo ≤ b j ∧ b j ≤ hi := by
  intro n
  induction n with
  | zero => intro p j h1 h2; exact absurd h2 (by show ¬ j < p; omega)
  | succ n ih =>
    intro p j h1 h2
    unfold ruC at h2
    split at h2
    · rename_i q
      rcases Nat.lt_or_ge p j with q2 | q2
      · exact ih (p + 1) j (by omega) h2
      · rw [show j = p by omega]; exact q
    · omega
theorem tkQ_ok {t : Nat} {b : Nat → Nat} {p v0 : Nat} (hp : p ≤ t) (hv : v0 ≤ 9999) : p ≤ (tkQ t b p v0).2.1 ∧ (tkQ t b p v0).2.1 ≤ (tkQ t b p v0).2.2.1 ∧ (tkQ t b p v0).2.2.1 ≤ t ∧ (tkQ t b p v0).1 ≤ 4 ∧ (tkQ t b p v0).2.2.2 ≤ 9999 ∧ ((tkQ t b p v0).1 ≠ 0 → p < (tkQ t b p v0).2.2.1 ∧ (tkQ t b p v0).2.1 < (tkQ t b p v0).2.2.1) := by
  have h1 := skW_le b (t - p) p
  unfold tkQ
  generalize hf : skW b (t - p) p = f at h1
  by_cases c1 : t ≤ f
  · rw [if_pos c1]
    refine ⟨h1.1, Nat.le_refl _, ?_, Nat.zero_le _, hv, fun q => absurd rfl q⟩
    show f ≤ t
    omega
  · rw [if_neg c1]
    have h2 := ruC_le b 97 122 (t - f) f
    have h3 := ruC_le b 48 57 (t - f) f
    by_cases c2 : 97 ≤ b f ∧ b f ≤ 122
    · rw [if_pos c2]
      have h4 : f < ruC b 97 122 (t - f) f := by
        rw [show t - f = (t - f - 1) + 1 by omega, ruC, if_pos c2]
        have := ruC_le b 97 122 (t - f - 1) (f + 1)
        omega
      refine ⟨h1.1, h2.1, ?_, ?_, hv, fun _ => ⟨?_, h4⟩⟩
      · show ruC b 97 122 (t - f) f ≤ t; omega
      · show (if _ then 4 else 1) ≤ 4; split <;> decide
      · show p < ruC b 97 122 (t - f) f; omega
    · rw [if_neg c2]
      by_cases c3 : 48 ≤ b f ∧ b f ≤ 57
      · rw [if_pos c3]
        have h4 : f < ruC b 48 57 (t - f) f := by
          rw [show t - f = (t - f - 1) + 1 by omega, ruC, if_pos c3]
          have := ruC_le b 48 57 (t - f - 1) (f + 1)
          omega
        refine ⟨h1.1, h3.1, ?_, ?_, ?_, fun _ => ⟨?_, h4⟩⟩
        · show ruC b 48 57 (t - f) f ≤ t; omega
        · show (if _ then 4 else 2) ≤ 4; split <;> decide
        · exact (vaC_le (fun j hj => ruC_all b 48 57 (t - f) f (f + j) (by omega) (by omega))).1
        · show p < ruC b 48 57 (t - f) f; omega
      · rw [if_neg c3]
        refine ⟨h1.1, ?_, ?_, ?_, hv, fun _ => ⟨?_, ?_⟩⟩
        · show f ≤ f + 1; omega
        · show f + 1 ≤ t; omega
        · show (if _ then 3 else 4) ≤ 4; split <;> decide
        · show p < f + 1; omega
        · show f < f + 1; omega
theorem PsOk.tok {N : Nat → Nat} {J : Nat → Nat → Int32} (h : PsOk N) : PsOk (tokN N J) := by
  obtain ⟨h1, h2, h3, h4, h5, h6⟩ := h
  obtain ⟨a1, a2, a3, a4, a5, -⟩ := tkQ_ok (b := byS (N 33) (J 32)) (v0 := N 39) h3 h6
  exact ⟨h1, a2, a3, h4, a4, a5⟩
theorem PsOk.wr {N : Nat → Nat} (h : PsOk N) {k : Nat} (hk : k ≤ 2) : PsOk (wrN N k) := by
  unfold wrN
  split
  · obtain ⟨h1, h2, h3, h4, h5, h6⟩ := h
    exact ⟨h1, h2, h3, hk, h5, h6⟩
  · exact h
theorem PsOk.nu {N : Nat → Nat} {J : Nat → Nat → Int32} (h : PsOk N) : PsOk (nuN N J) := by
  unfold nuN
  split
  · exact h.tok
  · exact h.wr (by decide)
def muN (N : Nat → Nat) (J : Nat → Nat → Int32) (w : Bool) : Nat → Nat := if w = true then tokN N J else wrN N 1
def muI (N : Nat → Nat) (I : Nat → Int32) (w : Bool) : Nat → Int32 := if w = true then I else wrI N I
theorem PsOk.mu {N : Nat → Nat} {J : Nat → Nat → Int32} (h : PsOk N) {w : Bool} : PsOk (muN N J w) := by
  unfold muN
  split
  · exact h.tok
  · exact h.wr (by decide)
/-- a reader's step: its answer, the numbers behind it -/
abbrev PT : Type := Bool × (Nat → Nat) × (Nat → Int32) × (Nat → Nat → Nat)
def relS (N : Nat → Nat) (J : Nat → Nat → Int32) : Nat := if isQ N J 15 = true then 0 else if isQ N J 16 = true then 1 else 2
def coT (N : Nat → Nat) (I : Nat → Int32) (G : Nat → Nat → Nat) (J : Nat → Nat → Int32) (r : Nat) : PT := match whQ N J 14 with
  | none => (false, wrN N 1, wrI N I, G)
  | some f => if G 28 r = 3 then (false, wrN N 2, wrI N I, G)
    else if isQ (tokN N J) J 15 = true ∨ isQ (tokN N J) J 16 = true ∨ isQ (tokN N J) J 17 = true
      then (decide (nuN (tokN (tokN N J) J) J 34 = 0), nuN (tokN (tokN N J) J) J, nuI (tokN (tokN N J) J) I, up2 (up2 (up2 (up2 G 29 (3 * r + G 28 r) f) 30 (3 * r + G 28 r) (relS (tokN N J) J)) 31 (3 * r + G 28 r) (nuV (tokN (tokN N J) J))) 28 r (G 28 r + 1))
      else (false, wrN (tokN N J) 1, wrI (tokN N J) I, up2 G 29 (3 * r + G 28 r) f)
