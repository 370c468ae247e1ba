set_option maxRecDepth 100000
/-! THE READER AGAINST THE REFERENCE: tokens -/
theorem tk_nx (t : Nat) (b : Nat → Nat) (p v0 v1 : Nat) : (tkQ t b p v0).1 = (nxT t b p v1).1 ∧ (tkQ t b p v0).2.1 = (nxT t b p v1).2.1 ∧ (tkQ t b p v0).2.2.1 = (nxT t b p v1).2.2.1 ∧ ((nxT t b p v1).1 = 2 → (tkQ t b p v0).2.2.2 = (nxT t b p v1).2.2.2) := by
  unfold tkQ nxT
  generalize skW b (t - p) p = q
  split
  · exact ⟨rfl, rfl, rfl, fun e => by cases e⟩
  · split
    · refine ⟨rfl, rfl, rfl, fun e => ?_⟩
      have e : (if 8 < ruC b 97 122 (t - q) q - q then 4 else 1) = 2 := e
      split at e <;> cases e
    · split
      · exact ⟨rfl, rfl, rfl, fun _ => rfl⟩
      · refine ⟨rfl, rfl, rfl, fun e => ?_⟩
        have e : (if sgnB (b q) = true then 3 else 4) = 2 := e
        split at e <;> cases e
/-- a token's kind goes by its first letter and its length -/
def TkP (b : Nat → Nat) (x : Nat × Nat × Nat × Nat) : Prop := (x.1 = 0 → x.2.2.1 = x.2.1) ∧ (x.1 ≠ 0 → x.2.1 < x.2.2.1) ∧ (x.1 ≠ 0 → 97 ≤ b x.2.1 ∧ b x.2.1 ≤ 122 → x.1 = if 8 < x.2.2.1 - x.2.1 then 4 else 1) ∧ (x.1 ≠ 0 → 48 ≤ b x.2.1 ∧ b x.2.1 ≤ 57 → x.1 = if 4 < x.2.2.1 - x.2.1 then 4 else 2) ∧ (x.1 ≠ 0 → ¬ (97 ≤ b x.2.1 ∧ b x.2.1 ≤ 122) → ¬ (48 ≤ b x.2.1 ∧ b x.2.1 ≤ 57) → x.2.2.1 = x.2.1 + 1 ∧ x.2.2.2 = b x.2.1 ∧ x.1 = if sgnB (b x.2.1) = true then 3 else 4)
theorem nxT_tk (t : Nat) (b : Nat → Nat) (p v : Nat) : TkP b (nxT t b p v) := by
  unfold nxT
  generalize skW b (t - p) p = q
  split
  · exact ⟨fun _ => rfl, fun e => absurd rfl e, fun e => absurd rfl e, fun e => absurd rfl e, fun e => absurd rfl e⟩
  · rename_i h1
    split
    · rename_i h2
      have hg := ruC_go (b := b) (lo := 97) (hi := 122) (t := t) (p := q) (by omega) h2
      have hr2 := (ruC_le b 97 122 (t - (q + 1)) (q + 1)).1
      rw [← hg] at hr2
      generalize ruC b 97 122 (t - q) q = z at hr2 ⊢
      refine ⟨fun e => ?_, fun _ => hr2, fun _ _ => rfl, fun _ e => ?_, fun _ e => absurd h2 e⟩
      · have e : (if 8 < z - q then 4 else 1) = 0 := e
        split at e <;> cases e
      · have e : 48 ≤ b q ∧ b q ≤ 57 := e
        omega
    · rename_i h2
      split
      · rename_i h3
        have hg := ruC_go (b := b) (lo := 48) (hi := 57) (t := t) (p := q) (by omega) h3
        have hr2 := (ruC_le b 48 57 (t - (q + 1)) (q + 1)).1
        rw [← hg] at hr2
        generalize ruC b 48 57 (t - q) q = z at hr2 ⊢
        refine ⟨fun e => ?_, fun _ => hr2, fun _ e => absurd e h2, fun _ _ => rfl, fun _ _ e => absurd h3 e⟩
        have e : (if 4 < z - q then 4 else 2) = 0 := e
        split at e <;> cases e
      · rename_i h3
        refine ⟨fun e => ?_, fun _ => Nat.lt_succ_self q, fun _ e => absurd e h2, fun _ e => absurd e h3, fun _ _ _ => ⟨rfl, rfl, rfl⟩⟩
        have e : (if sgnB (b q) = true then 3 else 4) = 0 := e
        split at e <;> cases e
/-- the reference's numbers and the reader's state -/
def RdM (N : Nat → Nat) (x : Nat × Nat × Nat × Nat) : Prop := N 36 = x.1 ∧ N 37 = x.2.1 ∧ N 38 = x.2.2.1 ∧ (x.1 = 2 → N 39 = x.2.2.2)
theorem tok_nx {N : Nat → Nat} {J : Nat → Nat → Int32} {x : Nat × Nat × Nat × Nat} (h : RdM N x) : RdM (tokN N J) (nx (N 33) (byS (N 33) (J 32)) x) := by
  obtain ⟨-, -, h3, -⟩ := h
  obtain ⟨e1, e2, e3, e4⟩ := tk_nx (N 33) (byS (N 33) (J 32)) x.2.2.1 (N 39) x.2.2.2
  unfold nx
  refine ⟨?_, ?_, ?_, fun e => ?_⟩
  · show (tkQ (N 33) (byS (N 33) (J 32)) (N 38) (N 39)).1 = _
    rw [h3]; exact e1
  · show (tkQ (N 33) (byS (N 33) (J 32)) (N 38) (N 39)).2.1 = _
    rw [h3]; exact e2
  · show (tkQ (N 33) (byS (N 33) (J 32)) (N 38) (N 39)).2.2.1 = _
    rw [h3]; exact e3
  · show (tkQ (N 33) (byS (N 33) (J 32)) (N 38) (N 39)).2.2.2 = _
    rw [h3]; exact e4 e
theorem eqT_all {b f : Nat → Nat} {fr a : Nat} : ∀ n, eqT b fr f a n = true ↔ ∀ j, j < n → b (fr + j) = f (a + j) := by
  intro n
  induction n with
  | zero => exact ⟨fun _ j hj => absurd hj (Nat.not_lt_zero j), fun _ => rfl⟩
  | succ n ih =>
    rw [eqT, Bool.and_eq_true, ih, decide_eq_true_eq]
    constructor
    · intro ⟨h1, h2⟩ j hj
      by_cases e : j = n
      · rw [e]; exact h2
      · exact h1 j (by omega)
    · intro h
      exact ⟨fun j hj => h j (by omega), h n (by omega)⟩
theorem isQ_iff {N : Nat → Nat} {J : Nat → Nat → Int32} {x : Nat × Nat × Nat × Nat} {i : Nat} (h : RdM N x) (h0 : N 34 = 0) : isQ N J i = true ↔ x.2.2.1 - x.2.1 = klen i ∧ ∀ j, j < klen i → byS (N 33) (J 32) (x.2.1 + j) = kch i j := by
  unfold isQ isT
  rw [Bool.and_eq_true, Bool.and_eq_true, decide_eq_true_eq, decide_eq_true_eq, eqT_all, h.2.1, h.2.2.1]
  constructor
  · intro ⟨_, h2, h3⟩
    exact ⟨h2, fun j hj => by rw [h3 j hj, Nat.zero_add]⟩
  · intro ⟨h2, h3⟩
    exact ⟨h0, h2, fun j hj => by rw [h3 j hj, Nat.zero_add]⟩
/-- a word -/
theorem isQ_K {N : Nat → Nat} {J : Nat → Nat → Int32} {x : Nat × Nat × Nat × Nat} {i k : Nat} (h : RdM N x) (h0 : N 34 = 0) (ht : TkP (byS (N 33) (J 32)) x) (hk : klen k = klen i ∧ (∀ j, j < klen i → kch k j = kch i j)) (hl : 1 ≤ klen i ∧ klen i ≤ 8 ∧ 97 ≤ kch i 0 ∧ kch i 0 ≤ 122) : isQ N J i = true ↔ IsK (byS (N 33) (J 32)) x k := by
  rw [isQ_iff h h0]
  unfold IsK
  constructor
  · intro ⟨h1, h2⟩
    have hn : x.1 ≠ 0 := fun e => by have := ht.1 e; omega
    have h3 := h2 0 (by omega)
    rw [Nat.add_zero] at h3
    have h4 := ht.2.2.1 hn (by rw [h3]; exact hl.2.2)
    rw [if_neg (by omega)] at h4
    exact ⟨h4, by omega, fun j hj => by rw [h2 j (by omega), hk.2 j (by omega)]⟩
  · intro ⟨_, h2, h3⟩
    exact ⟨by omega, fun j hj => by rw [h3 j (by omega), hk.2 j hj]⟩
/-- a sign -/
theorem isQ_S {N : Nat → Nat} {J : Nat → Nat → Int32} {x : Nat × Nat × Nat × Nat} {i : Nat} (h : RdM N x) (h0 : N 34 = 0) (ht : TkP (byS (N 33) (J 32)) x) (hl : klen i = 1 ∧ sgnB (kch i 0) = true ∧ 58 ≤ kch i 0 ∧ kch i 0 ≤ 62) : isQ N J i = true ↔ (x.1 = 3 ∧ x.2.2.2 = kch i 0) := by
  rw [isQ_iff h h0]
  constructor
  · intro ⟨h1, h2⟩
    have hn : x.1 ≠ 0 := fun e => by have := ht.1 e; omega
    have h3 := h2 0 (by omega)
    rw [Nat.add_zero] at h3
    obtain ⟨-, h5, h6⟩ := ht.2.2.2.2 hn (by rw [h3]; omega) (by rw [h3]; omega)
    rw [h3] at h5 h6
    rw [if_pos hl.2.1] at h6
    exact ⟨h6, h5⟩
  · intro ⟨h1, h2⟩
    have hn : x.1 ≠ 0 := by omega
    by_cases e1 : 97 ≤ byS (N 33) (J 32) x.2.1 ∧ byS (N 33) (J 32) x.2.1 ≤ 122
    · have := ht.2.2.1 hn e1
      split at this <;> omega
    · by_cases e2 : 48 ≤ byS (N 33) (J 32) x.2.1 ∧ byS (N 33) (J 32) x.2.1 ≤ 57
      · have := ht.2.2.2.1 hn e2
        split at this <;> omega
      · obtain ⟨h4, h5, -⟩ := ht.2.2.2.2 hn e1 e2
        refine ⟨by omega, fun j hj => ?_⟩
        rw [show j = 0 by omega, Nat.add_zero]
        omega
/-! words out of a list of words -/
def blL (f : Nat → Nat) : Nat → List (Nat × Nat × Nat)
  | 0 => []
  | k + 1 => if f k = 32 then blL f k ++ [(spA f k, k, spN f k)] else blL f k
theorem whT_bl {N : Nat → Nat} {J : Nat → Nat → Int32} {f : Nat → Nat} : ∀ n, whT N J f n = ((blL f n).find? (fun w => maT N J f w.1 w.2.1 (w.2.1 - w.1))).map (fun w => w.2.2) := by
  intro n
  induction n with
  | zero => rfl
  | succ n ih =>
    rw [whT, ih, blL]
    by_cases h : f n = 32
    · rw [if_pos h, List.find?_append]
      cases hh : (blL f n).find? (fun w => maT N J f w.1 w.2.1 (w.2.1 - w.1)) with
      | some r => rfl
      | none =>
        show (if f n = 32 ∧ maT N J f (spA f n) n (n - spA f n) = true then some (spN f n) else none) = _
        by_cases h2 : maT N J f (spA f n) n (n - spA f n) = true
        · rw [if_pos ⟨h, h2⟩]
          simp [List.find?, h2]
        · rw [if_neg (fun q => h2 q.2)]
          simp [List.find?, h2]
    · rw [if_neg h]
      cases hh : (blL f n).find? (fun w => maT N J f w.1 w.2.1 (w.2.1 - w.1)) with
      | some r => rfl
      | none =>
        show (if f n = 32 ∧ maT N J f (spA f n) n (n - spA f n) = true then some (spN f n) else none) = _
        rw [if_neg (fun q => h q.1)]
        rfl
/-- the word at hand is that one of the list -/
def IsSl (b : Nat → Nat) (x : Nat × Nat × Nat × Nat) (i : Nat) (w : Nat × Nat × Nat) : Prop := x.1 = 1 ∧ x.2.2.1 - x.2.1 = w.2.1 - w.1 ∧ ∀ j, j < w.2.1 - w.1 → b (x.2.1 + j) = kch i (w.1 + j)
theorem maT_iff {N : Nat → Nat} {J : Nat → Nat → Int32} {x : Nat × Nat × Nat × Nat} {i : Nat} {w : Nat × Nat × Nat} (h : RdM N x) (h0 : N 34 = 0) : maT N J (kch i) w.1 w.2.1 (w.2.1 - w.1) = true ↔ IsSl (byS (N 33) (J 32)) x i w := by
  unfold maT IsSl
  rw [Bool.and_eq_true, Bool.and_eq_true, Bool.and_eq_true, decide_eq_true_eq, decide_eq_true_eq, decide_eq_true_eq, eqT_all, h.1, h.2.1, h.2.2.1]
  constructor
  · intro ⟨h1, _, h3, h4⟩
    exact ⟨h1, h3, h4⟩
  · intro ⟨h1, h3, h4⟩
    exact ⟨h1, h0, h3, h4⟩
/-- no word stands twice -/
def uniW (i : Nat) : Prop := ∀ w ∈ blL (kch i) (klen i), ∀ w' ∈ blL (kch i) (klen i), w.2.1 - w.1 = w'.2.1 - w'.1 → (∀ j, j < w.2.1 - w.1 → kch i (w.1 + j) = kch i (w'.1 + j)) → w = w'
theorem IsSl.uni {b : Nat → Nat} {x : Nat × Nat × Nat × Nat} {i : Nat} {w w' : Nat × Nat × Nat} (hu : uniW i) (hw : w ∈ blL (kch i) (klen i)) (hw' : w' ∈ blL (kch i) (klen i)) (h : IsSl b x i w) (h' : IsSl b x i w') : w = w' :=
  hu w hw w' hw' (h.2.1.symm.trans h'.2.1) (fun j hj => (h.2.2 j hj).symm.trans (h'.2.2 j (by have := h.2.1; have := h'.2.1; omega)))
theorem whQ_sl {N : Nat → Nat} {J : Nat → Nat → Int32} {x : Nat × Nat × Nat × Nat} {i r : Nat} (h : RdM N x) (h0 : N 34 = 0) (hu : uniW i) : whQ N J i = some r ↔ ∃ w ∈ blL (kch i) (klen i), w.2.2 = r ∧ IsSl (byS (N 33) (J 32)) x i w := by
  unfold whQ
  rw [whT_bl]
  constructor
  · intro e
    cases hh : (blL (kch i) (klen i)).find? (fun w => maT N J (kch i) w.1 w.2.1 (w.2.1 - w.1)) with
    | none => rw [hh] at e; cases e
    | some w =>
      rw [hh] at e
      have e : w.2.2 = r := Option.some.inj e
      have q9 := List.find?_some hh
      exact ⟨w, List.mem_of_find?_eq_some hh, e, (maT_iff h h0).mp q9⟩
  · intro ⟨w, hw, hr, hs⟩
    cases hh : (blL (kch i) (klen i)).find? (fun w => maT N J (kch i) w.1 w.2.1 (w.2.1 - w.1)) with
    | none =>
      have := List.find?_eq_none.mp hh w hw
      exact absurd ((maT_iff h h0).mpr hs) (by simpa using this)
    | some w' =>
      have q9 := List.find?_some hh
      have e := IsSl.uni hu (List.mem_of_find?_eq_some hh) hw ((maT_iff h h0).mp q9) hs
      rw [e]
      show some w.2.2 = some r
      rw [hr]
theorem ixT_some {f h : Nat → Nat} {k : Nat} : ∀ {d i r : Nat}, ixT f h k d i = some r → eqT f r h 0 k = true ∧ i ≤ r ∧ r < i + d := by
  intro d
  induction d with
  | zero => intro i r e; cases e
  | succ d ih =>
    intro i r e
    rw [ixT] at e
    split at e
    · rename_i q
      cases e
      exact ⟨q, Nat.le_refl _, by omega⟩
    · have := ih e
      exact ⟨this.1, by omega, by omega⟩
theorem ixT_none {f h : Nat → Nat} {k : Nat} : ∀ {d i : Nat}, ixT f h k d i = none → ∀ r, i ≤ r → r < i + d → eqT f r h 0 k = false := by
  intro d
  induction d with
  | zero => intro i _ r h1 h2; omega
  | succ d ih =>
    intro i e r h1 h2
    rw [ixT] at e
    split at e
    · cases e
    · rename_i q
      by_cases hr : r = i
      · rw [hr]; simpa using q
      · exact ih e r (by omega) (by omega)
/-- the list k is a blank and the list i -/
def shW (i k : Nat) : Prop := (klen k = klen i + 1 ∧ 10 ≤ klen k) ∧ (∀ j, j < klen i → kch k (1 + j) = kch i j) ∧ (∀ w ∈ blL (kch i) (klen i), kch k w.1 = 32 ∧ kch k (w.2.1 + 1) = 32 ∧ w.1 ≤ w.2.1 ∧ w.2.1 < klen i) ∧ ∀ n, n < 9 → 1 ≤ n → ∀ p, p < klen k → p + n + 1 < klen k → kch k p = 32 → kch k (p + n + 1) = 32 → (∀ j, j < n → kch k (p + 1 + j) ≠ 32) → ∃ w ∈ blL (kch i) (klen i), w.1 = p ∧ w.2.1 - w.1 = n
theorem eqT_sp {f g : Nat → Nat} {p n : Nat} : eqT f p (spW g n) 0 (n + 2) = true ↔ f p = 32 ∧ f (p + n + 1) = 32 ∧ ∀ j, j < n → f (p + 1 + j) = g j := by
  rw [eqT_all]
  constructor
  · intro h
    refine ⟨?_, ?_, fun j hj => ?_⟩
    · have := h 0 (by omega)
      rw [Nat.add_zero] at this
      rw [this]
      rfl
    · have := h (n + 1) (by omega)
      rw [show p + n + 1 = p + (n + 1) by omega, this]
      unfold spW
      rw [if_neg (by omega), if_neg (by omega)]
    · have := h (1 + j) (by omega)
      rw [show p + 1 + j = p + (1 + j) by omega, this]
      unfold spW
      rw [if_neg (by omega), if_pos (by omega), show 0 + (1 + j) - 1 = j by omega]
  · intro ⟨h1, h2, h3⟩ j hj
    unfold spW
    by_cases e0 : j = 0
    · rw [e0, if_pos (by omega), Nat.add_zero]
      exact h1
    · rw [if_neg (by omega)]
      by_cases e1 : j < n + 1
      · rw [if_pos (by omega), ← h3 (0 + j - 1) (by omega), show p + 1 + (0 + j - 1) = p + j by omega]
      · rw [if_neg (by omega), show p + j = p + n + 1 by omega]
        exact h2
theorem ixW_sl {t : Nat} {b : Nat → Nat} {x : Nat × Nat × Nat × Nat} {i k p : Nat} (hx : RdOk t b x) (h1 : x.1 = 1) (hu : uniW i) (hs : shW i k) : ixW k b x = some p ↔ ∃ w ∈ blL (kch i) (klen i), w.1 = p ∧ IsSl b x i w := by
  obtain ⟨l1, l2, l3⟩ := hx.2.2.2.2 h1
  obtain ⟨s1, s2, s3, s4⟩ := hs
  have key : ∀ q, q < klen k - (x.2.2.1 - x.2.1 + 2) + 1 → x.2.2.1 - x.2.1 + 2 ≤ klen k → eqT (kch k) q (spW (fun j => b (x.2.1 + j)) (x.2.2.1 - x.2.1)) 0 (x.2.2.1 - x.2.1 + 2) = true → ∃ w ∈ blL (kch i) (klen i), w.1 = q ∧ IsSl b x i w := by
    intro q hq hle e
    obtain ⟨a1, a2, a3⟩ := eqT_sp.mp e
    obtain ⟨w, hw, w1, w2⟩ := s4 (x.2.2.1 - x.2.1) (by omega) l1 q (by omega) (by omega) a1 a2 (fun j hj => by rw [a3 j hj]; have := l3 j hj; omega)
    refine ⟨w, hw, w1, h1, w2.symm, fun j hj => ?_⟩
    obtain ⟨-, -, -, w3⟩ := s3 w hw
    rw [← s2 (w.1 + j) (by omega), w1, show 1 + (q + j) = q + 1 + j by omega, a3 j (by omega)]
  have back : ∀ w ∈ blL (kch i) (klen i), IsSl b x i w → x.2.2.1 - x.2.1 + 2 ≤ klen k ∧ w.1 < klen k - (x.2.2.1 - x.2.1 + 2) + 1 ∧ eqT (kch k) w.1 (spW (fun j => b (x.2.1 + j)) (x.2.2.1 - x.2.1)) 0 (x.2.2.1 - x.2.1 + 2) = true := by
    intro w hw hsl
    obtain ⟨b1, b2, b3, b4⟩ := s3 w hw
    have hl := hsl.2.1
    refine ⟨by omega, by omega, eqT_sp.mpr ⟨b1, by rw [show w.1 + (x.2.2.1 - x.2.1) + 1 = w.2.1 + 1 by omega]; exact b2, fun j hj => ?_⟩⟩
    rw [show w.1 + 1 + j = 1 + (w.1 + j) by omega, s2 (w.1 + j) (by omega)]
    exact (hsl.2.2 j (by omega)).symm
  constructor
  · intro e
    obtain ⟨c1, c2, c3⟩ := ixT_some e
    exact key p (by omega) (by omega) c1
  · intro ⟨w, hw, w1, hsl⟩
    obtain ⟨d1, d2, d3⟩ := back w hw hsl
    cases hh : ixW k b x with
    | none =>
      have := ixT_none hh w.1 (Nat.zero_le _) (by omega)
      rw [d3] at this
      cases this
    | some q =>
      obtain ⟨c1, c2, c3⟩ := ixT_some hh
      obtain ⟨w', hw', e1, e2⟩ := key q (by omega) d1 c1
      rw [← e1, IsSl.uni hu hw' hw e2 hsl, w1]
/-! the two lists of words -/
theorem uni13 : uniW 13 := by unfold uniW; decide +kernel
theorem uni14 : uniW 14 := by unfold uniW; decide +kernel
def shB (i k : Nat) : Bool := (List.range 9).all fun n => n == 0 || (List.range (klen k)).all fun p => !(decide (p + n + 1 < klen k)) || !(kch k p == 32) || !(kch k (p + n + 1) == 32) || (List.range n).any (fun j => kch k (p + 1 + j) == 32) || (blL (kch i) (klen i)).any fun w => w.1 == p && w.2.1 - w.1 == n
theorem shB_ok {i k : Nat} (h : shB i k = true) : ∀ n, n < 9 → 1 ≤ n → ∀ p, p < klen k → p + n + 1 < klen k → kch k p = 32 → kch k (p + n + 1) = 32 → (∀ j, j < n → kch k (p + 1 + j) ≠ 32) → ∃ w ∈ blL (kch i) (klen i), w.1 = p ∧ w.2.1 - w.1 = n := by
  intro n hn h1 p hp hq e1 e2 e3
  unfold shB at h
  have a := List.all_eq_true.mp h n (List.mem_range.mpr hn)
  rw [Bool.or_eq_true] at a
  have a := a.resolve_left (by simp; omega)
  have a := List.all_eq_true.mp a p (List.mem_range.mpr hp)
  simp only [hq, e1, e2, decide_true, beq_self_eq_true, Bool.not_true, Bool.false_or, Bool.or_eq_true, List.any_eq_true, List.mem_range, beq_iff_eq, Bool.and_eq_true] at a
  rcases a with ⟨j, hj, e⟩ | ⟨w, hw, e⟩
  · exact absurd e (e3 j hj)
  · exact ⟨w, hw, e⟩
theorem sh13 : shW 13 3 := ⟨by decide, by decide +kernel, by decide +kernel, shB_ok (by decide +kernel)⟩
theorem sh14 : shW 14 5 := ⟨by decide, by decide +kernel, by decide +kernel, shB_ok (by decide +kernel)⟩
theorem act_sl : ∀ w ∈ blL (kch 13) (klen 13), w.2.2 < 6 ∧ w.2.1 - w.1 = (actW w.2.2).length ∧ ∀ j, j < w.2.1 - w.1 → kch 13 (w.1 + j) = actF w.2.2 j := by decide +kernel
theorem act_sl2 : ∀ a, a < 6 → ∃ w ∈ blL (kch 13) (klen 13), w.2.2 = a := by decide +kernel
theorem fld_sl : ∀ w ∈ blL (kch 14) (klen 14), csp (kch 5) w.1 = w.2.2 := by decide +kernel
theorem IsSl_act {b : Nat → Nat} {x : Nat × Nat × Nat × Nat} {w : Nat × Nat × Nat} (hw : w ∈ blL (kch 13) (klen 13)) : IsSl b x 13 w ↔ IsAct b x w.2.2 := by
  obtain ⟨-, h2, h3⟩ := act_sl w hw
  unfold IsSl IsAct
  constructor
  · intro ⟨a1, a2, a3⟩
    exact ⟨a1, a2.trans h2, fun j hj => (a3 j (by omega)).trans (h3 j (by omega))⟩
  · intro ⟨a1, a2, a3⟩
    exact ⟨a1, a2.trans h2.symm, fun j hj => (a3 j (by omega)).trans (h3 j hj).symm⟩
/-- the act at hand, in both -/
theorem whQ_act {N : Nat → Nat} {J : Nat → Nat → Int32} {x : Nat × Nat × Nat × Nat} {a : Nat} (h : RdM N x) (h0 : N 34 = 0) : whQ N J 13 = some a ↔ a < 6 ∧ IsAct (byS (N 33) (J 32)) x a := by
  rw [whQ_sl h h0 uni13]
  constructor
  · intro ⟨w, hw, e, hs⟩
    rw [← e]
    exact ⟨(act_sl w hw).1, (IsSl_act hw).mp hs⟩
  · intro ⟨ha, hs⟩
    obtain ⟨w, hw, e⟩ := act_sl2 a ha
    rw [← e] at hs
    exact ⟨w, hw, e, (IsSl_act hw).mpr hs⟩
theorem ixW3_act {t : Nat} {b : Nat → Nat} {x : Nat × Nat × Nat × Nat} (hx : RdOk t b x) (h1 : x.1 = 1) : (ixW 3 b x).isSome = true ↔ ∃ a, a < 6 ∧ IsAct b x a := by
  rw [Option.isSome_iff_exists]
  constructor
  · intro ⟨p, e⟩
    obtain ⟨w, hw, -, hs⟩ := (ixW_sl hx h1 uni13 sh13).mp e
    exact ⟨w.2.2, (act_sl w hw).1, (IsSl_act hw).mp hs⟩
  · intro ⟨a, ha, hs⟩
    obtain ⟨w, hw, e⟩ := act_sl2 a ha
    rw [← e] at hs
    exact ⟨w.1, (ixW_sl hx h1 uni13 sh13).mpr ⟨w, hw, rfl, (IsSl_act hw).mpr hs⟩⟩
/-- the field at hand, in both -/
theorem whQ_fld {N : Nat → Nat} {J : Nat → Nat → Int32} {x : Nat × Nat × Nat × Nat} {f : Nat} (h : RdM N x) (h0 : N 34 = 0) (hx : RdOk (N 33) (byS (N 33) (J 32)) x) (h1 : x.1 = 1) : whQ N J 14 = some f ↔ ∃ p, ixW 5 (byS (N 33) (J 32)) x = some p ∧ csp (kch 5) p = f := by
  rw [whQ_sl h h0 uni14]
  constructor
  · intro ⟨w, hw, e, hs⟩
    exact ⟨w.1, (ixW_sl hx h1 uni14 sh14).mpr ⟨w, hw, rfl, hs⟩, (fld_sl w hw).trans e⟩
  · intro ⟨p, e, e2⟩
    obtain ⟨w, hw, e3, hs⟩ := (ixW_sl hx h1 uni14 sh14).mp e
    exact ⟨w, hw, by rw [← fld_sl w hw, e3]; exact e2, hs⟩
