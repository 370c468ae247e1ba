set_option maxRecDepth 100000
/-! rules and recipes as they are read -/
def clT (J : Nat → Nat → Int32) (r : Nat) : Nat → (Nat → Nat) → (Nat → Int32) → (Nat → Nat → Nat) → PT
  | 0, N, I, G => (false, N, I, G)
  | n + 1, N, I, G => if (coT (tokN N J) I G J r).1 = false then coT (tokN N J) I G J r
    else if isQ (coT (tokN N J) I G J r).2.1 J 18 = true then clT J r n (coT (tokN N J) I G J r).2.1 (coT (tokN N J) I G J r).2.2.1 (coT (tokN N J) I G J r).2.2.2
    else coT (tokN N J) I G J r
def mo3 (N : Nat → Nat) (I : Nat → Int32) (J : Nat → Nat → Int32) (a : Nat) : Nat × (Nat → Nat) × (Nat → Int32) := if a = 5 then (nuV (tokN N J), nuN (tokN N J) J, nuI (tokN N J) I) else (0, tokN N J, I)
def enT (N : Nat → Nat) (I : Nat → Int32) (G : Nat → Nat → Nat) (J : Nat → Nat → Int32) (r a : Nat) : PT :=
  (isQ (mo3 N I J a).2.1 J 20, muN (mo3 N I J a).2.1 J (isQ (mo3 N I J a).2.1 J 20), muI (mo3 N I J a).2.1 (mo3 N I J a).2.2 (isQ (mo3 N I J a).2.1 J 20),
    if isQ (mo3 N I J a).2.1 J 20 = true then up2 (up2 (up2 G 26 r a) 27 r (mo3 N I J a).1) 25 10 (G 25 10 + 1) else up2 (up2 G 26 r a) 27 r (mo3 N I J a).1)
def acT (N : Nat → Nat) (I : Nat → Int32) (G : Nat → Nat → Nat) (J : Nat → Nat → Int32) (r : Nat) : PT := match whQ N J 13 with
  | none => (false, wrN N 1, wrI N I, G)
  | some a => enT N I G J r a
/-- behind the conditions: a colon, an act -/
def coA (q : PT) (J : Nat → Nat → Int32) (r : Nat) : PT :=
  if q.1 = false then q
  else if isQ q.2.1 J 19 = false then (false, muN q.2.1 J false, muI q.2.1 q.2.2.1 false, q.2.2.2)
  else acT (muN q.2.1 J true) (muI q.2.1 q.2.2.1 true) q.2.2.2 J r
def ruT (N : Nat → Nat) (I : Nat → Int32) (G : Nat → Nat → Nat) (J : Nat → Nat → Int32) : PT :=
  if isQ N J 12 = false ∧ whQ N J 13 = none then (false, wrN N 1, wrI N I, G)
  else if G 25 10 = 10 then (false, wrN N 2, wrI N I, G)
  else if isQ N J 12 = true then coA (clT J (100 + G 25 10) 4 N I (up2 G 28 (100 + G 25 10) 0)) J (100 + G 25 10)
  else acT N I (up2 G 28 (100 + G 25 10) 0) J (100 + G 25 10)
def rlT (J : Nat → Nat → Int32) : Nat → (Nat → Nat) → (Nat → Int32) → (Nat → Nat → Nat) → PT
  | 0, N, I, G => (false, N, I, G)
  | n + 1, N, I, G => if N 36 = 0 then (true, N, I, G)
    else if (ruT N I G J).1 = true then rlT J n (ruT N I G J).2.1 (ruT N I G J).2.2.1 (ruT N I G J).2.2.2
    else ruT N I G J
/-! what a reader's step keeps -/
/-- the recipe that is read: its rows' numbers -/
def GrOk (G : Nat → Nat → Nat) : Prop := (∀ a b, G a b < 2 ^ 31) ∧ G 25 10 ≤ 10
theorem nuV_le {N : Nat → Nat} (h : PsOk N) : nuV N ≤ 9999 := by
  unfold nuV
  split
  · exact h.2.2.2.2.2
  · exact Nat.zero_le _
theorem relS_le (N : Nat → Nat) (J : Nat → Nat → Int32) : relS N J ≤ 2 := by
  unfold relS
  split
  · decide
  · split <;> decide
theorem coT_ok {N : Nat → Nat} {I : Nat → Int32} {G : Nat → Nat → Nat} {J : Nat → Nat → Int32} {r : Nat} (h : PsOk N) (hG : ∀ a b, G a b < 2 ^ 31) (h3 : G 28 r ≤ 3) : PsOk (coT N I G J r).2.1 ∧ (∀ a b, (coT N I G J r).2.2.2 a b < 2 ^ 31) ∧ (coT N I G J r).2.2.2 28 r ≤ 3 ∧ (coT N I G J r).2.2.2 25 = G 25 ∧ ((coT N I G J r).1 = true → (coT N I G J r).2.2.2 28 r = G 28 r + 1 ∧ G 28 r < 3) := by
  unfold coT
  cases hw : whQ N J 14 with
  | none => exact ⟨h.wr (by decide), hG, h3, rfl, fun q => by cases q⟩
  | some f =>
    have hf := whQ14 hw
    show PsOk (if G 28 r = 3 then _ else _ : PT).2.1 ∧ _
    by_cases c : G 28 r = 3
    · simp only [if_pos c]
      exact ⟨h.wr (by decide), hG, h3, trivial, fun q => by cases q⟩
    · simp only [if_neg c]
      by_cases d : isQ (tokN N J) J 15 = true ∨ isQ (tokN N J) J 16 = true ∨ isQ (tokN N J) J 17 = true
      · simp only [if_pos d]
        have hv := nuV_le ((h.tok (J := J)).tok (J := J))
        have hr := relS_le (tokN N J) J
        refine ⟨(h.tok.tok).nu, hB_up (hB_up (hB_up (hB_up hG (by omega)) (by omega)) (by omega)) (by omega), ?_, ?_, fun _ => ⟨?_, ?_⟩⟩
        · rw [up2_s]; omega
        · rw [up2_o (by decide), up2_o (by decide), up2_o (by decide), up2_o (by decide)]
        · rw [up2_s]
        · omega
      · simp only [if_neg d]
        refine ⟨h.tok.wr (by decide), hB_up hG (by omega), ?_, ?_, fun q => by cases q⟩
        · rw [up2_o (by decide)]; exact h3
        · rw [up2_o (by decide)]
theorem clT_ok {J : Nat → Nat → Int32} {r : Nat} : ∀ {n : Nat} {N : Nat → Nat} {I : Nat → Int32} {G : Nat → Nat → Nat}, PsOk N → (∀ a b, G a b < 2 ^ 31) → G 28 r ≤ 3 → PsOk (clT J r n N I G).2.1 ∧ (∀ a b, (clT J r n N I G).2.2.2 a b < 2 ^ 31) ∧ (clT J r n N I G).2.2.2 28 r ≤ 3 ∧ (clT J r n N I G).2.2.2 25 = G 25 := by
  intro n
  induction n with
  | zero => intro N I G h hG h3; exact ⟨h, hG, h3, rfl⟩
  | succ n ih =>
    intro N I G h hG h3
    obtain ⟨a1, a2, a3, a4, a5⟩ := coT_ok (I := I) (J := J) (h.tok (J := J)) hG h3
    unfold clT
    split
    · exact ⟨a1, a2, a3, a4⟩
    · split
      · obtain ⟨b1, b2, b3, b4⟩ := ih (I := (coT (tokN N J) I G J r).2.2.1) a1 a2 a3
        exact ⟨b1, b2, b3, b4.trans a4⟩
      · exact ⟨a1, a2, a3, a4⟩
theorem mo3_ok {N : Nat → Nat} {I : Nat → Int32} {J : Nat → Nat → Int32} {a : Nat} (h : PsOk N) : PsOk (mo3 N I J a).2.1 ∧ (mo3 N I J a).1 ≤ 9999 := by
  unfold mo3
  split
  · exact ⟨h.tok.nu, nuV_le h.tok⟩
  · exact ⟨h.tok, Nat.zero_le _⟩
theorem enT_ok {N : Nat → Nat} {I : Nat → Int32} {G : Nat → Nat → Nat} {J : Nat → Nat → Int32} {r a : Nat} (h : PsOk N) (hG : ∀ a b, G a b < 2 ^ 31) (h10 : G 25 10 < 10) (ha : a ≤ 5) : PsOk (enT N I G J r a).2.1 ∧ (∀ x y, (enT N I G J r a).2.2.2 x y < 2 ^ 31) ∧ (enT N I G J r a).2.2.2 25 10 ≤ 10 ∧ ((enT N I G J r a).1 = true → (enT N I G J r a).2.2.2 25 10 = G 25 10 + 1) := by
  obtain ⟨a1, a2⟩ := mo3_ok (I := I) (J := J) (a := a) h
  unfold enT
  refine ⟨a1.mu, ?_, ?_, ?_⟩
  · intro x y
    dsimp only
    split
    · exact hB_up (hB_up (hB_up hG (by omega)) (by omega)) (by omega) x y
    · exact hB_up (hB_up hG (by omega)) (by omega) x y
  · dsimp only
    split
    · rw [up2_s]; omega
    · rw [up2_o (by decide), up2_o (by decide)]; omega
  · dsimp only
    intro q
    rw [if_pos q, up2_s]
theorem acT_ok {N : Nat → Nat} {I : Nat → Int32} {G : Nat → Nat → Nat} {J : Nat → Nat → Int32} {r : Nat} (h : PsOk N) (hG : ∀ a b, G a b < 2 ^ 31) (h10 : G 25 10 < 10) : PsOk (acT N I G J r).2.1 ∧ (∀ a b, (acT N I G J r).2.2.2 a b < 2 ^ 31) ∧ (acT N I G J r).2.2.2 25 10 ≤ 10 ∧ ((acT N I G J r).1 = true → (acT N I G J r).2.2.2 25 10 = G 25 10 + 1) := by
  unfold acT
  cases hw : whQ N J 13 with
  | none => exact ⟨h.wr (by decide), hG, by show G 25 10 ≤ 10; omega, fun q => by cases q⟩
  | some a => exact enT_ok (I := I) (J := J) (r := r) h hG h10 (whQ13 hw)
theorem ruT_ok {N : Nat → Nat} {I : Nat → Int32} {G : Nat → Nat → Nat} {J : Nat → Nat → Int32} (h : PsOk N) (hG : GrOk G) : PsOk (ruT N I G J).2.1 ∧ GrOk (ruT N I G J).2.2.2 ∧ ((ruT N I G J).1 = true → (ruT N I G J).2.2.2 25 10 = G 25 10 + 1 ∧ G 25 10 < 10) := by
  unfold ruT
  split
  · exact ⟨h.wr (by decide), hG, fun q => by cases q⟩
  · split
    · exact ⟨h.wr (by decide), hG, fun q => by cases q⟩
    · rename_i c1 c2
      have h10 : G 25 10 < 10 := by have := hG.2; omega
      have hG1 := hB_up (k := 28) (i := 100 + G 25 10) (v := 0) hG.1 (by decide)
      have e25 : up2 G 28 (100 + G 25 10) 0 25 = G 25 := up2_o (by decide)
      split
      · obtain ⟨b1, b2, b3, b4⟩ := clT_ok (J := J) (r := 100 + G 25 10) (n := 4) (I := I) h hG1 (by rw [up2_s]; decide)
        generalize clT J (100 + G 25 10) 4 N I (up2 G 28 (100 + G 25 10) 0) = q at b1 b2 b3 b4
        rw [e25] at b4
        have b5 : q.2.2.2 25 10 = G 25 10 := by rw [b4]
        unfold coA
        split
        · rename_i d
          exact ⟨b1, ⟨b2, by omega⟩, fun z => by rw [d] at z; cases z⟩
        · split
          · exact ⟨b1.mu (J := J) (w := false), ⟨b2, by show q.2.2.2 25 10 ≤ 10; omega⟩, fun z => by cases z⟩
          · obtain ⟨d1, d2, d3, d4⟩ := acT_ok (I := muI q.2.1 q.2.2.1 true) (J := J) (r := 100 + G 25 10) (b1.mu (J := J) (w := true)) b2 (by omega)
            exact ⟨d1, ⟨d2, d3⟩, fun z => ⟨by rw [d4 z, b5], h10⟩⟩
      · obtain ⟨d1, d2, d3, d4⟩ := acT_ok (I := I) (J := J) (r := 100 + G 25 10) h hG1 (by rw [e25]; exact h10)
        exact ⟨d1, ⟨d2, d3⟩, fun z => ⟨by rw [d4 z, e25], h10⟩⟩
theorem PsOk.tok0 {N : Nat → Nat} {J : Nat → Nat → Int32} (h1 : N 33 ≤ 300) (h2 : N 38 ≤ N 33) (h3 : N 34 ≤ 2) (h4 : N 39 ≤ 9999) : PsOk (tokN N J) := by
  obtain ⟨a1, a2, a3, a4, a5, -⟩ := tkQ_ok (b := byS (N 33) (J 32)) (v0 := N 39) h2 h4
  exact ⟨h1, a2, a3, h3, a4, a5⟩
/-! the recipe that was read goes to its place -/
def cq2 (G : Nat → Nat → Nat) (rc k1 k3 : Nat) : Nat → Nat → Nat := fun a i =>
  if (a = 26 ∨ a = 27 ∨ a = 28) ∧ 10 * rc ≤ i ∧ i < 10 * rc + k1 then G a (100 + (i - 10 * rc))
  else if (a = 29 ∨ a = 30 ∨ a = 31) ∧ 30 * rc ≤ i ∧ i < 30 * rc + k3 then G a (300 + (i - 30 * rc)) else G a i
theorem cq2_0 (G : Nat → Nat → Nat) (rc : Nat) : cq2 G rc 0 0 = G := by
  funext a i
  unfold cq2
  rw [if_neg (by omega), if_neg (by omega)]
theorem cq2_hi {G : Nat → Nat → Nat} {rc k1 k3 a i : Nat} (hr : rc < 10) (h1 : k1 ≤ 10) (h3 : k3 ≤ 30) (h : (a = 26 ∨ a = 27 ∨ a = 28) ∧ 100 ≤ i ∨ (a = 29 ∨ a = 30 ∨ a = 31) ∧ 300 ≤ i) : cq2 G rc k1 k3 a i = G a i := by
  unfold cq2
  rw [if_neg (by omega), if_neg (by omega)]
theorem cq2_o {G : Nat → Nat → Nat} {rc k1 k3 a : Nat} (h : a < 26 ∨ 31 < a) : cq2 G rc k1 k3 a = G a := by
  funext i
  unfold cq2
  rw [if_neg (by omega), if_neg (by omega)]
theorem cq2_e1 {G : Nat → Nat → Nat} {rc k k3 a i : Nat} (h : ¬ ((a = 26 ∨ a = 27 ∨ a = 28) ∧ i = 10 * rc + k)) : cq2 G rc k k3 a i = cq2 G rc (k + 1) k3 a i := by
  unfold cq2
  by_cases c1 : (a = 26 ∨ a = 27 ∨ a = 28) ∧ 10 * rc ≤ i ∧ i < 10 * rc + k
  · rw [if_pos c1, if_pos (show (a = 26 ∨ a = 27 ∨ a = 28) ∧ 10 * rc ≤ i ∧ i < 10 * rc + (k + 1) by omega)]
  · rw [if_neg c1, if_neg (show ¬ ((a = 26 ∨ a = 27 ∨ a = 28) ∧ 10 * rc ≤ i ∧ i < 10 * rc + (k + 1)) by omega)]
theorem cq2_v1 {G : Nat → Nat → Nat} {rc k k3 a : Nat} (h : a = 26 ∨ a = 27 ∨ a = 28) : cq2 G rc (k + 1) k3 a (10 * rc + k) = G a (100 + k) := by
  unfold cq2
  rw [if_pos (by omega), show 100 + (10 * rc + k - 10 * rc) = 100 + k by omega]
theorem cq2_1 {G : Nat → Nat → Nat} {rc k k3 : Nat} : up2 (up2 (up2 (cq2 G rc k k3) 26 (10 * rc + k) (G 26 (100 + k))) 27 (10 * rc + k) (G 27 (100 + k))) 28 (10 * rc + k) (G 28 (100 + k)) = cq2 G rc (k + 1) k3 := by
  funext a i
  by_cases h : (a = 26 ∨ a = 27 ∨ a = 28) ∧ i = 10 * rc + k
  · obtain ⟨h, rfl⟩ := h
    rw [cq2_v1 h]
    rcases h with rfl | rfl | rfl <;> simp [up2]
  · rw [← cq2_e1 h]
    unfold up2
    by_cases hi : i = 10 * rc + k
    · have h2 : ¬ a = 26 ∧ ¬ a = 27 ∧ ¬ a = 28 := by omega
      simp [h2]
    · simp [hi]
theorem cq2_e3 {G : Nat → Nat → Nat} {rc k1 k j a i : Nat} (h : ¬ ((a = 29 ∨ a = 30 ∨ a = 31) ∧ i = 3 * (10 * rc + k) + j)) : cq2 G rc k1 (3 * k + j) a i = cq2 G rc k1 (3 * k + (j + 1)) a i := by
  unfold cq2
  by_cases c1 : (a = 26 ∨ a = 27 ∨ a = 28) ∧ 10 * rc ≤ i ∧ i < 10 * rc + k1
  · rw [if_pos c1, if_pos c1]
  · rw [if_neg c1, if_neg c1]
    by_cases c2 : (a = 29 ∨ a = 30 ∨ a = 31) ∧ 30 * rc ≤ i ∧ i < 30 * rc + (3 * k + j)
    · rw [if_pos c2, if_pos (show (a = 29 ∨ a = 30 ∨ a = 31) ∧ 30 * rc ≤ i ∧ i < 30 * rc + (3 * k + (j + 1)) by omega)]
    · rw [if_neg c2, if_neg (show ¬ ((a = 29 ∨ a = 30 ∨ a = 31) ∧ 30 * rc ≤ i ∧ i < 30 * rc + (3 * k + (j + 1))) by omega)]
theorem cq2_v3 {G : Nat → Nat → Nat} {rc k1 k j a : Nat} (h : a = 29 ∨ a = 30 ∨ a = 31) : cq2 G rc k1 (3 * k + (j + 1)) a (3 * (10 * rc + k) + j) = G a (3 * (100 + k) + j) := by
  unfold cq2
  rw [if_neg (by omega), if_pos (by omega), show 300 + (3 * (10 * rc + k) + j - 30 * rc) = 3 * (100 + k) + j by omega]
theorem cq2_3 {G : Nat → Nat → Nat} {rc k1 k j : Nat} : up2 (up2 (up2 (cq2 G rc k1 (3 * k + j)) 29 (3 * (10 * rc + k) + j) (G 29 (3 * (100 + k) + j))) 30 (3 * (10 * rc + k) + j) (G 30 (3 * (100 + k) + j))) 31 (3 * (10 * rc + k) + j) (G 31 (3 * (100 + k) + j)) = cq2 G rc k1 (3 * k + (j + 1)) := by
  funext a i
  by_cases h : (a = 29 ∨ a = 30 ∨ a = 31) ∧ i = 3 * (10 * rc + k) + j
  · obtain ⟨h, rfl⟩ := h
    rw [cq2_v3 h]
    rcases h with rfl | rfl | rfl <;> simp [up2]
  · rw [← cq2_e3 h]
    unfold up2
    by_cases hi : i = 3 * (10 * rc + k) + j
    · have h2 : ¬ a = 29 ∧ ¬ a = 30 ∧ ¬ a = 31 := by omega
      simp [h2]
    · simp [hi]
/-- all that a recipe reads -/
def reN (N : Nat → Nat) (J : Nat → Nat → Int32) : Nat → Nat := tokN (up1 (up1 (up1 N 0 0) 34 0) 38 0) J
def reT (N : Nat → Nat) (I : Nat → Int32) (G : Nat → Nat → Nat) (J : Nat → Nat → Int32) : PT := rlT J 11 (reN N J) (up1 I 35 (-1)) (up2 G 25 10 0)
def recB (N : Nat → Nat) (d : Int32) : Bool := wi d (nI (N 14 / 24)) (nI 24) && !decide (N 23 = 10)
def reG (N : Nat → Nat) (G : Nat → Nat → Nat) (d : Nat) : Nat → Nat → Nat := cq2 (up2 (up2 G 24 (N 23) d) 25 (N 23) (G 25 10)) (N 23) 10 30
