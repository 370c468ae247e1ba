set_option maxRecDepth 100000
/-- the reader changes nothing but its own numbers -/
def KpN (N N1 : Nat → Nat) : Prop := ∀ k, k ≠ 34 → k ≠ 36 → k ≠ 37 → k ≠ 38 → k ≠ 39 → N1 k = N k
theorem KpN.rf {N : Nat → Nat} : KpN N N := fun _ _ _ _ _ _ => rfl
theorem KpN.tr {N N1 N2 : Nat → Nat} (h : KpN N N1) (h2 : KpN N1 N2) : KpN N N2 := fun k a b c d e => (h2 k a b c d e).trans (h k a b c d e)
theorem KpN.tok {N N1 : Nat → Nat} {J : Nat → Nat → Int32} (h : KpN N N1) : KpN N (tokN N1 J) := h.tr fun k a b c d e => by
  unfold tokN tokQ up1
  rw [if_neg b, if_neg e, if_neg d, if_neg c]
theorem KpN.wr {N N1 : Nat → Nat} {k : Nat} (h : KpN N N1) : KpN N (wrN N1 k) := by
  unfold wrN
  split
  · exact h.tr fun j a b c d e => by unfold up1; rw [if_neg a]
  · exact h
theorem KpN.nu {N N1 : Nat → Nat} {J : Nat → Nat → Int32} (h : KpN N N1) : KpN N (nuN N1 J) := by
  unfold nuN
  split
  · exact h.tok
  · exact h.wr
theorem KpN.mu {N N1 : Nat → Nat} {J : Nat → Nat → Int32} {w : Bool} (h : KpN N N1) : KpN N (muN N1 J w) := by
  unfold muN
  split
  · exact h.tok
  · exact h.wr
theorem KpN.co {N N1 : Nat → Nat} {I : Nat → Int32} {G : Nat → Nat → Nat} {J : Nat → Nat → Int32} {r : Nat} (h : KpN N N1) : KpN N (coT N1 I G J r).2.1 := by
  unfold coT
  cases whQ N1 J 14 with
  | none => exact h.wr
  | some f =>
    show KpN N (if G 28 r = 3 then _ else _ : PT).2.1
    split
    · exact h.wr
    · split
      · exact h.tok.tok.nu
      · exact h.tok.wr
theorem KpN.cl {N : Nat → Nat} {J : Nat → Nat → Int32} {r : Nat} : ∀ {n : Nat} {N1 : Nat → Nat} {I : Nat → Int32} {G : Nat → Nat → Nat}, KpN N N1 → KpN N (clT J r n N1 I G).2.1 := by
  intro n
  induction n with
  | zero => intro N1 I G h; exact h
  | succ n ih =>
    intro N1 I G h
    unfold clT
    split
    · exact h.tok.co
    · split
      · exact ih h.tok.co
      · exact h.tok.co
theorem KpN.mo {N N1 : Nat → Nat} {I : Nat → Int32} {J : Nat → Nat → Int32} {a : Nat} (h : KpN N N1) : KpN N (mo3 N1 I J a).2.1 := by
  unfold mo3
  split
  · exact h.tok.nu
  · exact h.tok
theorem KpN.ac {N N1 : Nat → Nat} {I : Nat → Int32} {G : Nat → Nat → Nat} {J : Nat → Nat → Int32} {r : Nat} (h : KpN N N1) : KpN N (acT N1 I G J r).2.1 := by
  unfold acT
  cases whQ N1 J 13 with
  | none => exact h.wr
  | some a => exact h.mo.mu
theorem KpN.ru {N N1 : Nat → Nat} {I : Nat → Int32} {G : Nat → Nat → Nat} {J : Nat → Nat → Int32} (h : KpN N N1) : KpN N (ruT N1 I G J).2.1 := by
  unfold ruT
  split
  · exact h.wr
  · split
    · exact h.wr
    · split
      · have h2 := KpN.cl (J := J) (r := 100 + G 25 10) (n := 4) (I := I) (G := up2 G 28 (100 + G 25 10) 0) h
        unfold coA
        split
        · exact h2
        · split
          · exact h2.mu (J := J) (w := false)
          · exact (h2.mu (J := J) (w := true)).ac
      · exact h.ac
theorem KpN.rl {N : Nat → Nat} {J : Nat → Nat → Int32} : ∀ {n : Nat} {N1 : Nat → Nat} {I : Nat → Int32} {G : Nat → Nat → Nat}, KpN N N1 → KpN N (rlT J n N1 I G).2.1 := by
  intro n
  induction n with
  | zero => intro N1 I G h; exact h
  | succ n ih =>
    intro N1 I G h
    unfold rlT
    split
    · exact h
    · split
      · exact ih h.ru
      · exact h.ru
theorem re_keep (N : Nat → Nat) (I : Nat → Int32) (G : Nat → Nat → Nat) (J : Nat → Nat → Int32) {k : Nat} (h0 : k ≠ 0) (h34 : k ≠ 34) (h36 : k ≠ 36) (h37 : k ≠ 37) (h38 : k ≠ 38) (h39 : k ≠ 39) : (reT N I G J).2.1 k = N k := by
  have h1 : KpN (up1 (up1 (up1 N 0 0) 34 0) 38 0) (reT N I G J).2.1 := KpN.rl (KpN.tok KpN.rf)
  rw [h1 k h34 h36 h37 h38 h39]
  unfold up1
  rw [if_neg h38, if_neg h34, if_neg h0]
theorem rlT_s {J : Nat → Nat → Int32} {n : Nat} {N : Nat → Nat} {I : Nat → Int32} {G : Nat → Nat → Nat} (h : ¬ N 36 = 0) : rlT J (n + 1) N I G = if (ruT N I G J).1 = true then rlT J n (ruT N I G J).2.1 (ruT N I G J).2.2.1 (ruT N I G J).2.2.2 else (false, (ruT N I G J).2.1, (ruT N I G J).2.2.1, (ruT N I G J).2.2.2) := by
  rw [rlT, if_neg h]
  split
  · rfl
  · rename_i q
    rw [← Bool.eq_false_iff.mpr q]
