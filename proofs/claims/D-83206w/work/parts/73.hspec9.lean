set_option maxRecDepth 100000
theorem warm_hok {N : Nat → Nat} {G : Nat → Nat → Nat} {J : Nat → Nat → Int32} {X X1 : Nat → Nat → Nat} {Y Y1 : Nat → Nat → Nat → Int32} (h : HOk N G J X Y) {z hr : Nat} {v : Int32} (hz : z < 3) (hh : hr < 600)
    (hY : ∀ a, a ≠ 2 → Y1 a = Y a) (hYo : ∀ z', z' ≠ z → Y1 2 z' = Y 2 z') (hYz : ∀ k, k < 600 → Y1 2 z k = if k = hr then v else if G 17 (600 * z + k) = 0 then nI 100 else J 16 (600 * z + k))
    (hX : ∀ a, a ≠ 1 → X1 a = X a) (hX1 : X1 1 z = 1) (hXo : ∀ z', z' ≠ z → X1 1 z' = X 1 z') : HOk N (up2 G 17 (600 * z + hr) 1) (up2 J 16 (600 * z + hr) v) X1 Y1 := by
  obtain ⟨a1, a2, a3, a4, a5⟩ := h
  have g6 : ∀ c, lv (up2 G 17 (600 * z + hr) 1) c = lv G c := fun c => lv_eq (by rw [up2_o (by decide)])
  refine ⟨?_, fun c hcc hl => ?_, fun c hcc hl k hk1 hk2 => ?_, fun z' hz' => ?_, fun k hk => ?_⟩
  · unfold XOk
    rw [hX 0 (by decide), hX 2 (by decide), hX 3 (by decide), up2_o (by decide), up2_o (by decide)]
    exact a1
  · rw [g6] at hl
    rw [hY 0 (by decide), up2_o (by decide)]; exact a2 c hcc hl
  · rw [g6] at hl
    rw [up2_o (by decide)] at hk1
    rw [hY 1 (by decide), up2_o (by decide)]
    exact a3 c hcc hl k hk1 hk2
  · by_cases e : z' = z
    · subst e
      refine Or.inl ⟨hX1, fun k hk => ?_⟩
      rw [hYz k hk]
      by_cases e2 : k = hr
      · subst e2; rw [if_pos rfl, up2_s, if_neg (by decide), up2_s]
      · rw [if_neg e2, up2_n (by omega), up2_n (by omega)]
    · rw [hXo z' e, hYo z' e]
      have key : ∀ k, k < 600 → 600 * z' + k ≠ 600 * z + hr := fun k hk => by omega
      rcases a4 z' hz' with ⟨q1, q2⟩ | ⟨q1, q2⟩
      · exact Or.inl ⟨q1, fun k hk => by rw [up2_n (key k hk), up2_n (key k hk)]; exact q2 k hk⟩
      · exact Or.inr ⟨q1, fun k hk => by rw [up2_n (key k hk)]; exact q2 k hk⟩
  · rw [up2_o (by decide)]; exact a5 k hk
