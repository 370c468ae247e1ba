set_option maxRecDepth 100000
theorem szH_up {N : Nat → Nat} {l n v : Nat} (hl : l < 4) (hn : n = 3 ∧ l = 0 ∨ n = 19 ∧ l = 1 ∨ n = 23 ∧ l = 2 ∨ n = 40 ∧ l = 3) (i : Nat) (hi : i < 4) : szH (up1 N n v) i = if i = l then v else szH N i := by
  have e : i = 0 ∨ i = 1 ∨ i = 2 ∨ i = 3 := by omega
  rcases hn with ⟨rfl, rfl⟩ | ⟨rfl, rfl⟩ | ⟨rfl, rfl⟩ | ⟨rfl, rfl⟩ <;> rcases e with rfl | rfl | rfl | rfl <;> simp [szH, up1]
theorem XOk.add {N : Nat → Nat} {G G1 X : Nat → Nat → Nat} (h : XOk N G X) {l n cap : Nat} (hl : l < 4) (hn : n = 3 ∧ l = 0 ∨ n = 19 ∧ l = 1 ∨ n = 40 ∧ l = 3) (hc : szH N l + 1 ≤ cap ∧ cap < 2 ^ 31) (h25 : G1 25 = G 25) (h28 : G1 28 = G 28) : XOk (up1 N n (szH N l + 1)) G1 (up2 X 0 l cap) := by
  have h23 : up1 N n (szH N l + 1) 23 = N 23 := up1_o (by omega)
  refine ⟨fun i hi => ?_, ?_, ?_⟩
  · rw [szH_up hl (by omega) i hi]
    by_cases e : i = l
    · subst e; rw [if_pos rfl, up2_s]; exact hc
    · rw [if_neg e, up2_n e]; exact h.1 i hi
  · rw [h23, h25, up2_o (by decide)]; exact h.2.1
  · rw [h23, h25, h28, up2_o (by decide)]; exact h.2.2
theorem X2Ok.add {X : Nat → Nat → Nat} (h : X2Ok X) {l cap : Nat} (hc : 10 ≤ cap ∧ cap ≤ 200) : X2Ok (up2 X 0 l cap) := by
  intro i hi
  by_cases e : i = l
  · subst e; rw [up2_s]; exact Or.inr hc
  · rw [up2_n e]; exact h i hi
theorem lv_0 {G : Nat → Nat → Nat} {c : Nat} (h : G 6 c = 0) : lv G c = true := by unfold lv; rw [h]; rfl
theorem crock_hok {N : Nat → Nat} {G : Nat → Nat → Nat} {J : Nat → Nat → Int32} {X : Nat → Nat → Nat} {Y : Nat → Nat → Nat → Int32} (h : HOk N G J X Y) {p0 sa cap : Nat} (hc : N 3 + 1 ≤ cap ∧ cap < 2 ^ 31) : HOk (up1 N 3 (N 3 + 1)) (crockG G (N 3) p0 sa (N 14)) (up2 J 13 (N 3) (-1)) (up2 X 0 0 cap) (yC Y (N 3) p0) := by
  obtain ⟨a1, a2, a3, a4, a5⟩ := h
  have g6 : ∀ c, lv (crockG G (N 3) p0 sa (N 14)) c = lv G c := fun c => lv_eq (by unfold crockG; rw [up2_o (by decide), up2_o (by decide), up2_o (by decide)])
  refine ⟨a1.add (l := 0) (by decide) (by omega) hc ?_ ?_, fun c hcc hl => ?_, fun c hcc hl k hk1 hk2 => ?_, ?_, fun k hk => ?_⟩
  · unfold crockG; rw [up2_o (by decide), up2_o (by decide), up2_o (by decide)]
  · unfold crockG; rw [up2_o (by decide), up2_o (by decide), up2_o (by decide)]
  · rw [up1_s] at hcc
    rw [g6] at hl
    by_cases e : c = N 3
    · rw [e]; unfold yC crockG; rw [up3_o (by decide), upR_o (by decide), up3_s, up2_o (by decide), up2_o (by decide), up2_s]
    · unfold yC crockG; rw [up3_o (by decide), upR_o (by decide), up3_n e, up2_o (by decide), up2_o (by decide), up2_n e]; exact a2 c (by omega) hl
  · rw [up1_s] at hcc
    rw [g6] at hl
    rw [up1_o (by decide)] at hk2
    by_cases e : c = N 3
    · rw [e] at hk1; unfold crockG at hk1; rw [up2_s] at hk1; omega
    · unfold crockG at hk1; rw [up2_n e, up2_o (by decide), up2_o (by decide)] at hk1
      unfold yC crockG; rw [up3_o (by decide), upR_n e, up3_o (by decide), up2_o (by decide), up2_o (by decide), up2_o (by decide)]
      exact a3 c (by omega) hl k hk1 hk2
  · intro z hz
    unfold yC crockG
    rw [up3_o (by decide), upR_o (by decide), up3_o (by decide), up2_o (by decide), up2_o (by decide), up2_o (by decide), up2_o (by decide), up2_o (by decide)]
    exact a4 z hz
  · rw [up1_o (by decide)] at hk
    have := a5 k hk
    rw [up1_s]
    unfold crockG
    rw [up2_o (by decide), up2_o (by decide), up2_o (by decide)]
    omega
theorem test_hok {N : Nat → Nat} {G : Nat → Nat → Nat} {J : Nat → Nat → Int32} {X : Nat → Nat → Nat} {Y : Nat → Nat → Nat → Int32} (h : HOk N G J X Y) {c hr v cap : Nat} {m : Int32} (hcn : c < N 3) (hc : N 19 + 1 ≤ cap ∧ cap < 2 ^ 31) : HOk (up1 N 19 (N 19 + 1)) (testG G (N 19) c hr v) J (up2 X 0 1 cap) (up3 Y 3 1 0 m) := by
  obtain ⟨a1, a2, a3, a4, a5⟩ := h
  have g : ∀ a, a ≠ 20 → a ≠ 21 → a ≠ 22 → testG G (N 19) c hr v a = G a := fun a h0 h1 h2 => by unfold testG; rw [up2_o h2, up2_o h1, up2_o h0]
  have g6 : ∀ c', lv (testG G (N 19) c hr v) c' = lv G c' := fun c' => lv_eq (by rw [g 6 (by decide) (by decide) (by decide)])
  refine ⟨a1.add (l := 1) (by decide) (by omega) hc (g 25 (by decide) (by decide) (by decide)) (g 28 (by decide) (by decide) (by decide)), fun c' hcc hl => ?_, fun c' hcc hl k hk1 hk2 => ?_, ?_, fun k hk => ?_⟩
  · rw [up1_o (by decide)] at hcc
    rw [g6] at hl
    rw [up3_o (by decide), g 5 (by decide) (by decide) (by decide)]; exact a2 c' hcc hl
  · rw [up1_o (by decide)] at hcc hk2
    rw [g6] at hl
    rw [g 9 (by decide) (by decide) (by decide)] at hk1
    rw [up3_o (by decide), g 12 (by decide) (by decide) (by decide)]
    exact a3 c' hcc hl k hk1 hk2
  · intro z hz
    rw [up3_o (by decide), up2_o (by decide), g 17 (by decide) (by decide) (by decide)]
    exact a4 z hz
  · rw [up1_s] at hk
    rw [up1_o (by decide)]
    by_cases e : k = N 19
    · rw [e]; unfold testG; rw [up2_o (by decide), up2_o (by decide), up2_s]; exact hcn
    · unfold testG; rw [up2_o (by decide), up2_o (by decide), up2_n e]; exact a5 k (by omega)
