set_option maxRecDepth 100000
/-! a rule carried out, if it holds -/
def goY (Y : Nat → Nat → Nat → Int32) (N : Nat → Nat) (G : Nat → Nat → Nat) (J : Nat → Nat → Int32) (c r : Nat) : Nat → Nat → Nat → Int32 := if hdS G J c (N 14) (N 19) r (G 28 r) = true then acY Y N G c r else Y
def goN (N : Nat → Nat) (G : Nat → Nat → Nat) (J : Nat → Nat → Int32) (c r : Nat) : Nat → Nat := if hdS G J c (N 14) (N 19) r (G 28 r) = true then actN N G c r else N
def goG (N : Nat → Nat) (G : Nat → Nat → Nat) (J : Nat → Nat → Int32) (c r : Nat) : Nat → Nat → Nat := if hdS G J c (N 14) (N 19) r (G 28 r) = true then actG N G c r else G
theorem go_yes {Y : Nat → Nat → Nat → Int32} {N : Nat → Nat} {G : Nat → Nat → Nat} {J : Nat → Nat → Int32} {c r : Nat} (h : hdS G J c (N 14) (N 19) r (G 28 r) = true) : goY Y N G J c r = acY Y N G c r ∧ goN N G J c r = actN N G c r ∧ goG N G J c r = actG N G c r := ⟨if_pos h, if_pos h, if_pos h⟩
theorem go_no {Y : Nat → Nat → Nat → Int32} {N : Nat → Nat} {G : Nat → Nat → Nat} {J : Nat → Nat → Int32} {c r : Nat} (h : hdS G J c (N 14) (N 19) r (G 28 r) = false) : goY Y N G J c r = Y ∧ goN N G J c r = N ∧ goG N G J c r = G := by
  have h2 : ¬ hdS G J c (N 14) (N 19) r (G 28 r) = true := by rw [h]; decide
  exact ⟨if_neg h2, if_neg h2, if_neg h2⟩
theorem go_ru {J : Nat → Nat → Int32} {c b : Nat} {N N3 : Nat → Nat} {G G3 : Nat → Nat → Nat} {q : Nat} (e : (N3, G3) = ruS J c b N G q) (hl : lv G3 c = true) : (goN N3 G3 J c (b + q), goG N3 G3 J c (b + q)) = ruS J c b N G (q + 1) := by
  rw [ruS_step e hl]
  unfold goN goG
  split <;> rfl
theorem go_ok {N : Nat → Nat} {G : Nat → Nat → Nat} {J : Nat → Nat → Int32} (h : OkS N G J) (c r : Nat) : OkS (goN N G J c r) (goG N G J c r) J := by
  unfold goN goG
  split
  · exact actS_ok h _ _
  · exact h
theorem go_kN (N : Nat → Nat) (G : Nat → Nat → Nat) (J : Nat → Nat → Int32) (c r : Nat) : KeepN N (goN N G J c r) := by
  unfold goN
  split
  · exact actN_keep _ _ _ _
  · exact KeepN.rf
theorem go_kG (N : Nat → Nat) (G : Nat → Nat → Nat) (J : Nat → Nat → Int32) (c r : Nat) : KeepG G (goG N G J c r) := by
  unfold goG
  split
  · exact actG_keep KeepG.rf _ _ _
  · exact KeepG.rf
theorem go_hr {N : Nat → Nat} {G : Nat → Nat → Nat} {J : Nat → Nat → Int32} {X : Nat → Nat → Nat} {Y : Nat → Nat → Nat → Int32} {n : Nat} (h : HrOk N G J X Y n) {c r : Nat} (h6 : G 26 r ≤ 5) (hl : lv G c = true) : HrOk (goN N G J c r) (goG N G J c r) J X (goY Y N G J c r) n := by
  unfold goN goG goY
  split
  · exact act_hr h h6 hl
  · exact h
/-- rules as the house can hold them -/
def R2Ok (G : Nat → Nat → Nat) : Prop := ∀ i, G 26 i ≤ 5 ∧ G 30 i ≤ 2
theorem R2Ok.keep {G G1 : Nat → Nat → Nat} (h : R2Ok G) (hG : KeepG G G1) : R2Ok G1 := by
  unfold R2Ok
  rw [hG 26 rfl, hG 30 rfl]
  exact h
theorem tk_lv {N : Nat → Nat} {G : Nat → Nat → Nat} {J : Nat → Nat → Int32} {c c' : Nat} (h : lv (tkS N G J c).2.1 c' = true) : lv G c' = true ∧ (c' = c → ¬ 100 ≤ G 8 c + rateS G J c (N 14) / 2 + 1) := by
  have h6 := of_decide_eq_true h
  unfold tkS at h6
  split at h6
  · dsimp only at h6
    rw [goesG_6] at h6
    by_cases e : c' = c
    · rw [if_pos e] at h6; exact absurd h6 (by decide)
    · rw [if_neg e, up2_o (by decide), up2_o (by decide)] at h6
      exact ⟨decide_eq_true h6, fun q => absurd q e⟩
  · rename_i hn
    dsimp only at h6
    rw [up2_o (by decide), up2_o (by decide)] at h6
    exact ⟨decide_eq_true h6, fun _ => hn⟩
theorem tk_5 {N : Nat → Nat} {G : Nat → Nat → Nat} {J : Nat → Nat → Int32} {c : Nat} : (tkS N G J c).2.1 5 = G 5 := by
  unfold tkS
  split
  · dsimp only; rw [goesG_o (by decide) (by decide), up2_o (by decide), up2_o (by decide)]
  · dsimp only; rw [up2_o (by decide), up2_o (by decide)]
theorem tk_12 {N : Nat → Nat} {G : Nat → Nat → Nat} {J : Nat → Nat → Int32} {c : Nat} (i : Nat) : (tkS N G J c).2.1 12 i = if i = 600 * c + N 14 then rateS G J c (N 14) + 1 else G 12 i := by
  have e : (tkS N G J c).2.1 12 = up2 G 12 (600 * c + N 14) (rateS G J c (N 14) + 1) 12 := by
    unfold tkS
    split
    · dsimp only; rw [goesG_o (by decide) (by decide), up2_o (by decide)]
    · dsimp only; rw [up2_o (by decide)]
  rw [e]
  by_cases h : i = 600 * c + N 14
  · rw [if_pos h, h, up2_s]
  · rw [if_neg h, up2_n h]
theorem tk_J {N : Nat → Nat} {G : Nat → Nat → Nat} {J : Nat → Nat → Int32} {c a : Nat} (h : a ≠ 13) : (tkS N G J c).2.2 a = J a := by
  unfold tkS
  split
  · dsimp only; rw [up2_o h]
  · dsimp only; rw [up2_o h]
theorem tk_hr {N : Nat → Nat} {G : Nat → Nat → Nat} {J : Nat → Nat → Int32} {X : Nat → Nat → Nat} {Y Y' : Nat → Nat → Nat → Int32} {c : Nat} (h : HrOk N G J X Y c) (ok : OkS N G J) (h14 : N 14 < 600)
    (h2 : Y' 2 = Y 2) (h1 : ∀ c' k, Y' 1 c' k = if c' = c ∧ k = N 14 then nI (rateS G J c (N 14)) else Y 1 c' k) (h0 : ∀ c', c' ≠ c → Y' 0 c' 0 = Y 0 c' 0) (h0c : ¬ 100 ≤ G 8 c + rateS G J c (N 14) / 2 + 1 → Y' 0 c 0 = Y 0 c 0) : HrOk (tkS N G J c).1 (tkS N G J c).2.1 (tkS N G J c).2.2 X Y' (c + 1) := by
  obtain ⟨⟨a1, a2, a3, a4, a5⟩, a6⟩ := h
  have kn := tkS_keepN N G J c
  have kg := tkS_keepG (G := G) KeepG.rf N J c
  have hr := rateS_le ok c (N 14)
  refine ⟨⟨a1.keep kn kg, fun c' hc' hl => ?_, fun c' hc' hl k hk1 hk2 => ?_, ?_, a5.keep kn kg⟩, fun c' hc' hl => ?_⟩
  · obtain ⟨l1, l2⟩ := tk_lv hl
    rw [kn 3 (by decide)] at hc'
    rw [tk_5]
    by_cases e : c' = c
    · rw [e, h0c (l2 e), ← e]; exact a2 c' hc' l1
    · rw [h0 c' e]; exact a2 c' hc' l1
  · obtain ⟨l1, l2⟩ := tk_lv hl
    rw [kn 3 (by decide)] at hc'
    rw [kg 9 rfl] at hk1
    rw [kn 14 (by decide)] at hk2
    rw [tk_12, h1, if_neg (by omega), if_neg (by omega)]
    exact a3 c' hc' l1 k hk1 hk2
  · unfold WrOk
    rw [kg 17 rfl, tk_J (by decide), h2]
    exact a4
  · obtain ⟨l1, l2⟩ := tk_lv hl
    rw [tk_12, h1, kn 14 (by decide)]
    by_cases e : c' = c
    · rw [e, if_pos rfl, if_pos ⟨rfl, rfl⟩]
      exact ⟨_, hr, rfl, rfl⟩
    · rw [if_neg (by omega), if_neg (fun q => e q.1)]
      exact a6 c' (by omega) l1
theorem HrOk.dead {N : Nat → Nat} {G : Nat → Nat → Nat} {J : Nat → Nat → Int32} {X : Nat → Nat → Nat} {Y : Nat → Nat → Nat → Int32} {c : Nat} (h : HrOk N G J X Y c) (hl : lv G c = false) : HrOk N G J X Y (c + 1) := by
  refine ⟨h.1, fun c' hc' l => ?_⟩
  by_cases e : c' = c
  · rw [e, hl] at l; cases l
  · exact h.2 c' (by omega) l
theorem HrOk.now {N : Nat → Nat} {G : Nat → Nat → Nat} {J : Nat → Nat → Int32} {X : Nat → Nat → Nat} {Y : Nat → Nat → Nat → Int32} (h : HrOk N G J X Y (N 3)) : HOk (up1 N 14 (N 14 + 1)) G J X Y := by
  obtain ⟨⟨a1, a2, a3, a4, a5⟩, a6⟩ := h
  refine ⟨a1, a2, fun c hc hl k hk1 hk2 => ?_, a4, a5⟩
  by_cases e : k = N 14
  · rw [e]; exact a6 c hc hl
  · exact a3 c hc hl k hk1 (by have : k < N 14 + 1 := hk2; omega)
