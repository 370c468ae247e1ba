set_option maxRecDepth 100000
/-- rows that the house holds -/
def usG (a : Nat) : Bool := decide (a ≠ 5 ∧ a ≠ 12 ∧ a ≠ 17 ∧ a ≠ 49)
def usN (k : Nat) : Bool := decide (k ≠ 0 ∧ k ≠ 34 ∧ k ≠ 36 ∧ k ≠ 37 ∧ k ≠ 38 ∧ k ≠ 39)
section RHC
variable {A : Nat → Prop} {D : va_G} {dA : Nat → ClassId} {K : Nat → Nat} {ad X : Nat → Nat → Nat} {Y : Nat → Nat → Nat → Int32} {N N1 : Nat → Nat} {I I1 : Nat → Int32} {G G1 : Nat → Nat → Nat} {J J1 : Nat → Nat → Int32} {H : Heap}
theorem EH_cg (hN : ∀ k, usN k = true → N1 k = N k) (hI : I1 35 = I 35) (hG : ∀ a, usG a = true → G1 a = G a) (hJ : ∀ a, a = 10 ∨ a = 11 ∨ a = 13 ∨ a = 32 → J1 a = J a) (k i : Nat) : EH dA K ad X Y N1 I1 G1 J1 k i = EH dA K ad X Y N I G J k i := by
  have e1 : fnH Y G1 J1 = fnH Y G J := by
    funext z
    unfold fnH
    simp only [hG 2 rfl, hG 18 rfl, hG 45 rfl, hG 46 rfl, hG 47 rfl, hG 48 rfl, hJ 32 (by decide)]
  have e2 : szH N1 = szH N := szH_cg (hN 3 rfl) (hN 19 rfl) (hN 23 rfl) (hN 40 rfl)
  unfold EH
  split <;> simp only [fH, fC, fT, fR, fA, fQ, e1, e2, hN 1 rfl, hN 14 rfl, hN 33 rfl, hN 15 rfl, hN 42 rfl, hN 43 rfl, hN 44 rfl, hI, hG 4 rfl, hG 6 rfl, hG 7 rfl, hG 8 rfl, hG 9 rfl, hG 20 rfl, hG 21 rfl, hG 22 rfl, hG 24 rfl, hG 25 rfl, hG 26 rfl, hG 27 rfl, hG 28 rfl, hG 29 rfl, hG 30 rfl, hG 31 rfl, hG 41 rfl, hJ 10 (by decide), hJ 11 (by decide), hJ 13 (by decide)]
theorem LH_cg2 (hN : ∀ k, usN k = true → N1 k = N k) (hG : ∀ a, usG a = true → G1 a = G a) {k i : Nat} : LH N1 G1 X k i = LH N G X k i := by
  unfold LH
  split <;> simp only [hN 3 rfl, hN 19 rfl, hN 23 rfl, hN 40 rfl, hG 25 rfl, hG 28 rfl]
theorem RH.cg (hH : RH A D dA K ad X Y N I G J H) (hN : ∀ k, usN k = true → N1 k = N k) (hI : I1 35 = I 35) (hG : ∀ a, usG a = true → G1 a = G a) (hJ : ∀ a, a = 10 ∨ a = 11 ∨ a = 13 ∨ a = 32 → J1 a = J a) : RH A D dA K ad X Y N1 I1 G1 J1 H := by
  refine ⟨fun k i h => ?_, fun k i k' i' h h' => ?_, fun k i h => ?_⟩
  · rw [EH_cg hN hI hG hJ]
    exact hH.1 k i (by rw [← LH_cg2 hN hG]; exact h)
  · exact hH.2.1 k i k' i' (by rw [← LH_cg2 hN hG]; exact h) (by rw [← LH_cg2 hN hG]; exact h')
  · exact hH.2.2 k i (by rw [← LH_cg2 hN hG]; exact h)
theorem RH.cgG (hH : RH A D dA K ad X Y N I G J H) (hG : ∀ a, usG a = true → G1 a = G a) : RH A D dA K ad X Y N I G1 J H := hH.cg (fun _ _ => rfl) rfl hG (fun _ _ => rfl)
theorem usG_up {k i v : Nat} (hk : usG k = false) : ∀ a, usG a = true → up2 G k i v a = G a := fun a h => up2_o (fun e => by rw [e, hk] at h; cases h)
/-- an act, by its code -/
theorem RH.act (hH : RH A D dA K ad X Y N I G J H) {i : Nat} (h : i / 10 < N 23 ∧ i % 10 < G 25 (i / 10)) (k : Nat) (hk : G 26 i = k) (h5 : k ≠ 5) : va_at D CL (ad 15 i, .inr (9 + k, [.ref (ad 16 i)])) H := by
  have e : va_at D CL (ad 15 i, .inr (9 + G 26 i, fA ad G i)) H := hH.1 15 i h
  unfold fA at e
  rw [if_neg (by rw [hk]; exact h5), hk] at e
  exact e
theorem RH.act5 (hH : RH A D dA K ad X Y N I G J H) {i : Nat} (h : i / 10 < N 23 ∧ i % 10 < G 25 (i / 10)) (hk : G 26 i = 5) : va_at D CL (ad 15 i, .inr (14, [.ref (ad 16 i), .int (nI (G 27 i))])) H := by
  have e : va_at D CL (ad 15 i, .inr (9 + G 26 i, fA ad G i)) H := hH.1 15 i h
  unfold fA at e
  rw [if_pos hk, hk] at e
  exact e
theorem RH.cp (hH : RH A D dA K ad X Y N I G J H) {i : Nat} (h : i / 30 < N 23 ∧ i / 3 % 10 < G 25 (i / 30) ∧ i % 3 < G 28 (i / 3)) : va_at D CL (ad 18 i, .inr (8, fQ G i)) H := hH.1 18 i h
end RHC
/-! acts, in the house's own numbers -/
def mvY (Y : Nat → Nat → Nat → Int32) (G : Nat → Nat → Nat) (n c lo k : Nat) : Nat → Nat → Nat → Int32 := match frP G n lo k with
  | none => Y
  | some p => up3 Y 0 c 0 (nI p)
theorem mvG_o {G : Nat → Nat → Nat} {n c lo k a : Nat} (h : a ≠ 5) : mvG G n c lo k a = G a := by
  unfold mvG
  cases frP G n lo k with
  | none => rfl
  | some p => exact up2_o h
theorem mvY_o {Y : Nat → Nat → Nat → Int32} {G : Nat → Nat → Nat} {n c lo k a : Nat} (h : a ≠ 0) : mvY Y G n c lo k a = Y a := by
  unfold mvY
  cases frP G n lo k with
  | none => rfl
  | some p => exact up3_o h
def acY (Y : Nat → Nat → Nat → Int32) (N : Nat → Nat) (G : Nat → Nat → Nat) (c r : Nat) : Nat → Nat → Nat → Int32 :=
  if G 26 r = 1 then up3 (wsY Y G c 20) 0 c 0 (-1)
  else if G 26 r = 3 then (if G 5 c < 8 then mvY Y G (N 3) c 8 4 else Y)
  else if G 26 r = 4 then (if 7 < G 5 c then mvY Y G (N 3) c 0 8 else Y)
  else Y
theorem acY_o {Y : Nat → Nat → Nat → Int32} {N : Nat → Nat} {G : Nat → Nat → Nat} {c r a : Nat} (h0 : a ≠ 0) (h4 : a ≠ 4) : acY Y N G c r a = Y a := by
  unfold acY
  split
  · rw [up3_o h0, wsY_o h4]
  · split
    · split
      · exact mvY_o h0
      · rfl
    · split
      · split
        · exact mvY_o h0
        · rfl
      · rfl
theorem up3_0 {Y : Nat → Nat → Nat → Int32} {c c' : Nat} {v : Int32} (h : c' ≠ c) : up3 Y 0 c 0 v 0 c' 0 = Y 0 c' 0 := by simp [up3, h]
theorem up3_0s {Y : Nat → Nat → Nat → Int32} {c : Nat} {v : Int32} : up3 Y 0 c 0 v 0 c 0 = v := by simp [up3]
theorem goesG_6 {G : Nat → Nat → Nat} {c c' s : Nat} : goesG G c s 6 c' = if c' = c then s else G 6 c' := by
  unfold goesG
  have e : ∀ n, zeroG G c n 6 = G 6 := by
    intro n
    induction n with
    | zero => rfl
    | succ n ih => rw [zeroG, up2_o (by decide), ih]
  by_cases h : c' = c
  · subst h; rw [up2_s, if_pos rfl]
  · rw [up2_n h, e, if_neg h]
theorem goesG_o {G : Nat → Nat → Nat} {c s a : Nat} (h4 : a ≠ 4) (h6 : a ≠ 6) : goesG G c s a = G a := by
  unfold goesG
  have e : ∀ n, zeroG G c n a = G a := by
    intro n
    induction n with
    | zero => rfl
    | succ n ih => rw [zeroG, up2_o h4, ih]
  rw [up2_o h6, e]
theorem lv_eq {G G1 : Nat → Nat → Nat} {c : Nat} (h : G1 6 c = G 6 c) : lv G1 c = lv G c := by unfold lv; rw [h]
/-- the places after a move -/
theorem mv_pl {N : Nat → Nat} {G : Nat → Nat → Nat} {Y : Nat → Nat → Nat → Int32} (h : PlOk N G Y) (n c lo k : Nat) : PlOk N (mvG G n c lo k) (mvY Y G n c lo k) := by
  intro c' hc' hl
  unfold mvG mvY at *
  cases hp : frP G n lo k with
  | none => simp only [hp] at hl ⊢; exact h c' hc' hl
  | some p =>
    simp only [hp] at hl ⊢
    by_cases e : c' = c
    · subst e
      rw [up3_0s, up2_s]
    · rw [up3_0 e, up2_n e]
      exact h c' hc' (by rw [← lv_eq (G1 := up2 G 5 c p) (by rw [up2_o (by decide)])]; exact hl)
theorem act_pl {N : Nat → Nat} {G : Nat → Nat → Nat} {Y : Nat → Nat → Nat → Int32} (h : PlOk N G Y) {c r : Nat} (h6 : G 26 r ≤ 5) (hl : lv G c = true) : PlOk (actN N G c r) (actG N G c r) (acY Y N G c r) := by
  have hn3 : actN N G c r 3 = N 3 := actN_keep N G c r 3 (by decide)
  have key : PlOk N (actG N G c r) (acY Y N G c r) := by
    unfold actG acY
    by_cases c0 : G 26 r = 0
    · rw [if_pos c0, if_neg (by omega), if_neg (by omega), if_neg (by omega)]
      intro c' hc' hl'
      rw [up2_o (by decide)]
      exact h c' hc' (by rw [← lv_eq (G1 := up2 G 8 c 0) (by rw [up2_o (by decide)])]; exact hl')
    · rw [if_neg c0]
      by_cases c1 : G 26 r = 1
      · rw [if_pos c1, if_pos c1]
        intro c' hc' hl'
        by_cases e : c' = c
        · subst e
          unfold lv at hl'
          rw [goesG_6, if_pos rfl] at hl'
          exact absurd hl' (by decide)
        · rw [up3_0 e, wsY_o (by decide), goesG_o (by decide) (by decide)]
          exact h c' hc' (by rw [← lv_eq (G1 := goesG G c 2) (by rw [goesG_6, if_neg e])]; exact hl')
      · rw [if_neg c1, if_neg c1]
        by_cases c2 : G 26 r = 2
        · rw [if_pos c2, if_neg (by omega), if_neg (by omega)]
          intro c' hc' hl'
          rw [up2_o (by decide)]
          by_cases e : c' = c
          · subst e; exact h c' hc' hl
          · exact h c' hc' (by rw [← lv_eq (G1 := up2 G 6 c 1) (by rw [up2_n e])]; exact hl')
        · rw [if_neg c2]
          by_cases c3 : G 26 r = 3
          · rw [if_pos c3, if_pos c3]
            split
            · exact mv_pl h _ _ _ _
            · exact h
          · rw [if_neg c3, if_neg c3]
            by_cases c4 : G 26 r = 4
            · rw [if_pos c4, if_pos c4]
              split
              · exact mv_pl h _ _ _ _
              · exact h
            · rw [if_neg c4, if_neg c4]
              intro c' hc' hl'
              rw [up2_o (by decide)]
              exact h c' hc' (by rw [← lv_eq (G1 := up2 G 7 c (if 60 < G 7 c + G 27 r then 60 else G 7 c + G 27 r)) (by rw [up2_o (by decide)])]; exact hl')
  intro c' hc' hl'
  rw [hn3] at hc'
  exact key c' hc' hl'
/-- who lives behind an act lived before -/
theorem act_lv {N : Nat → Nat} {G : Nat → Nat → Nat} {c r c' : Nat} (hl : lv G c = true) (h : lv (actG N G c r) c' = true) : lv G c' = true := by
  by_cases e : c' = c
  · rw [e]; exact hl
  · have e6 : actG N G c r 6 c' = G 6 c' := by
      unfold actG
      split
      · rw [up2_o (by decide)]
      · split
        · rw [goesG_6, if_neg e]
        · split
          · rw [up2_n e]
          · split
            · split
              · rw [mvG_o (by decide)]
              · rfl
            · split
              · split
                · rw [mvG_o (by decide)]
                · rfl
              · rw [up2_o (by decide)]
    rw [← lv_eq e6]; exact h
/-- entries of the hour that is now, of the first n crocks -/
def NwOk (N : Nat → Nat) (G : Nat → Nat → Nat) (Y : Nat → Nat → Nat → Int32) (n : Nat) : Prop := ∀ c, c < n → lv G c = true → ∃ r, r ≤ 12 ∧ G 12 (600 * c + N 14) = r + 1 ∧ Y 1 c (N 14) = nI r
/-- all the house's side needs, in the hour's middle -/
def HrOk (N : Nat → Nat) (G : Nat → Nat → Nat) (J : Nat → Nat → Int32) (X : Nat → Nat → Nat) (Y : Nat → Nat → Nat → Int32) (n : Nat) : Prop := HOk N G J X Y ∧ NwOk N G Y n
theorem XOk.keep {N N1 : Nat → Nat} {G G1 X : Nat → Nat → Nat} (h : XOk N G X) (hN : KeepN N N1) (hG : KeepG G G1) : XOk N1 G1 X := by
  unfold XOk
  rw [hG 25 rfl, hG 28 rfl, hN 23 (by decide), szH_cg (hN 3 (by decide)) (hN 19 (by decide)) (hN 23 (by decide)) (hN 40 (by decide))]
  exact h
theorem TsOk.keep {N N1 : Nat → Nat} {G G1 : Nat → Nat → Nat} (h : TsOk N G) (hN : KeepN N N1) (hG : KeepG G G1) : TsOk N1 G1 := by
  unfold TsOk
  rw [hG 20 rfl, hN 19 (by decide), hN 3 (by decide)]
  exact h
theorem actG_12 (N : Nat → Nat) (G : Nat → Nat → Nat) (c r : Nat) : actG N G c r 12 = G 12 := by
  unfold actG
  split
  · exact up2_o (by decide)
  · split
    · exact goesG_o (by decide) (by decide)
    · split
      · exact up2_o (by decide)
      · split
        · split
          · exact mvG_o (by decide)
          · rfl
        · split
          · split
            · exact mvG_o (by decide)
            · rfl
          · exact up2_o (by decide)
theorem act_hr {N : Nat → Nat} {G : Nat → Nat → Nat} {J : Nat → Nat → Int32} {X : Nat → Nat → Nat} {Y : Nat → Nat → Nat → Int32} {n : Nat} (h : HrOk N G J X Y n) {c r : Nat} (h6 : G 26 r ≤ 5) (hl : lv G c = true) : HrOk (actN N G c r) (actG N G c r) J X (acY Y N G c r) n := by
  have kn := actN_keep N G c r
  have kg := actG_keep (KeepG.rf (G := G)) N c r
  obtain ⟨⟨a1, a2, a3, a4, a5⟩, a6⟩ := h
  refine ⟨⟨a1.keep kn kg, act_pl a2 h6 hl, fun c' hc' hl' k hk1 hk2 => ?_, ?_, a5.keep kn kg⟩, fun c' hc' hl' => ?_⟩
  · rw [kn 3 (by decide)] at hc'
    rw [kg 9 rfl] at hk1
    rw [kn 14 (by decide)] at hk2
    rw [actG_12, acY_o (by decide) (by decide)]
    exact a3 c' hc' (act_lv hl hl') k hk1 hk2
  · unfold WrOk
    rw [kg 17 rfl, acY_o (by decide) (by decide)]
    exact a4
  · rw [actG_12, acY_o (by decide) (by decide), kn 14 (by decide)]
    exact a6 c' hc' (act_lv hl hl')
