set_option maxRecDepth 100000
/-! a rule, in both -/
def czN (J : Nat → Nat → Int32) (N : Nat → Nat) : Nat → Nat → Nat
  | 0 => N
  | i + 1 => tokN (tokN (tokN (tokN (czN J N i) J) J) J) J
def czG (t : Nat) (b : Nat → Nat) (x : Nat × Nat × Nat × Nat) (r : Nat) (G : Nat → Nat → Nat) : Nat → Nat → Nat → Nat
  | 0 => G
  | i + 1 => up2 (up2 (up2 (up2 (czG t b x r G i) 29 (3 * r + i) (csp (kch 5) ((ixW 5 b (nx t b (cz t b x i))).getD 0))) 30 (3 * r + i) ((nx t b (nx t b (cz t b x i))).2.2.2 - 60)) 31 (3 * r + i) (nx t b (nx t b (nx t b (cz t b x i)))).2.2.2) 28 r (i + 1)
theorem czN_33 (J : Nat → Nat → Int32) (N : Nat → Nat) : ∀ i, czN J N i 33 = N 33 := by
  intro i
  induction i with
  | zero => rfl
  | succ i ih => exact ih
theorem czG_28 {t : Nat} {b : Nat → Nat} {x : Nat × Nat × Nat × Nat} {r : Nat} {G : Nat → Nat → Nat} (h : G 28 r = 0) : ∀ i, czG t b x r G i 28 r = i := by
  intro i
  cases i with
  | zero => exact h
  | succ i => rw [czG, up2_s]
theorem cz_step {N : Nat → Nat} {I : Nat → Int32} {G : Nat → Nat → Nat} {J : Nat → Nat → Int32} {x : Nat × Nat × Nat × Nat} {r i : Nat} (h : Al (czN J N i) J (cz (N 33) (byS (N 33) (J 32)) x i)) (h28 : G 28 r = 0) (hc : CoOk (N 33) (byS (N 33) (J 32)) (nx (N 33) (byS (N 33) (J 32)) (cz (N 33) (byS (N 33) (J 32)) x i))) (hi : i ≠ 3) : coT (tokN (czN J N i) J) I (czG (N 33) (byS (N 33) (J 32)) x r G i) J r = (true, czN J N (i + 1), I, czG (N 33) (byS (N 33) (J 32)) x r G (i + 1)) ∧ Al (czN J N (i + 1)) J (cz (N 33) (byS (N 33) (J 32)) x (i + 1)) := by
  have a1 := h.tok
  have e33 : tokN (czN J N i) J 33 = N 33 := czN_33 J N i
  rw [czN_33] at a1
  have e28 := czG_28 (t := N 33) (b := byS (N 33) (J 32)) (x := x) h28 i
  have hy := co_yes (I := I) (G := czG (N 33) (byS (N 33) (J 32)) x r G i) (r := r) a1 (by rw [e33]; exact hc) (by rw [e28]; exact hi)
  rw [e33, e28] at hy
  exact hy
theorem cl_all {N : Nat → Nat} {I : Nat → Int32} {G : Nat → Nat → Nat} {J : Nat → Nat → Int32} {x : Nat × Nat × Nat × Nat} {r : Nat} (h28 : G 28 r = 0) : ∀ (k i n : Nat), i + k = 3 → k < n → (∀ j, j < i → CoOk (N 33) (byS (N 33) (J 32)) (nx (N 33) (byS (N 33) (J 32)) (cz (N 33) (byS (N 33) (J 32)) x j))) → (∀ j, 0 < j → j ≤ i → IsK (byS (N 33) (J 32)) (cz (N 33) (byS (N 33) (J 32)) x j) 6) → Al (czN J N i) J (cz (N 33) (byS (N 33) (J 32)) x i) →
    (∃ c, i < c ∧ c ≤ 3 ∧ (∀ j, j < c → CoOk (N 33) (byS (N 33) (J 32)) (nx (N 33) (byS (N 33) (J 32)) (cz (N 33) (byS (N 33) (J 32)) x j))) ∧ (∀ j, 0 < j → j < c → IsK (byS (N 33) (J 32)) (cz (N 33) (byS (N 33) (J 32)) x j) 6) ∧ ¬ IsK (byS (N 33) (J 32)) (cz (N 33) (byS (N 33) (J 32)) x c) 6 ∧ clT J r n (czN J N i) I (czG (N 33) (byS (N 33) (J 32)) x r G i) = (true, czN J N c, I, czG (N 33) (byS (N 33) (J 32)) x r G c) ∧ Al (czN J N c) J (cz (N 33) (byS (N 33) (J 32)) x c)) ∨
    (∃ c kd pl, i ≤ c ∧ c ≤ 3 ∧ (∀ j, j < c → CoOk (N 33) (byS (N 33) (J 32)) (nx (N 33) (byS (N 33) (J 32)) (cz (N 33) (byS (N 33) (J 32)) x j))) ∧ (∀ j, 0 < j → j ≤ c → IsK (byS (N 33) (J 32)) (cz (N 33) (byS (N 33) (J 32)) x j) 6) ∧ CoF (N 33) (byS (N 33) (J 32)) (nx (N 33) (byS (N 33) (J 32)) (cz (N 33) (byS (N 33) (J 32)) x c)) c kd pl ∧ (clT J r n (czN J N i) I (czG (N 33) (byS (N 33) (J 32)) x r G i)).1 = false ∧ (clT J r n (czN J N i) I (czG (N 33) (byS (N 33) (J 32)) x r G i)).2.1 34 = kd ∧ (clT J r n (czN J N i) I (czG (N 33) (byS (N 33) (J 32)) x r G i)).2.2.1 35 = nI pl) := by
  intro k
  induction k with
  | zero =>
    intro i n hi hn hc hk ha
    obtain ⟨m, rfl⟩ : ∃ m, n = m + 1 := ⟨n - 1, by omega⟩
    have a1 := ha.tok
    have e33 : tokN (czN J N i) J 33 = N 33 := czN_33 J N i
    rw [czN_33] at a1
    have e28 := czG_28 (t := N 33) (b := byS (N 33) (J 32)) (x := x) h28 i
    obtain ⟨kd, pl, q1, q2, q3, q4⟩ := co_no (I := I) (G := czG (N 33) (byS (N 33) (J 32)) x r G i) (r := r) a1 (by omega) (fun q => q.2 (by omega))
    rw [e33, e28] at q4
    refine Or.inr ⟨i, kd, pl, Nat.le_refl _, by omega, hc, hk, q4, ?_⟩
    rw [clT, if_pos q1]
    exact ⟨q1, q2, q3⟩
  | succ k ih =>
    intro i n hi hn hc hk ha
    obtain ⟨m, rfl⟩ : ∃ m, n = m + 1 := ⟨n - 1, by omega⟩
    by_cases hC : CoOk (N 33) (byS (N 33) (J 32)) (nx (N 33) (byS (N 33) (J 32)) (cz (N 33) (byS (N 33) (J 32)) x i))
    · obtain ⟨s1, s2⟩ := cz_step (I := I) (r := r) (G := G) ha h28 hC (by omega)
      have hc' : ∀ j, j < i + 1 → CoOk (N 33) (byS (N 33) (J 32)) (nx (N 33) (byS (N 33) (J 32)) (cz (N 33) (byS (N 33) (J 32)) x j)) := fun j hj => if e : j = i then e ▸ hC else hc j (by omega)
      have hw := (wd12 s2).2
      rw [czN_33] at hw
      rw [clT, s1]
      by_cases hK : IsK (byS (N 33) (J 32)) (cz (N 33) (byS (N 33) (J 32)) x (i + 1)) 6
      · rw [if_neg (show ¬ (true = false) by decide), if_pos (hw.mpr hK)]
        rcases ih (i + 1) m (by omega) (by omega) hc' (fun j h1 h2 => if e : j = i + 1 then e ▸ hK else hk j h1 (by omega)) s2 with ⟨c, g1, g2⟩ | ⟨c, kd, pl, g1, g2⟩
        · exact Or.inl ⟨c, by omega, g2⟩
        · exact Or.inr ⟨c, kd, pl, by omega, g2⟩
      · rw [if_neg (show ¬ (true = false) by decide), if_neg (fun q => hK (hw.mp q))]
        exact Or.inl ⟨i + 1, by omega, by omega, hc', fun j h1 h2 => hk j h1 (by omega), hK, rfl, s2⟩
    · have a1 := ha.tok
      have e33 : tokN (czN J N i) J 33 = N 33 := czN_33 J N i
      rw [czN_33] at a1
      have e28 := czG_28 (t := N 33) (b := byS (N 33) (J 32)) (x := x) h28 i
      obtain ⟨kd, pl, q1, q2, q3, q4⟩ := co_no (I := I) (G := czG (N 33) (byS (N 33) (J 32)) x r G i) (r := r) a1 (by omega) (fun q => hC (by rw [e33] at q; exact q.1))
      rw [e33, e28] at q4
      refine Or.inr ⟨i, kd, pl, Nat.le_refl _, by omega, hc, hk, q4, ?_⟩
      rw [clT, if_pos q1]
      exact ⟨q1, q2, q3⟩
/-- the reference's rows behind a rule -/
def ruG (t : Nat) (b : Nat → Nat) (x : Nat × Nat × Nat × Nat) (G : Nat → Nat → Nat) (c a : Nat) : Nat → Nat → Nat := up2 (up2 (up2 (czG t b x (100 + G 25 10) (up2 G 28 (100 + G 25 10) 0) c) 26 (100 + G 25 10) a) 27 (100 + G 25 10) (if a = 5 then (nx t b (ruW t b x c)).2.2.2 else 0)) 25 10 (G 25 10 + 1)
theorem czG_25 {t : Nat} {b : Nat → Nat} {x : Nat × Nat × Nat × Nat} {r : Nat} {G : Nat → Nat → Nat} : ∀ i, czG t b x r G i 25 = G 25 := by
  intro i
  induction i with
  | zero => rfl
  | succ i ih => rw [czG, up2_o (by decide), up2_o (by decide), up2_o (by decide), up2_o (by decide), ih]
theorem ru_all {N : Nat → Nat} {I : Nat → Int32} {G : Nat → Nat → Nat} {J : Nat → Nat → Int32} {x : Nat × Nat × Nat × Nat} (h : Al N J x) (hG : G 25 10 ≠ 10) (hx : IsK (byS (N 33) (J 32)) x 2 ∨ ∃ a, a < 6 ∧ IsAct (byS (N 33) (J 32)) x a) :
    (∃ c a N', RuR (N 33) (byS (N 33) (J 32)) x c a ∧ ruT N I G J = (true, N', I, ruG (N 33) (byS (N 33) (J 32)) x G c a) ∧ Al N' J (ruE (N 33) (byS (N 33) (J 32)) x c a) ∧ N' 33 = N 33) ∨
    (∃ c kd pl, RuT (N 33) (byS (N 33) (J 32)) x c kd pl ∧ (ruT N I G J).1 = false ∧ (ruT N I G J).2.1 34 = kd ∧ (ruT N I G J).2.2.1 35 = nI pl) := by
  have hw := (wd12 h).1
  have h28 : up2 G 28 (100 + G 25 10) 0 28 (100 + G 25 10) = 0 := up2_s
  have hno : ¬ (isQ N J 12 = false ∧ whQ N J 13 = none) := by
    intro ⟨q1, q2⟩
    rcases hx with q | q
    · rw [hw.mpr q] at q1; cases q1
    · exact (wh13_none h).mp q2 q
  by_cases hK : IsK (byS (N 33) (J 32)) x 2
  · have eR : ruT N I G J = coA (clT J (100 + G 25 10) 4 N I (up2 G 28 (100 + G 25 10) 0)) J (100 + G 25 10) := by
      unfold ruT
      rw [if_neg hno, if_neg hG, if_pos (hw.mpr hK)]
    rw [eR]
    rcases cl_all (N := N) (I := I) (x := x) h28 3 0 4 rfl (by decide) (fun j hj => absurd hj (Nat.not_lt_zero j)) (fun j h1 h2 => by omega) h with ⟨c, g1, g2, g3, g4, g5, g6, g7⟩ | ⟨c, kd, pl, g1, g2, g3, g4, g5, g6, g7, g8⟩
    · have g6 : clT J (100 + G 25 10) 4 N I (up2 G 28 (100 + G 25 10) 0) = (true, czN J N c, I, czG (N 33) (byS (N 33) (J 32)) x (100 + G 25 10) (up2 G 28 (100 + G 25 10) 0) c) := g6
      have e33 := czN_33 J N c
      have hs := (sg15 g7).2.2.2.1
      have hW : ruW (N 33) (byS (N 33) (J 32)) x c = nx (N 33) (byS (N 33) (J 32)) (cz (N 33) (byS (N 33) (J 32)) x c) := if_neg (by omega)
      by_cases hS : (cz (N 33) (byS (N 33) (J 32)) x c).1 = 3 ∧ (cz (N 33) (byS (N 33) (J 32)) x c).2.2.2 = 58
      · have eA : coA (clT J (100 + G 25 10) 4 N I (up2 G 28 (100 + G 25 10) 0)) J (100 + G 25 10) = acT (tokN (czN J N c) J) I (czG (N 33) (byS (N 33) (J 32)) x (100 + G 25 10) (up2 G 28 (100 + G 25 10) 0) c) J (100 + G 25 10) := by
          rw [g6]
          unfold coA muN muI
          rw [if_neg (show ¬ (true = false) by decide), if_neg (show ¬ (isQ (czN J N c) J 19 = false) by rw [hs.mpr hS]; decide), if_pos rfl, if_pos rfl]
        rw [eA]
        have a1 := g7.tok
        rw [e33] at a1
        have f33 : tokN (czN J N c) J 33 = N 33 := e33
        by_cases hY : ∃ a, a < 6 ∧ IsAct (byS (N 33) (J 32)) (nx (N 33) (byS (N 33) (J 32)) (cz (N 33) (byS (N 33) (J 32)) x c)) a ∧ (a = 5 → (nx (N 33) (byS (N 33) (J 32)) (nx (N 33) (byS (N 33) (J 32)) (cz (N 33) (byS (N 33) (J 32)) x c))).1 = 2) ∧ ((actS (N 33) (byS (N 33) (J 32)) a (nx (N 33) (byS (N 33) (J 32)) (cz (N 33) (byS (N 33) (J 32)) x c))).1 = 3 ∧ (actS (N 33) (byS (N 33) (J 32)) a (nx (N 33) (byS (N 33) (J 32)) (cz (N 33) (byS (N 33) (J 32)) x c))).2.2.2 = 59)
        · obtain ⟨a, y1, y2, y3, y4⟩ := hY
          have hy := ac_yes (I := I) (G := czG (N 33) (byS (N 33) (J 32)) x (100 + G 25 10) (up2 G 28 (100 + G 25 10) 0) c) (r := 100 + G 25 10) a1 y1 (by rw [f33]; exact y2) (by rw [f33]; exact y3) (by rw [f33]; exact y4)
          rw [f33] at hy
          refine Or.inl ⟨c, a, tokN (mo3 (tokN (czN J N c) J) I J a).2.1 J, ⟨g2, fun _ => ⟨hK, hS⟩, g3, g4, by rw [hW]; exact y2, y1, by rw [hW]; exact y3, by rw [hW]; exact y4⟩, ?_, ?_, ?_⟩
          · rw [hy.1]
            unfold ruG
            rw [hW, czG_25, up2_o (by decide)]
          · unfold ruE
            rw [hW]
            exact hy.2
          · have hm := (mo_ok (I := I) (a := a) a1 (by rw [f33]; exact y3)).2.2.2
            exact hm.trans f33
        · obtain ⟨kd, pl, n1, n2, n3, n4⟩ := ac_no (I := I) (G := czG (N 33) (byS (N 33) (J 32)) x (100 + G 25 10) (up2 G 28 (100 + G 25 10) 0) c) (r := 100 + G 25 10) a1 (by rw [f33]; exact hY)
          rw [f33] at n4
          refine Or.inr ⟨c, kd, pl, ⟨g2, fun e => by omega, fun _ => ⟨hK, ?_⟩, g3, g4⟩, n1, n2, n3⟩
          rcases n4 with n4 | n4
          · exact Or.inr (Or.inr (Or.inl ⟨hS, n4⟩))
          · exact Or.inr (Or.inr (Or.inr ⟨hS, n4⟩))
      · have hq : isQ (czN J N c) J 19 = false := by
          cases hh : isQ (czN J N c) J 19 with
          | false => rfl
          | true => exact absurd (hs.mp hh) hS
        have hwr := wr_at (I := I) (k := 1) g7
        refine Or.inr ⟨c, 1, (cz (N 33) (byS (N 33) (J 32)) x c).2.1, ⟨g2, fun e => by omega, fun _ => ⟨hK, Or.inr (Or.inl ⟨g5, hS, rfl, rfl⟩)⟩, g3, g4⟩, ?_⟩
        have eA : coA (clT J (100 + G 25 10) 4 N I (up2 G 28 (100 + G 25 10) 0)) J (100 + G 25 10) = (false, wrN (czN J N c) 1, wrI (czN J N c) I, czG (N 33) (byS (N 33) (J 32)) x (100 + G 25 10) (up2 G 28 (100 + G 25 10) 0) c) := by
          rw [g6]
          unfold coA muN muI
          rw [if_neg (show ¬ (true = false) by decide), if_pos hq, if_neg (by decide), if_neg (by decide)]
        rw [eA]
        exact ⟨rfl, hwr.1, hwr.2⟩
    · have g6 : (clT J (100 + G 25 10) 4 N I (up2 G 28 (100 + G 25 10) 0)).1 = false := g6
      have eA : coA (clT J (100 + G 25 10) 4 N I (up2 G 28 (100 + G 25 10) 0)) J (100 + G 25 10) = clT J (100 + G 25 10) 4 N I (up2 G 28 (100 + G 25 10) 0) := if_pos g6
      rw [eA]
      refine Or.inr ⟨c, kd, pl, ⟨g2, fun e => ?_, fun e => ⟨hK, Or.inl ⟨g4 c e (Nat.le_refl _), g5⟩⟩, g3, fun j h1 h2 => g4 j h1 (by omega)⟩, g6, g7, g8⟩
      subst e
      exact Or.inl ⟨hK, g5⟩
  · have eR : ruT N I G J = acT N I (up2 G 28 (100 + G 25 10) 0) J (100 + G 25 10) := by
      unfold ruT
      rw [if_neg hno, if_neg hG, if_neg (fun q => hK (hw.mp q))]
    rw [eR]
    have hA := hx.resolve_left hK
    by_cases hY : ∃ a, a < 6 ∧ IsAct (byS (N 33) (J 32)) x a ∧ (a = 5 → (nx (N 33) (byS (N 33) (J 32)) x).1 = 2) ∧ ((actS (N 33) (byS (N 33) (J 32)) a x).1 = 3 ∧ (actS (N 33) (byS (N 33) (J 32)) a x).2.2.2 = 59)
    · obtain ⟨a, y1, y2, y3, y4⟩ := hY
      have hy := ac_yes (I := I) (G := up2 G 28 (100 + G 25 10) 0) (r := 100 + G 25 10) h y1 y2 y3 y4
      refine Or.inl ⟨0, a, tokN (mo3 N I J a).2.1 J, ⟨by decide, fun e => absurd e (Nat.lt_irrefl 0), fun j hj => absurd hj (Nat.not_lt_zero j), fun j _ hj => absurd hj (Nat.not_lt_zero j), y2, y1, y3, y4⟩, ?_, hy.2, (mo_ok (I := I) h y3).2.2.2⟩
      rw [hy.1]
      rfl
    · obtain ⟨kd, pl, n1, n2, n3, n4⟩ := ac_no (I := I) (G := up2 G 28 (100 + G 25 10) 0) (r := 100 + G 25 10) h hY
      refine Or.inr ⟨0, kd, pl, ⟨by decide, fun _ => ?_, fun e => absurd e (Nat.lt_irrefl 0), fun j hj => absurd hj (Nat.not_lt_zero j), fun j _ hj => absurd hj (Nat.not_lt_zero j)⟩, n1, n2, n3⟩
      rcases n4 with n4 | n4
      · rcases n4 with n4 | n4
        · obtain ⟨a, ha, hi⟩ := hA
          exact absurd hi.1 n4.1
        · rcases n4.2 with q | q
          · exact absurd ((ixW3_act h.2.2.1 n4.1).mpr hA) (by rw [q.1]; decide)
          · exact Or.inr (Or.inl q)
      · exact Or.inr (Or.inr n4)
