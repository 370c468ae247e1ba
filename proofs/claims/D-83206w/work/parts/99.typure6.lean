set_option maxRecDepth 100000
/-! all rules, in both -/
def rlS (t : Nat) (b : Nat → Nat) (x : Nat × Nat × Nat × Nat) (cc aa : Nat → Nat) : Nat → Nat × Nat × Nat × Nat
  | 0 => x
  | i + 1 => ruE t b (rlS t b x cc aa i) (cc i) (aa i)
def rlG (t : Nat) (b : Nat → Nat) (x : Nat × Nat × Nat × Nat) (G : Nat → Nat → Nat) (cc aa : Nat → Nat) : Nat → Nat → Nat → Nat
  | 0 => G
  | i + 1 => ruG t b (rlS t b x cc aa i) (rlG t b x G cc aa i) (cc i) (aa i)
theorem rlS_cg {t : Nat} {b : Nat → Nat} {x : Nat × Nat × Nat × Nat} {cc aa cc' aa' : Nat → Nat} : ∀ n, (∀ j, j < n → cc' j = cc j ∧ aa' j = aa j) → rlS t b x cc' aa' n = rlS t b x cc aa n := by
  intro n
  induction n with
  | zero => intro _; rfl
  | succ n ih => intro h; rw [rlS, rlS, ih (fun j hj => h j (by omega)), (h n (by omega)).1, (h n (by omega)).2]
theorem rlG_cg {t : Nat} {b : Nat → Nat} {x : Nat × Nat × Nat × Nat} {G : Nat → Nat → Nat} {cc aa cc' aa' : Nat → Nat} : ∀ n, (∀ j, j < n → cc' j = cc j ∧ aa' j = aa j) → rlG t b x G cc' aa' n = rlG t b x G cc aa n := by
  intro n
  induction n with
  | zero => intro _; rfl
  | succ n ih => intro h; rw [rlG, rlG, ih (fun j hj => h j (by omega)), rlS_cg n (fun j hj => h j (by omega)), (h n (by omega)).1, (h n (by omega)).2]
theorem rlG_25 {t : Nat} {b : Nat → Nat} {x : Nat × Nat × Nat × Nat} {G : Nat → Nat → Nat} {cc aa : Nat → Nat} (h : G 25 10 = 0) : ∀ n, rlG t b x G cc aa n 25 10 = n := by
  intro n
  induction n with
  | zero => exact h
  | succ n ih => rw [rlG, ruG, up2_s, ih]
def RlP (t : Nat) (b : Nat → Nat) (x : Nat × Nat × Nat × Nat) (cc aa : Nat → Nat) (n : Nat) : Prop := ∀ i, i < n → (rlS t b x cc aa i).1 ≠ 0 ∧ RuR t b (rlS t b x cc aa i) (cc i) (aa i)
/-- something is at hand with which a rule begins -/
def Beg (b : Nat → Nat) (z : Nat × Nat × Nat × Nat) : Prop := IsK b z 2 ∨ ∃ a, a < 6 ∧ IsAct b z a
def RlF (t : Nat) (b : Nat → Nat) (z : Nat × Nat × Nat × Nat) (n kd pl : Nat) : Prop := z.1 ≠ 0 ∧ ((¬ Beg b z ∧ kd = 1 ∧ pl = z.2.1) ∨ (Beg b z ∧ n = 10 ∧ kd = 2 ∧ pl = z.2.1) ∨ (Beg b z ∧ n ≠ 10 ∧ ∃ c, RuT t b z c kd pl))
theorem rl_tie {N0 : Nat → Nat} {I : Nat → Int32} {G : Nat → Nat → Nat} {J : Nat → Nat → Int32} {x : Nat × Nat × Nat × Nat} (h25 : G 25 10 = 0) : ∀ (k i n : Nat) (N : Nat → Nat) (cc aa : Nat → Nat), i + k = 10 → k < n → N 33 = N0 33 → RlP (N0 33) (byS (N0 33) (J 32)) x cc aa i → Al N J (rlS (N0 33) (byS (N0 33) (J 32)) x cc aa i) →
    (∃ m cc' aa' N', i ≤ m ∧ m ≤ 10 ∧ RlP (N0 33) (byS (N0 33) (J 32)) x cc' aa' m ∧ (rlS (N0 33) (byS (N0 33) (J 32)) x cc' aa' m).1 = 0 ∧ rlT J n N I (rlG (N0 33) (byS (N0 33) (J 32)) x G cc aa i) = (true, N', I, rlG (N0 33) (byS (N0 33) (J 32)) x G cc' aa' m) ∧ N' 34 = 0) ∨
    (∃ m cc' aa' kd pl, i ≤ m ∧ m ≤ 10 ∧ RlP (N0 33) (byS (N0 33) (J 32)) x cc' aa' m ∧ RlF (N0 33) (byS (N0 33) (J 32)) (rlS (N0 33) (byS (N0 33) (J 32)) x cc' aa' m) m kd pl ∧ (rlT J n N I (rlG (N0 33) (byS (N0 33) (J 32)) x G cc aa i)).1 = false ∧ (rlT J n N I (rlG (N0 33) (byS (N0 33) (J 32)) x G cc aa i)).2.1 34 = kd ∧ (rlT J n N I (rlG (N0 33) (byS (N0 33) (J 32)) x G cc aa i)).2.2.1 35 = nI pl) := by
  intro k
  induction k with
  | zero =>
    intro i n N cc aa hi hn h33 hP ha
    obtain ⟨m, rfl⟩ : ∃ m, n = m + 1 := ⟨n - 1, by omega⟩
    have w12 := wd12 ha
    have w13 := wh13_none ha
    rw [h33] at w12 w13
    by_cases hz : (rlS (N0 33) (byS (N0 33) (J 32)) x cc aa i).1 = 0
    · refine Or.inl ⟨i, cc, aa, N, Nat.le_refl _, by omega, hP, hz, ?_, ha.2.1⟩
      rw [rlT, if_pos (ha.1.1.trans hz)]
    · have hz2 : ¬ N 36 = 0 := fun e => hz (ha.1.1.symm.trans e)
      have e25 := rlG_25 (t := N0 33) (b := byS (N0 33) (J 32)) (x := x) (cc := cc) (aa := aa) h25 i
      by_cases hB : Beg (byS (N0 33) (J 32)) (rlS (N0 33) (byS (N0 33) (J 32)) x cc aa i)
      · have hw := wr_at (I := I) (k := 2) ha
        refine Or.inr ⟨i, cc, aa, 2, (rlS (N0 33) (byS (N0 33) (J 32)) x cc aa i).2.1, Nat.le_refl _, by omega, hP, ⟨hz, Or.inr (Or.inl ⟨hB, by omega, rfl, rfl⟩)⟩, ?_⟩
        have hno : ¬ (isQ N J 12 = false ∧ whQ N J 13 = none) := by
          intro ⟨q1, q2⟩
          rcases hB with q | q
          · rw [w12.1.mpr q] at q1; cases q1
          · exact w13.mp q2 q
        have eR : ruT N I (rlG (N0 33) (byS (N0 33) (J 32)) x G cc aa i) J = (false, wrN N 2, wrI N I, rlG (N0 33) (byS (N0 33) (J 32)) x G cc aa i) := by
          unfold ruT
          rw [if_neg hno, if_pos (by omega)]
        rw [rlT_s hz2, eR]
        exact ⟨rfl, hw.1, hw.2⟩
      · have hw := wr_at (I := I) (k := 1) ha
        refine Or.inr ⟨i, cc, aa, 1, (rlS (N0 33) (byS (N0 33) (J 32)) x cc aa i).2.1, Nat.le_refl _, by omega, hP, ⟨hz, Or.inl ⟨hB, rfl, rfl⟩⟩, ?_⟩
        have hyes : isQ N J 12 = false ∧ whQ N J 13 = none := by
          refine ⟨?_, w13.mpr (fun q => hB (Or.inr q))⟩
          cases hh : isQ N J 12 with
          | false => rfl
          | true => exact absurd (Or.inl (w12.1.mp hh)) hB
        have eR : ruT N I (rlG (N0 33) (byS (N0 33) (J 32)) x G cc aa i) J = (false, wrN N 1, wrI N I, rlG (N0 33) (byS (N0 33) (J 32)) x G cc aa i) := by
          unfold ruT
          rw [if_pos hyes]
        rw [rlT_s hz2, eR]
        exact ⟨rfl, hw.1, hw.2⟩
  | succ k ih =>
    intro i n N cc aa hi hn h33 hP ha
    obtain ⟨m, rfl⟩ : ∃ m, n = m + 1 := ⟨n - 1, by omega⟩
    have w12 := wd12 ha
    have w13 := wh13_none ha
    rw [h33] at w12 w13
    by_cases hz : (rlS (N0 33) (byS (N0 33) (J 32)) x cc aa i).1 = 0
    · refine Or.inl ⟨i, cc, aa, N, Nat.le_refl _, by omega, hP, hz, ?_, ha.2.1⟩
      rw [rlT, if_pos (ha.1.1.trans hz)]
    · have hz2 : ¬ N 36 = 0 := fun e => hz (ha.1.1.symm.trans e)
      have e25 := rlG_25 (t := N0 33) (b := byS (N0 33) (J 32)) (x := x) (cc := cc) (aa := aa) h25 i
      by_cases hB : Beg (byS (N0 33) (J 32)) (rlS (N0 33) (byS (N0 33) (J 32)) x cc aa i)
      · rcases ru_all (I := I) (G := rlG (N0 33) (byS (N0 33) (J 32)) x G cc aa i) ha (by omega) (by rw [h33]; exact hB) with ⟨c, a, N', g1, g2, g3, g4⟩ | ⟨c, kd, pl, g1, g2, g3, g4⟩
        · rw [h33] at g1 g2 g3 g4
          have hcg : ∀ j, j < i → up1 cc i c j = cc j ∧ up1 aa i a j = aa j := fun j hj => ⟨up1_o (by omega), up1_o (by omega)⟩
          have er := rlS_cg (t := N0 33) (b := byS (N0 33) (J 32)) (x := x) i hcg
          have eg := rlG_cg (t := N0 33) (b := byS (N0 33) (J 32)) (x := x) (G := G) i hcg
          have e1 : rlS (N0 33) (byS (N0 33) (J 32)) x (up1 cc i c) (up1 aa i a) (i + 1) = ruE (N0 33) (byS (N0 33) (J 32)) (rlS (N0 33) (byS (N0 33) (J 32)) x cc aa i) c a := by
            rw [rlS, er, up1_s, up1_s]
          have e2 : rlG (N0 33) (byS (N0 33) (J 32)) x G (up1 cc i c) (up1 aa i a) (i + 1) = ruG (N0 33) (byS (N0 33) (J 32)) (rlS (N0 33) (byS (N0 33) (J 32)) x cc aa i) (rlG (N0 33) (byS (N0 33) (J 32)) x G cc aa i) c a := by
            rw [rlG, er, eg, up1_s, up1_s]
          have hP' : RlP (N0 33) (byS (N0 33) (J 32)) x (up1 cc i c) (up1 aa i a) (i + 1) := by
            intro j hj
            rw [rlS_cg (t := N0 33) (b := byS (N0 33) (J 32)) (x := x) (cc := cc) (aa := aa) j (fun l hl => hcg l (by omega))]
            by_cases e : j = i
            · subst e
              rw [up1_s, up1_s]
              exact ⟨hz, g1⟩
            · rw [up1_o e, up1_o e]
              exact hP j (by omega)
          have hh := ih (i + 1) m N' (up1 cc i c) (up1 aa i a) (by omega) (by omega) g4 hP' (by rw [e1]; exact g3)
          rw [e2] at hh
          rw [rlT_s hz2, g2]
          show _ ∨ _
          rw [if_pos rfl]
          rcases hh with ⟨q, u1, u2, u3, q1, q2⟩ | ⟨q, u1, u2, u3, u4, q1, q2⟩
          · exact Or.inl ⟨q, u1, u2, u3, by omega, q2⟩
          · exact Or.inr ⟨q, u1, u2, u3, u4, by omega, q2⟩
        · rw [h33] at g1
          refine Or.inr ⟨i, cc, aa, kd, pl, Nat.le_refl _, by omega, hP, ⟨hz, Or.inr (Or.inr ⟨hB, by omega, c, g1⟩)⟩, ?_⟩
          rw [rlT_s hz2, if_neg (by rw [g2]; decide)]
          exact ⟨rfl, g3, g4⟩
      · have hw := wr_at (I := I) (k := 1) ha
        refine Or.inr ⟨i, cc, aa, 1, (rlS (N0 33) (byS (N0 33) (J 32)) x cc aa i).2.1, Nat.le_refl _, by omega, hP, ⟨hz, Or.inl ⟨hB, rfl, rfl⟩⟩, ?_⟩
        have hyes : isQ N J 12 = false ∧ whQ N J 13 = none := by
          refine ⟨?_, w13.mpr (fun q => hB (Or.inr q))⟩
          cases hh : isQ N J 12 with
          | false => rfl
          | true => exact absurd (Or.inl (w12.1.mp hh)) hB
        have eR : ruT N I (rlG (N0 33) (byS (N0 33) (J 32)) x G cc aa i) J = (false, wrN N 1, wrI N I, rlG (N0 33) (byS (N0 33) (J 32)) x G cc aa i) := by
          unfold ruT
          rw [if_pos hyes]
        rw [rlT_s hz2, eR]
        exact ⟨rfl, hw.1, hw.2⟩
/-- the whole text -/
abbrev rd0 (t : Nat) (b : Nat → Nat) : Nat × Nat × Nat × Nat := nxT t b 0 0
theorem re_al (N : Nat → Nat) (J : Nat → Nat → Int32) : Al (reN N J) J (rd0 (N 33) (byS (N 33) (J 32))) := by
  obtain ⟨e1, e2, e3, e4⟩ := tk_nx (N 33) (byS (N 33) (J 32)) 0 (N 39) 0
  exact ⟨⟨e1, e2, e3, e4⟩, rfl, (nxT_ok (byS_lt _ _) (Nat.zero_le _) (by decide)).1, nxT_tk _ _ _ _⟩
theorem re_tie (N : Nat → Nat) (I : Nat → Int32) (G : Nat → Nat → Nat) (J : Nat → Nat → Int32) :
    (∃ m cc aa N', m ≤ 10 ∧ RlP (N 33) (byS (N 33) (J 32)) (rd0 (N 33) (byS (N 33) (J 32))) cc aa m ∧ (rlS (N 33) (byS (N 33) (J 32)) (rd0 (N 33) (byS (N 33) (J 32))) cc aa m).1 = 0 ∧ reT N I G J = (true, N', up1 I 35 (-1), rlG (N 33) (byS (N 33) (J 32)) (rd0 (N 33) (byS (N 33) (J 32))) (up2 G 25 10 0) cc aa m) ∧ N' 34 = 0) ∨
    (∃ m cc aa kd pl, m ≤ 10 ∧ RlP (N 33) (byS (N 33) (J 32)) (rd0 (N 33) (byS (N 33) (J 32))) cc aa m ∧ RlF (N 33) (byS (N 33) (J 32)) (rlS (N 33) (byS (N 33) (J 32)) (rd0 (N 33) (byS (N 33) (J 32))) cc aa m) m kd pl ∧ (reT N I G J).1 = false ∧ (reT N I G J).2.1 34 = kd ∧ (reT N I G J).2.2.1 35 = nI pl) := by
  have h := rl_tie (N0 := N) (I := up1 I 35 (-1)) (G := up2 G 25 10 0) (J := J) (x := rd0 (N 33) (byS (N 33) (J 32))) up2_s 10 0 11 (reN N J) (fun _ => 0) (fun _ => 0) rfl (by decide) rfl (fun j hj => absurd hj (Nat.not_lt_zero j)) (re_al N J)
  rcases h with ⟨m, cc, aa, N', -, h2⟩ | ⟨m, cc, aa, kd, pl, -, h2⟩
  · exact Or.inl ⟨m, cc, aa, N', h2⟩
  · exact Or.inr ⟨m, cc, aa, kd, pl, h2⟩
