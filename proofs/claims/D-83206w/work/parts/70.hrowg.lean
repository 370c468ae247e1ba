set_option maxRecDepth 100000
theorem va_D4 {c1 c2 c3 c4 : Nat × va_E} (h12 : c1.1 ≠ c2.1) (h13 : c1.1 ≠ c3.1) (h14 : c1.1 ≠ c4.1) (h23 : c2.1 ≠ c3.1) (h24 : c2.1 ≠ c4.1) (h34 : c3.1 ≠ c4.1) : va_D nT [c1, c2, c3, c4] := by
  refine ⟨fun i j p q hi hj e => ?_, fun _ _ _ => trivial⟩
  match i, j, hi, hj with
  | 0, 0, _, _ => rfl
  | 1, 1, _, _ => rfl
  | 2, 2, _, _ => rfl
  | 3, 3, _, _ => rfl
  | 0, 1, hi, hj => cases hi; cases hj; exact absurd e h12
  | 0, 2, hi, hj => cases hi; cases hj; exact absurd e h13
  | 0, 3, hi, hj => cases hi; cases hj; exact absurd e h14
  | 1, 2, hi, hj => cases hi; cases hj; exact absurd e h23
  | 1, 3, hi, hj => cases hi; cases hj; exact absurd e h24
  | 2, 3, hi, hj => cases hi; cases hj; exact absurd e h34
  | 1, 0, hi, hj => cases hi; cases hj; exact absurd e.symm h12
  | 2, 0, hi, hj => cases hi; cases hj; exact absurd e.symm h13
  | 3, 0, hi, hj => cases hi; cases hj; exact absurd e.symm h14
  | 2, 1, hi, hj => cases hi; cases hj; exact absurd e.symm h23
  | 3, 1, hi, hj => cases hi; cases hj; exact absurd e.symm h24
  | 3, 2, hi, hj => cases hi; cases hj; exact absurd e.symm h34
  | 0, n + 4, _, hj => cases hj
  | 1, n + 4, _, hj => cases hj
  | 2, n + 4, _, hj => cases hj
  | 3, n + 4, _, hj => cases hj
  | n + 4, _, hi, _ => cases hi
theorem L4 {P : Nat → Prop} {c1 c2 c3 c4 : Nat × va_E} (h1 : P c1.1) (h2 : P c2.1) (h3 : P c3.1) (h4 : P c4.1) : ∀ (j : Nat) (q : Nat × va_E), [c1, c2, c3, c4][j]? = some q → P q.1 := by
  intro j q h
  match j, h with
  | 0, h => cases h; exact h1
  | 1, h => cases h; exact h2
  | 2, h => cases h; exact h3
  | 3, h => cases h; exact h4
  | n + 4, h => cases h
section RHG
variable {A : Nat → Prop} {D : va_G} {dA : Nat → ClassId} {K : Nat → Nat} {ad X : Nat → Nat → Nat} {Y : Nat → Nat → Nat → Int32} {N : Nat → Nat} {I : Nat → Int32} {G G1 : Nat → Nat → Nat} {J : Nat → Nat → Int32} {H H1 : Heap}
theorem Fr.cg {q : Nat} (h : Fr ad N G X q) (h25 : G1 25 = G 25) (h28 : G1 28 = G 28) : Fr ad N G1 X q := fun k i hl => h k i (by
  unfold LH at hl ⊢
  split at hl <;> first | exact hl | (rw [h25] at hl; exact hl) | (rw [h25, h28] at hl; exact hl))
theorem RH.rowG (hH : RH A D dA K ad X Y N I G J H) {j : Nat} (hj : j < N 3) {z : Nat → Nat} (hG : ∀ k, k ≠ 4 → G1 k = G k) (g4 : ∀ l, l < 20 → G1 4 (20 * j + l) = z l) (g4o : ∀ i l, i ≠ j → l < 20 → G1 4 (20 * i + l) = G 4 (20 * i + l))
    (e6 : va_at D CL (ad 6 j, .inr (2, fC ad Y G J j)) H1) (e7 : va_at D CL (ad 7 j, .inl (dA 0, 20, .inl (tr20 z))) H1) (ho : ∀ k i, LH N G X k i → ¬ (k = 6 ∧ i = j) → ¬ (k = 7 ∧ i = j) → H1[ad k i]? = H[ad k i]?) : RH A D dA K ad X Y N I G1 J H1 := by
  have lv : ∀ k i, LH N G1 X k i → LH N G X k i := by
    intro k i hl
    unfold LH at hl ⊢
    split at hl <;> first | exact hl | (rw [hG 25 (by decide)] at hl; exact hl) | (rw [hG 25 (by decide), hG 28 (by decide)] at hl; exact hl)
  refine ⟨fun k i h => ?_, fun k i k' i' h h' => hH.2.1 k i k' i' (lv _ _ h) (lv _ _ h'), fun k i h => hH.2.2 k i (lv _ _ h)⟩
  have h := lv k i h
  match k, h with
  | 0, h =>
    have e3 : EH dA K ad X Y N I G1 J 0 i = EH dA K ad X Y N I G J 0 i := rfl
    rw [e3]; exact (hH.1 0 i h).kept (ho 0 i h (fun q => absurd q.1 (by decide)) (fun q => absurd q.1 (by decide)))
  | 1, h =>
    have e3 : EH dA K ad X Y N I G1 J 1 i = EH dA K ad X Y N I G J 1 i := by
        have e5 : fnH Y G1 J i = fnH Y G J i := by unfold fnH; split <;> first | rfl | (simp only [hG 18 (by decide), hG 2 (by decide), hG 45 (by decide), hG 46 (by decide), hG 47 (by decide), hG 48 (by decide)])
        show (Sum.inl (dA (tyH i), lenH i, Sum.inl (fnH Y G1 J i)) : va_E) = Sum.inl (dA (tyH i), lenH i, Sum.inl (fnH Y G J i))
        rw [e5]
    rw [e3]; exact (hH.1 1 i h).kept (ho 1 i h (fun q => absurd q.1 (by decide)) (fun q => absurd q.1 (by decide)))
  | 2, h =>
    have e3 : EH dA K ad X Y N I G1 J 2 i = EH dA K ad X Y N I G J 2 i := rfl
    rw [e3]; exact (hH.1 2 i h).kept (ho 2 i h (fun q => absurd q.1 (by decide)) (fun q => absurd q.1 (by decide)))
  | 3, h =>
    have e3 : EH dA K ad X Y N I G1 J 3 i = EH dA K ad X Y N I G J 3 i := rfl
    rw [e3]; exact (hH.1 3 i h).kept (ho 3 i h (fun q => absurd q.1 (by decide)) (fun q => absurd q.1 (by decide)))
  | 4, h =>
    have e3 : EH dA K ad X Y N I G1 J 4 i = EH dA K ad X Y N I G J 4 i := rfl
    rw [e3]; exact (hH.1 4 i h).kept (ho 4 i h (fun q => absurd q.1 (by decide)) (fun q => absurd q.1 (by decide)))
  | 5, h =>
    have e3 : EH dA K ad X Y N I G1 J 5 i = EH dA K ad X Y N I G J 5 i := rfl
    rw [e3]; exact (hH.1 5 i h).kept (ho 5 i h (fun q => absurd q.1 (by decide)) (fun q => absurd q.1 (by decide)))
  | 6, h =>
    have e3 : EH dA K ad X Y N I G1 J 6 i = EH dA K ad X Y N I G J 6 i := by simp only [EH, fC, hG 7 (by decide), hG 8 (by decide), hG 9 (by decide), hG 6 (by decide)]
    rw [e3]
    by_cases e : i = j
    · rw [e]; exact e6
    · exact (hH.1 6 i h).kept (ho 6 i h (fun q => e q.2) (fun q => absurd q.1 (by decide)))
  | 7, h =>
    by_cases e : i = j
    · rw [e]
      have e3 : EH dA K ad X Y N I G1 J 7 j = .inl (dA 0, 20, .inl (tr20 z)) := by
        show (Sum.inl (dA 0, 20, Sum.inl (tr20 (fun l => G1 4 (20 * j + l)))) : va_E) = _
        refine inl_cg ?_
        funext l
        unfold tr20
        by_cases hl : l < 20
        · rw [if_pos hl, if_pos hl]; dsimp only; rw [g4 l hl]
        · rw [if_neg hl, if_neg hl]
      rw [e3]; exact e7
    · have e3 : EH dA K ad X Y N I G1 J 7 i = EH dA K ad X Y N I G J 7 i := by
        show (Sum.inl (dA 0, 20, Sum.inl (tr20 (fun l => G1 4 (20 * i + l)))) : va_E) = Sum.inl (dA 0, 20, Sum.inl (tr20 (fun l => G 4 (20 * i + l))))
        refine inl_cg ?_
        funext l
        unfold tr20
        by_cases hl : l < 20
        · rw [if_pos hl, if_pos hl]; dsimp only; rw [g4o i l e hl]
        · rw [if_neg hl, if_neg hl]
      rw [e3]; exact (hH.1 7 i h).kept (ho 7 i h (fun q => absurd q.1 (by decide)) (fun q => e q.2))
  | 8, h =>
    have e3 : EH dA K ad X Y N I G1 J 8 i = EH dA K ad X Y N I G J 8 i := rfl
    rw [e3]; exact (hH.1 8 i h).kept (ho 8 i h (fun q => absurd q.1 (by decide)) (fun q => absurd q.1 (by decide)))
  | 9, h =>
    have e3 : EH dA K ad X Y N I G1 J 9 i = EH dA K ad X Y N I G J 9 i := by simp only [EH, fT, hG 20 (by decide), hG 21 (by decide), hG 22 (by decide)]
    rw [e3]; exact (hH.1 9 i h).kept (ho 9 i h (fun q => absurd q.1 (by decide)) (fun q => absurd q.1 (by decide)))
  | 10, h =>
    have e3 : EH dA K ad X Y N I G1 J 10 i = EH dA K ad X Y N I G J 10 i := by simp only [EH, fR, hG 24 (by decide)]
    rw [e3]; exact (hH.1 10 i h).kept (ho 10 i h (fun q => absurd q.1 (by decide)) (fun q => absurd q.1 (by decide)))
  | 11, h =>
    have e3 : EH dA K ad X Y N I G1 J 11 i = EH dA K ad X Y N I G J 11 i := rfl
    rw [e3]; exact (hH.1 11 i h).kept (ho 11 i h (fun q => absurd q.1 (by decide)) (fun q => absurd q.1 (by decide)))
  | 12, h =>
    have e3 : EH dA K ad X Y N I G1 J 12 i = EH dA K ad X Y N I G J 12 i := by simp only [EH, hG 41 (by decide)]
    rw [e3]; exact (hH.1 12 i h).kept (ho 12 i h (fun q => absurd q.1 (by decide)) (fun q => absurd q.1 (by decide)))
  | 13, h =>
    have e3 : EH dA K ad X Y N I G1 J 13 i = EH dA K ad X Y N I G J 13 i := by simp only [EH, hG 25 (by decide)]
    rw [e3]; exact (hH.1 13 i h).kept (ho 13 i h (fun q => absurd q.1 (by decide)) (fun q => absurd q.1 (by decide)))
  | 14, h =>
    have e3 : EH dA K ad X Y N I G1 J 14 i = EH dA K ad X Y N I G J 14 i := by simp only [EH, hG 25 (by decide)]
    rw [e3]; exact (hH.1 14 i h).kept (ho 14 i h (fun q => absurd q.1 (by decide)) (fun q => absurd q.1 (by decide)))
  | 15, h =>
    have e3 : EH dA K ad X Y N I G1 J 15 i = EH dA K ad X Y N I G J 15 i := by simp only [EH, fA, hG 26 (by decide), hG 27 (by decide)]
    rw [e3]; exact (hH.1 15 i h).kept (ho 15 i h (fun q => absurd q.1 (by decide)) (fun q => absurd q.1 (by decide)))
  | 16, h =>
    have e3 : EH dA K ad X Y N I G1 J 16 i = EH dA K ad X Y N I G J 16 i := by simp only [EH, hG 28 (by decide)]
    rw [e3]; exact (hH.1 16 i h).kept (ho 16 i h (fun q => absurd q.1 (by decide)) (fun q => absurd q.1 (by decide)))
  | 17, h =>
    have e3 : EH dA K ad X Y N I G1 J 17 i = EH dA K ad X Y N I G J 17 i := by simp only [EH, hG 28 (by decide)]
    rw [e3]; exact (hH.1 17 i h).kept (ho 17 i h (fun q => absurd q.1 (by decide)) (fun q => absurd q.1 (by decide)))
  | 18, h =>
    have e3 : EH dA K ad X Y N I G1 J 18 i = EH dA K ad X Y N I G J 18 i := by simp only [EH, fQ, hG 29 (by decide), hG 30 (by decide), hG 31 (by decide)]
    rw [e3]; exact (hH.1 18 i h).kept (ho 18 i h (fun q => absurd q.1 (by decide)) (fun q => absurd q.1 (by decide)))
  | k + 19, h => exact h.elim
theorem sg_comm {a b la lb na nb : Nat} {f g : Nat → Nat} (h : a ≠ b) : sg (sg G a la na f) b lb nb g = sg (sg G b lb nb g) a la na f := by
  funext k i
  unfold sg
  by_cases e : k = a
  · subst e
    rw [if_neg (fun q => h q.1)]
    by_cases e2 : k = k ∧ la ≤ i ∧ i < la + na
    · rw [if_pos e2, if_pos e2]
    · rw [if_neg e2, if_neg e2, if_neg (fun q => h q.1)]
  · rw [if_neg (c := k = a ∧ la ≤ i ∧ i < la + na) (fun q => e q.1), if_neg (c := k = a ∧ la ≤ i ∧ i < la + na) (fun q => e q.1)]
end RHG
theorem jar_hok {N : Nat → Nat} {G G1 : Nat → Nat → Nat} {J : Nat → Nat → Int32} {X : Nat → Nat → Nat} {Y : Nat → Nat → Nat → Int32} (h : HOk N G J X Y) {cap : Nat} {m : Int32} (hG : ∀ a, a ≠ 4 → a ≠ 41 → G1 a = G a) (hc : N 40 + 1 ≤ cap ∧ cap < 2 ^ 31) : HOk (up1 N 40 (N 40 + 1)) G1 J (up2 X 0 3 cap) (up3 Y 3 3 0 m) := by
  obtain ⟨a1, a2, a3, a4, a5⟩ := h
  have g6 : ∀ c', lv G1 c' = lv G c' := fun c' => lv_eq (by rw [hG 6 (by decide) (by decide)])
  refine ⟨a1.add (l := 3) (by decide) (by omega) hc (hG 25 (by decide) (by decide)) (hG 28 (by decide) (by decide)), fun c' hcc hl => ?_, fun c' hcc hl k hk1 hk2 => ?_, ?_, fun k hk => ?_⟩
  · rw [up1_o (by decide)] at hcc
    rw [g6] at hl
    rw [up3_o (by decide), hG 5 (by decide) (by decide)]; exact a2 c' hcc hl
  · rw [up1_o (by decide)] at hcc hk2
    rw [g6] at hl
    rw [hG 9 (by decide) (by decide)] at hk1
    rw [up3_o (by decide), hG 12 (by decide) (by decide)]
    exact a3 c' hcc hl k hk1 hk2
  · intro z hz
    rw [up3_o (by decide), up2_o (by decide), hG 17 (by decide) (by decide)]
    exact a4 z hz
  · rw [up1_o (by decide)] at hk ⊢
    rw [hG 20 (by decide) (by decide)]
    exact a5 k hk
