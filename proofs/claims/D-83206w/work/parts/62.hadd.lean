set_option maxRecDepth 100000
/-! NEW CELLS: an element is added to one of the house's lists -/
def upR {α : Type} (f : Nat → Nat → Nat → α) (k i : Nat) (v : Nat → α) : Nat → Nat → Nat → α := fun q a b => if q = k then (if a = i then v b else f q a b) else f q a b
theorem upR_o {α : Type} {f : Nat → Nat → Nat → α} {k i : Nat} {v : Nat → α} {a : Nat} (h : a ≠ k) : upR f k i v a = f a := by
  funext x y
  simp [upR, h]
section RHN
variable {A : Nat → Prop} {D : va_G} {dA : Nat → ClassId} {K : Nat → Nat} {ad X ad1 X1 : Nat → Nat → Nat} {Y Y1 : Nat → Nat → Nat → Int32} {N N1 : Nat → Nat} {I I1 : Nat → Int32} {G G1 : Nat → Nat → Nat} {J J1 : Nat → Nat → Int32} {H H1 : Heap}
/-- an address that no cell of the house has -/
def Fr (ad : Nat → Nat → Nat) (N : Nat → Nat) (G X : Nat → Nat → Nat) (q : Nat) : Prop := ∀ k i, LH N G X k i → ad k i ≠ q
theorem Fr.of (hH : RH A D dA K ad X Y N I G J H) {q : Nat} (h : H.size ≤ q) : Fr ad N G X q := fun k i hl e => by
  have := hH.lt hl
  omega
theorem RH.build (hH : RH A D dA K ad X Y N I G J H) (nw : List (Nat × Nat)) (ho : ∀ k i, LH N1 G1 X1 k i → (LH N G X k i ∧ ad1 k i = ad k i) ∨ (k, i) ∈ nw) (hf : ∀ c ∈ nw, Fr ad N G X (ad1 c.1 c.2)) (hn : ∀ c ∈ nw, ∀ c' ∈ nw, ad1 c.1 c.2 = ad1 c'.1 c'.2 → c = c')
    (he : ∀ k i, LH N1 G1 X1 k i → va_at D CL (ad1 k i, EH dA K ad1 X1 Y1 N1 I1 G1 J1 k i) H1) (ha : ∀ c ∈ nw, A (ad1 c.1 c.2)) : RH A D dA K ad1 X1 Y1 N1 I1 G1 J1 H1 := by
  refine ⟨he, fun k i k' i' h h' e => ?_, fun k i h => ?_⟩
  · rcases ho k i h with ⟨l1, e1⟩ | m1
    · rcases ho k' i' h' with ⟨l2, e2⟩ | m2
      · exact hH.2.1 k i k' i' l1 l2 (by rw [← e1, ← e2]; exact e)
      · exact absurd (by rw [← e1]; exact e) (hf _ m2 k i l1)
    · rcases ho k' i' h' with ⟨l2, e2⟩ | m2
      · exact absurd (by rw [← e2]; exact e.symm) (hf _ m1 k' i' l2)
      · have := hn _ m1 _ m2 e
        exact ⟨congrArg Prod.fst this, congrArg Prod.snd this⟩
  · rcases ho k i h with ⟨l1, e1⟩ | m1
    · rw [e1]; exact hH.2.2 k i l1
    · exact ha _ m1
theorem rwH_cg (h3 : ad1 3 = ad 3) (h1 : X1 1 = X 1) : rwH ad1 X1 = rwH ad X := by unfold rwH; rw [h3, h1]
theorem ltH_cg {k n b : Nat} (h : ad1 k = ad k) : ltH ad1 k n b = ltH ad k n b := by unfold ltH; rw [h]
theorem lt_or_eq {i n : Nat} (h : i < n + 1) : i < n ∨ i = n := by omega
theorem RH.addC (hH : RH A D dA K ad X Y N I G J H) {q g r ea cap : Nat} {p0 sa : Nat} (hf : Fr ad N G X q ∧ Fr ad N G X g ∧ Fr ad N G X r) (dqg : q ≠ g) (dqr : q ≠ r) (dgr : g ≠ r) (hA : A q ∧ A g ∧ A r ∧ A ea) (hea : (ea = ad 5 0 ∧ X 0 0 ≠ 0) ∨ (Fr ad N G X ea ∧ ea ≠ q ∧ ea ≠ g ∧ ea ≠ r)) (hcap : cap ≠ 0) (hts : TsOk N G) (hz : (∀ l, l < 20 → G 4 (20 * N 3 + l) = 0) ∧ G 6 (N 3) = 0 ∧ G 8 (N 3) = 0 ∧ J 10 (N 3) = nI 0 ∧ J 11 (N 3) = nI 0)
    (ha : ∀ k, k ≠ 5 → k ≠ 6 → k ≠ 7 → k ≠ 8 → ad1 k = ad k) (hX : ∀ k, k ≠ 0 → X1 k = X k) (hY : ∀ k, k ≠ 0 → k ≠ 1 → k ≠ 3 → Y1 k = Y k) (hN : ∀ k, k ≠ 3 → N1 k = N k) (hG : ∀ k, k ≠ 5 → k ≠ 7 → k ≠ 9 → G1 k = G k) (hJ : ∀ k, k ≠ 13 → J1 k = J k)
    (hn : N1 3 = N 3 + 1) (a5 : ad1 5 0 = ea) (a5o : ∀ i, i ≠ 0 → ad1 5 i = ad 5 i) (x0 : X1 0 0 = cap) (x0o : ∀ i, i ≠ 0 → X1 0 i = X 0 i) (y3 : Y1 3 0 0 = Y 3 0 0 + nI 1) (y3o : ∀ i, i ≠ 0 → Y1 3 i = Y 3 i) (an6 : ad1 6 (N 3) = q) (ao6 : ∀ i, i ≠ N 3 → ad1 6 i = ad 6 i) (an7 : ad1 7 (N 3) = g) (ao7 : ∀ i, i ≠ N 3 → ad1 7 i = ad 7 i) (an8 : ad1 8 (N 3) = r) (ao8 : ∀ i, i ≠ N 3 → ad1 8 i = ad 8 i)
    (eq : va_at D CL (q, .inr (2, [.ref g, .int (nI (N 3)), .ref r, .int (nI p0), .int (nI sa), .int (nI 0), .int (nI (N 14)), .int (nI 0), .int (nI 0), .int (nI 0), .int (-1)])) H1) (eg : va_at D CL (g, .inl (dA 0, 20, .inl (fun _ => 0))) H1) (er : va_at D CL (r, .inl (dA 1, 600, .inl (fun _ => 0))) H1) (y0 : Y1 0 (N 3) 0 = nI p0) (y0o : ∀ i, i ≠ N 3 → Y1 0 i = Y 0 i) (y1 : Y1 1 (N 3) = fun _ => 0) (y1o : ∀ i, i ≠ N 3 → Y1 1 i = Y 1 i) (g7 : G1 7 (N 3) = sa) (g7o : ∀ i, i ≠ N 3 → G1 7 i = G 7 i) (g9 : G1 9 (N 3) = N 14) (g9o : ∀ i, i ≠ N 3 → G1 9 i = G 9 i) (j13 : J1 13 (N 3) = -1) (j13o : ∀ i, i ≠ N 3 → J1 13 i = J 13 i)
    (hl : va_at D CL (ad 4 0, .inr (15, [.int (Y 3 0 0 + nI 1), .ref ea, .int (nI (N 3 + 1))])) H1) (hE : va_at D CL (ea, .inl (dA 4, cap, rfA (ltH ad1 6 (N 3 + 1) 0))) H1)
    (ho : ∀ k i, LH N G X k i → ¬ (k = 4 ∧ i = 0) → ¬ (k = 5 ∧ i = 0) → H1[ad k i]? = H[ad k i]?) : RH A D dA K ad1 X1 Y1 N1 I G1 J1 H1 := by
  have old : ∀ k i, LH N G X k i → ¬ (k = 4 ∧ i = 0) → ¬ (k = 5 ∧ i = 0) → va_at D CL (ad k i, EH dA K ad X Y N I G J k i) H1 := fun k i h h4 h5 => (hH.1 k i h).kept (ho k i h h4 h5)
  have live : ∀ k i, LH N1 G1 X1 k i → LH N G X k i ∨ (k, i) ∈ [(6, N 3), (7, N 3), (8, N 3), (5, 0)] := by
    intro k i h
    match k, h with
    | 0, h => exact Or.inl h
    | 1, h => exact Or.inl h
    | 2, h => exact Or.inl h
    | 3, h => exact Or.inl ⟨h.1, by rw [← hX 1 (by decide)]; exact h.2⟩
    | 4, h => exact Or.inl h
    | 5, h =>
      by_cases e : i = 0
      · exact Or.inr (by rw [e]; simp)
      · exact Or.inl ⟨h.1, by rw [← x0o i e]; exact h.2⟩
    | 6, h =>
      rcases lt_or_eq (show i < N 3 + 1 from by have h1 : i < N1 3 := h; rw [hn] at h1; exact h1) with q | q
      · exact Or.inl q
      · exact Or.inr (by rw [q]; simp)
    | 7, h =>
      rcases lt_or_eq (show i < N 3 + 1 from by have h1 : i < N1 3 := h; rw [hn] at h1; exact h1) with q | q
      · exact Or.inl q
      · exact Or.inr (by rw [q]; simp)
    | 8, h =>
      rcases lt_or_eq (show i < N 3 + 1 from by have h1 : i < N1 3 := h; rw [hn] at h1; exact h1) with q | q
      · exact Or.inl q
      · exact Or.inr (by rw [q]; simp)
    | 9, h => exact Or.inl (show i < N 19 by rw [← hN 19 (by decide)]; exact h)
    | 10, h => exact Or.inl (show i < N 23 by rw [← hN 23 (by decide)]; exact h)
    | 11, h => exact Or.inl (show i < N 40 by rw [← hN 40 (by decide)]; exact h)
    | 12, h => exact Or.inl (show i < N 40 by rw [← hN 40 (by decide)]; exact h)
    | 13, h => exact Or.inl (show i < N 23 by rw [← hN 23 (by decide)]; exact h)
    | 14, h => exact Or.inl (show i < N 23 by rw [← hN 23 (by decide)]; exact h)
    | 15, h => exact Or.inl ⟨by rw [← hN 23 (by decide)]; exact h.1, by rw [← hG 25 (by decide) (by decide) (by decide)]; exact h.2⟩
    | 16, h => exact Or.inl ⟨by rw [← hN 23 (by decide)]; exact h.1, by rw [← hG 25 (by decide) (by decide) (by decide)]; exact h.2⟩
    | 17, h => exact Or.inl ⟨by rw [← hN 23 (by decide)]; exact h.1, by rw [← hG 25 (by decide) (by decide) (by decide)]; exact h.2⟩
    | 18, h => exact Or.inl ⟨by rw [← hN 23 (by decide)]; exact h.1, by rw [← hG 25 (by decide) (by decide) (by decide)]; exact h.2.1, by rw [← hG 28 (by decide) (by decide) (by decide)]; exact h.2.2⟩
    | k + 19, h => exact h.elim
  have he : ∀ k i, LH N1 G1 X1 k i → va_at D CL (ad1 k i, EH dA K ad1 X1 Y1 N1 I G1 J1 k i) H1 := by
    intro k i h
    have hv := live k i h
    simp only [List.mem_cons, Prod.mk.injEq, List.not_mem_nil, or_false] at hv
    match k, h with
    | 0, h =>
      have e3 : EH dA K ad1 X1 Y1 N1 I G1 J1 0 i = EH dA K ad X Y N I G J 0 i := by simp only [EH, fH, ha 1 (by decide) (by decide) (by decide) (by decide), ha 2 (by decide) (by decide) (by decide) (by decide), ha 4 (by decide) (by decide) (by decide) (by decide), hY 12 (by decide) (by decide) (by decide), hN 1 (by decide), hN 14 (by decide), hN 33 (by decide), hN 15 (by decide), hN 42 (by decide), hN 43 (by decide), hN 44 (by decide)]
      rw [e3, ha 0 (by decide) (by decide) (by decide) (by decide)]; exact old 0 i (hv.resolve_right (by omega)) (fun q => absurd q.1 (by decide)) (fun q => absurd q.1 (by decide))
    | 1, h =>
      rw [ha 1 (by decide) (by decide) (by decide) (by decide)]
      have e3 : fnH Y1 G1 J1 i = fnH Y G J i := by unfold fnH; split <;> first | rfl | (simp only [hY 4 (by decide) (by decide) (by decide), hY 5 (by decide) (by decide) (by decide), hY 6 (by decide) (by decide) (by decide), hY 7 (by decide) (by decide) (by decide), hY 8 (by decide) (by decide) (by decide), hY 9 (by decide) (by decide) (by decide), hG 18 (by decide) (by decide) (by decide), hG 2 (by decide) (by decide) (by decide), hG 45 (by decide) (by decide) (by decide), hG 46 (by decide) (by decide) (by decide), hG 47 (by decide) (by decide) (by decide), hG 48 (by decide) (by decide) (by decide), hJ 32 (by decide)])
      show va_at D CL (ad 1 i, .inl (dA (tyH i), lenH i, .inl (fnH Y1 G1 J1 i))) H1
      rw [e3]; exact old 1 i (hv.resolve_right (by omega)) (fun q => absurd q.1 (by decide)) (fun q => absurd q.1 (by decide))
    | 2, h =>
      have e3 : EH dA K ad1 X1 Y1 N1 I G1 J1 2 i = EH dA K ad X Y N I G J 2 i := by simp only [EH, rwH_cg (ha 3 (by decide) (by decide) (by decide) (by decide)) (hX 1 (by decide))]
      rw [e3, ha 2 (by decide) (by decide) (by decide) (by decide)]; exact old 2 i (hv.resolve_right (by omega)) (fun q => absurd q.1 (by decide)) (fun q => absurd q.1 (by decide))
    | 3, h =>
      have e3 : EH dA K ad1 X1 Y1 N1 I G1 J1 3 i = EH dA K ad X Y N I G J 3 i := by simp only [EH, hY 2 (by decide) (by decide) (by decide)]
      rw [e3, ha 3 (by decide) (by decide) (by decide) (by decide)]; exact old 3 i (hv.resolve_right (by omega)) (fun q => absurd q.1 (by decide)) (fun q => absurd q.1 (by decide))
    | 4, h =>
      have h4 : i < 4 := h
      rw [ha 4 (by decide) (by decide) (by decide) (by decide)]
      by_cases e : i = 0
      · rw [e]
        show va_at D CL (ad 4 0, .inr (15, [.int (Y1 3 0 0), .ref (elH K ad1 X1 0), .int (nI (N1 3))])) H1
        rw [y3, hn, show elH K ad1 X1 0 = ea from by unfold elH; rw [x0, if_neg hcap, a5]]
        exact hl
      · have e2 := old 4 i h (fun q => e q.2) (fun q => absurd q.1 (by decide))
        have e3 : EH dA K ad1 X1 Y1 N1 I G1 J1 4 i = EH dA K ad X Y N I G J 4 i := by
          show Sum.inr (15, [Value.int (Y1 3 i 0), .ref (elH K ad1 X1 i), .int (nI (szH N1 i))]) = Sum.inr (15, [Value.int (Y 3 i 0), .ref (elH K ad X i), .int (nI (szH N i))])
          have e5 : i = 0 ∨ i = 1 ∨ i = 2 ∨ i = 3 := by omega
          rw [y3o i e, show elH K ad1 X1 i = elH K ad X i from by unfold elH; rw [x0o i e, a5o i e], show szH N1 i = szH N i from by rcases e5 with rfl | rfl | rfl | rfl <;> first | exact absurd rfl e | exact hN _ (by decide)]
        rw [e3]; exact e2
    | 5, h =>
      have h4 : i < 4 := h.1
      by_cases e : i = 0
      · rw [e]
        show va_at D CL (ad1 5 0, .inl (dA 4, X1 0 0, rfA (ltH ad1 6 (N1 3) 0))) H1
        rw [a5, x0, hn]; exact hE
      · have hi : LH N G X 5 i := ⟨h.1, by rw [← x0o i e]; exact h.2⟩
        have e2 := old 5 i hi (fun q => absurd q.1 (by decide)) (fun q => e q.2)
        have e5 : i = 0 ∨ i = 1 ∨ i = 2 ∨ i = 3 := by omega
        have e3 : EH dA K ad1 X1 Y1 N1 I G1 J1 5 i = EH dA K ad X Y N I G J 5 i := by
          show (Sum.inl (dA 4, X1 0 i, rfA (ltH ad1 (kdH i) (szH N1 i) 0)) : va_E) = Sum.inl (dA 4, X 0 i, rfA (ltH ad (kdH i) (szH N i) 0))
          rw [x0o i e, show ltH ad1 (kdH i) (szH N1 i) 0 = ltH ad (kdH i) (szH N i) 0 from by rcases e5 with rfl | rfl | rfl | rfl <;> first | exact absurd rfl e | (funext j; show (if j < N1 _ then some (ad1 _ (0 + j)) else none) = (if j < N _ then some (ad _ (0 + j)) else none); rw [hN _ (by decide), ha _ (by decide) (by decide) (by decide) (by decide)])]
        rw [e3, a5o i e]; exact e2
    | 6, h =>
      rcases lt_or_eq (show i < N 3 + 1 from by have h1 : i < N1 3 := h; rw [hn] at h1; exact h1) with q | q
      · have hq : i ≠ N 3 := Nat.ne_of_lt q
        have e3 : EH dA K ad1 X1 Y1 N1 I G1 J1 6 i = EH dA K ad X Y N I G J 6 i := by simp only [EH, fC, ao7 i hq, ao8 i hq, y0o i hq, g7o i hq, g9o i hq, j13o i hq, hG 8 (by decide) (by decide) (by decide), hG 6 (by decide) (by decide) (by decide), hJ 10 (by decide), hJ 11 (by decide)]
        rw [e3, ao6 i hq]; exact old 6 i q (fun q => absurd q.1 (by decide)) (fun q => absurd q.1 (by decide))
      · rw [q, an6]
        have e3 : EH dA K ad1 X1 Y1 N1 I G1 J1 6 (N 3) = .inr (2, [.ref g, .int (nI (N 3)), .ref r, .int (nI p0), .int (nI sa), .int (nI 0), .int (nI (N 14)), .int (nI 0), .int (nI 0), .int (nI 0), .int (-1)]) := by simp only [EH, fC, an7, an8, y0, g7, g9, j13, hG 8 (by decide) (by decide) (by decide), hG 6 (by decide) (by decide) (by decide), hJ 10 (by decide), hJ 11 (by decide), hz.2.1, hz.2.2.1, hz.2.2.2.1, hz.2.2.2.2]
        rw [e3]; exact eq
    | 7, h =>
      rcases lt_or_eq (show i < N 3 + 1 from by have h1 : i < N1 3 := h; rw [hn] at h1; exact h1) with q | q
      · have hq : i ≠ N 3 := Nat.ne_of_lt q
        have e3 : EH dA K ad1 X1 Y1 N1 I G1 J1 7 i = EH dA K ad X Y N I G J 7 i := by simp only [EH, hG 4 (by decide) (by decide) (by decide)]
        rw [e3, ao7 i hq]; exact old 7 i q (fun q => absurd q.1 (by decide)) (fun q => absurd q.1 (by decide))
      · rw [q, an7]
        have e3 : EH dA K ad1 X1 Y1 N1 I G1 J1 7 (N 3) = .inl (dA 0, 20, .inl (fun _ => 0)) := by
          show (Sum.inl (dA 0, 20, Sum.inl (tr20 (fun l => G1 4 (20 * N 3 + l)))) : va_E) = _
          rw [hG 4 (by decide) (by decide) (by decide)]
          refine inl_cg ?_
          funext l
          unfold tr20
          by_cases hl : l < 20
          · rw [if_pos hl]; dsimp only; rw [hz.1 l hl]; rfl
          · rw [if_neg hl]
        rw [e3]; exact eg
    | 8, h =>
      rcases lt_or_eq (show i < N 3 + 1 from by have h1 : i < N1 3 := h; rw [hn] at h1; exact h1) with q | q
      · have hq : i ≠ N 3 := Nat.ne_of_lt q
        have e3 : EH dA K ad1 X1 Y1 N1 I G1 J1 8 i = EH dA K ad X Y N I G J 8 i := by simp only [EH, y1o i hq]
        rw [e3, ao8 i hq]; exact old 8 i q (fun q => absurd q.1 (by decide)) (fun q => absurd q.1 (by decide))
      · rw [q, an8]
        have e3 : EH dA K ad1 X1 Y1 N1 I G1 J1 8 (N 3) = .inl (dA 1, 600, .inl (fun _ => 0)) := by simp only [EH, y1]
        rw [e3]; exact er
    | 9, h =>
      have hi : i < N 19 := by rw [← hN 19 (by decide)]; exact h
      have hti := hts i hi
      have e3 : EH dA K ad1 X1 Y1 N1 I G1 J1 9 i = EH dA K ad X Y N I G J 9 i := by simp only [EH, fT, hG 20 (by decide) (by decide) (by decide), hG 21 (by decide) (by decide) (by decide), hG 22 (by decide) (by decide) (by decide), ao6 _ (Nat.ne_of_lt hti)]
      rw [e3, ha 9 (by decide) (by decide) (by decide) (by decide)]; exact old 9 i hi (fun q => absurd q.1 (by decide)) (fun q => absurd q.1 (by decide))
    | 10, h =>
      have e3 : EH dA K ad1 X1 Y1 N1 I G1 J1 10 i = EH dA K ad X Y N I G J 10 i := by simp only [EH, fR, ha 13 (by decide) (by decide) (by decide) (by decide), hG 24 (by decide) (by decide) (by decide)]
      rw [e3, ha 10 (by decide) (by decide) (by decide) (by decide)]; exact old 10 i (hv.resolve_right (by omega)) (fun q => absurd q.1 (by decide)) (fun q => absurd q.1 (by decide))
    | 11, h =>
      have e3 : EH dA K ad1 X1 Y1 N1 I G1 J1 11 i = EH dA K ad X Y N I G J 11 i := by simp only [EH, ha 12 (by decide) (by decide) (by decide) (by decide)]
      rw [e3, ha 11 (by decide) (by decide) (by decide) (by decide)]; exact old 11 i (hv.resolve_right (by omega)) (fun q => absurd q.1 (by decide)) (fun q => absurd q.1 (by decide))
    | 12, h =>
      have e3 : EH dA K ad1 X1 Y1 N1 I G1 J1 12 i = EH dA K ad X Y N I G J 12 i := by simp only [EH, hG 41 (by decide) (by decide) (by decide)]
      rw [e3, ha 12 (by decide) (by decide) (by decide) (by decide)]; exact old 12 i (hv.resolve_right (by omega)) (fun q => absurd q.1 (by decide)) (fun q => absurd q.1 (by decide))
    | 13, h =>
      have e3 : EH dA K ad1 X1 Y1 N1 I G1 J1 13 i = EH dA K ad X Y N I G J 13 i := by simp only [EH, ha 14 (by decide) (by decide) (by decide) (by decide), hY 10 (by decide) (by decide) (by decide), hG 25 (by decide) (by decide) (by decide)]
      rw [e3, ha 13 (by decide) (by decide) (by decide) (by decide)]; exact old 13 i (hv.resolve_right (by omega)) (fun q => absurd q.1 (by decide)) (fun q => absurd q.1 (by decide))
    | 14, h =>
      have e3 : EH dA K ad1 X1 Y1 N1 I G1 J1 14 i = EH dA K ad X Y N I G J 14 i := by simp only [EH, ltH_cg (ha 15 (by decide) (by decide) (by decide) (by decide)), hX 2 (by decide), hG 25 (by decide) (by decide) (by decide)]
      rw [e3, ha 14 (by decide) (by decide) (by decide) (by decide)]; exact old 14 i (hv.resolve_right (by omega)) (fun q => absurd q.1 (by decide)) (fun q => absurd q.1 (by decide))
    | 15, h =>
      have e3 : EH dA K ad1 X1 Y1 N1 I G1 J1 15 i = EH dA K ad X Y N I G J 15 i := by simp only [EH, fA, ha 16 (by decide) (by decide) (by decide) (by decide), hG 26 (by decide) (by decide) (by decide), hG 27 (by decide) (by decide) (by decide)]
      rw [e3, ha 15 (by decide) (by decide) (by decide) (by decide)]; exact old 15 i (hv.resolve_right (by omega)) (fun q => absurd q.1 (by decide)) (fun q => absurd q.1 (by decide))
    | 16, h =>
      have e3 : EH dA K ad1 X1 Y1 N1 I G1 J1 16 i = EH dA K ad X Y N I G J 16 i := by simp only [EH, ha 17 (by decide) (by decide) (by decide) (by decide), hY 11 (by decide) (by decide) (by decide), hG 28 (by decide) (by decide) (by decide)]
      rw [e3, ha 16 (by decide) (by decide) (by decide) (by decide)]; exact old 16 i (hv.resolve_right (by omega)) (fun q => absurd q.1 (by decide)) (fun q => absurd q.1 (by decide))
    | 17, h =>
      have e3 : EH dA K ad1 X1 Y1 N1 I G1 J1 17 i = EH dA K ad X Y N I G J 17 i := by simp only [EH, ltH_cg (ha 18 (by decide) (by decide) (by decide) (by decide)), hX 3 (by decide), hG 28 (by decide) (by decide) (by decide)]
      rw [e3, ha 17 (by decide) (by decide) (by decide) (by decide)]; exact old 17 i (hv.resolve_right (by omega)) (fun q => absurd q.1 (by decide)) (fun q => absurd q.1 (by decide))
    | 18, h =>
      have e3 : EH dA K ad1 X1 Y1 N1 I G1 J1 18 i = EH dA K ad X Y N I G J 18 i := by simp only [EH, fQ, hG 29 (by decide) (by decide) (by decide), hG 30 (by decide) (by decide) (by decide), hG 31 (by decide) (by decide) (by decide)]
      rw [e3, ha 18 (by decide) (by decide) (by decide) (by decide)]; exact old 18 i (hv.resolve_right (by omega)) (fun q => absurd q.1 (by decide)) (fun q => absurd q.1 (by decide))
    | k + 19, h => exact h.elim
  have hadn : ∀ k i, LH N G X k i → ¬ (k = 5 ∧ i = 0) → ad1 k i = ad k i := by
    intro k i h h5
    match k, h with
    | 0, h => rw [ha 0 (by decide) (by decide) (by decide) (by decide)]
    | 1, h => rw [ha 1 (by decide) (by decide) (by decide) (by decide)]
    | 2, h => rw [ha 2 (by decide) (by decide) (by decide) (by decide)]
    | 3, h => rw [ha 3 (by decide) (by decide) (by decide) (by decide)]
    | 4, h => rw [ha 4 (by decide) (by decide) (by decide) (by decide)]
    | 5, h => exact a5o i (fun q => h5 ⟨rfl, q⟩)
    | 6, h => exact ao6 i (Nat.ne_of_lt h)
    | 7, h => exact ao7 i (Nat.ne_of_lt h)
    | 8, h => exact ao8 i (Nat.ne_of_lt h)
    | 9, h => rw [ha 9 (by decide) (by decide) (by decide) (by decide)]
    | 10, h => rw [ha 10 (by decide) (by decide) (by decide) (by decide)]
    | 11, h => rw [ha 11 (by decide) (by decide) (by decide) (by decide)]
    | 12, h => rw [ha 12 (by decide) (by decide) (by decide) (by decide)]
    | 13, h => rw [ha 13 (by decide) (by decide) (by decide) (by decide)]
    | 14, h => rw [ha 14 (by decide) (by decide) (by decide) (by decide)]
    | 15, h => rw [ha 15 (by decide) (by decide) (by decide) (by decide)]
    | 16, h => rw [ha 16 (by decide) (by decide) (by decide) (by decide)]
    | 17, h => rw [ha 17 (by decide) (by decide) (by decide) (by decide)]
    | 18, h => rw [ha 18 (by decide) (by decide) (by decide) (by decide)]
    | k + 19, h => exact h.elim
  rcases hea with ⟨rfl, hx⟩ | ⟨hfe, hne⟩
  · refine hH.build (nw := [(6, N 3), (7, N 3), (8, N 3)]) (fun k i h => ?_) (fun c hc => ?_) (fun c hc c' hc' e => ?_) he (fun c hc => ?_)
    · rcases live k i h with q | q
      · by_cases e5 : k = 5 ∧ i = 0
        · obtain ⟨rfl, rfl⟩ := e5; exact Or.inl ⟨q, a5⟩
        · exact Or.inl ⟨q, hadn k i q e5⟩
      · by_cases e5 : k = 5 ∧ i = 0
        · obtain ⟨rfl, rfl⟩ := e5; exact Or.inl ⟨⟨by decide, hx⟩, a5⟩
        · exact Or.inr (by simp only [List.mem_cons, Prod.mk.injEq, List.not_mem_nil, or_false] at q ⊢; omega)
    · simp only [List.mem_cons, List.not_mem_nil, or_false] at hc
      rcases hc with rfl | rfl | rfl
      · dsimp only; rw [an6]; exact hf.1
      · dsimp only; rw [an7]; exact hf.2.1
      · dsimp only; rw [an8]; exact hf.2.2
    · simp only [List.mem_cons, List.not_mem_nil, or_false] at hc hc'
      rcases hc with rfl | rfl | rfl <;> rcases hc' with rfl | rfl | rfl <;> first | rfl | (exfalso; dsimp only at e; simp only [an6, an7, an8, a5] at e; omega)
    · simp only [List.mem_cons, List.not_mem_nil, or_false] at hc
      rcases hc with rfl | rfl | rfl
      · dsimp only; rw [an6]; exact hA.1
      · dsimp only; rw [an7]; exact hA.2.1
      · dsimp only; rw [an8]; exact hA.2.2.1
  · refine hH.build (nw := [(6, N 3), (7, N 3), (8, N 3), (5, 0)]) (fun k i h => ?_) (fun c hc => ?_) (fun c hc c' hc' e => ?_) he (fun c hc => ?_)
    · rcases live k i h with q | q
      · by_cases e5 : k = 5 ∧ i = 0
        · obtain ⟨rfl, rfl⟩ := e5; exact Or.inr (by simp)
        · exact Or.inl ⟨q, hadn k i q e5⟩
      · exact Or.inr q
    · simp only [List.mem_cons, List.not_mem_nil, or_false] at hc
      rcases hc with rfl | rfl | rfl | rfl
      · dsimp only; rw [an6]; exact hf.1
      · dsimp only; rw [an7]; exact hf.2.1
      · dsimp only; rw [an8]; exact hf.2.2
      · dsimp only; rw [a5]; exact hfe
    · simp only [List.mem_cons, List.not_mem_nil, or_false] at hc hc'
      rcases hc with rfl | rfl | rfl | rfl <;> rcases hc' with rfl | rfl | rfl | rfl <;> first | rfl | (exfalso; dsimp only at e; simp only [an6, an7, an8, a5] at e; omega)
    · simp only [List.mem_cons, List.not_mem_nil, or_false] at hc
      rcases hc with rfl | rfl | rfl | rfl
      · dsimp only; rw [an6]; exact hA.1
      · dsimp only; rw [an7]; exact hA.2.1
      · dsimp only; rw [an8]; exact hA.2.2.1
      · dsimp only; rw [a5]; exact hA.2.2.2
theorem RH.addT (hH : RH A D dA K ad X Y N I G J H) {q ea cap : Nat} {c hr v : Nat} (hf : Fr ad N G X q) (hA : A q ∧ A ea) (hea : (ea = ad 5 1 ∧ X 0 1 ≠ 0) ∨ (Fr ad N G X ea ∧ ea ≠ q)) (hcap : cap ≠ 0)
    (ha : ∀ k, k ≠ 5 → k ≠ 9 → ad1 k = ad k) (hX : ∀ k, k ≠ 0 → X1 k = X k) (hY : ∀ k, k ≠ 3 → Y1 k = Y k) (hN : ∀ k, k ≠ 19 → N1 k = N k) (hG : ∀ k, k ≠ 20 → k ≠ 21 → k ≠ 22 → G1 k = G k) (hJ : ∀ k, J1 k = J k)
    (hn : N1 19 = N 19 + 1) (a5 : ad1 5 1 = ea) (a5o : ∀ i, i ≠ 1 → ad1 5 i = ad 5 i) (x0 : X1 0 1 = cap) (x0o : ∀ i, i ≠ 1 → X1 0 i = X 0 i) (y3 : Y1 3 1 0 = Y 3 1 0 + nI 1) (y3o : ∀ i, i ≠ 1 → Y1 3 i = Y 3 i) (an9 : ad1 9 (N 19) = q) (ao9 : ∀ i, i ≠ N 19 → ad1 9 i = ad 9 i)
    (eq : va_at D CL (q, .inr (4, [.ref (ad 6 c), .int (nI hr), .int (nI v)])) H1) (g0 : G1 20 (N 19) = c) (g0o : ∀ i, i ≠ N 19 → G1 20 i = G 20 i) (g1 : G1 21 (N 19) = hr) (g1o : ∀ i, i ≠ N 19 → G1 21 i = G 21 i) (g2 : G1 22 (N 19) = v) (g2o : ∀ i, i ≠ N 19 → G1 22 i = G 22 i)
    (hl : va_at D CL (ad 4 1, .inr (15, [.int (Y 3 1 0 + nI 1), .ref ea, .int (nI (N 19 + 1))])) H1) (hE : va_at D CL (ea, .inl (dA 4, cap, rfA (ltH ad1 9 (N 19 + 1) 0))) H1)
    (ho : ∀ k i, LH N G X k i → ¬ (k = 4 ∧ i = 1) → ¬ (k = 5 ∧ i = 1) → H1[ad k i]? = H[ad k i]?) : RH A D dA K ad1 X1 Y1 N1 I G1 J1 H1 := by
  have old : ∀ k i, LH N G X k i → ¬ (k = 4 ∧ i = 1) → ¬ (k = 5 ∧ i = 1) → va_at D CL (ad k i, EH dA K ad X Y N I G J k i) H1 := fun k i h h4 h5 => (hH.1 k i h).kept (ho k i h h4 h5)
  have live : ∀ k i, LH N1 G1 X1 k i → LH N G X k i ∨ (k, i) ∈ [(9, N 19), (5, 1)] := by
    intro k i h
    match k, h with
    | 0, h => exact Or.inl h
    | 1, h => exact Or.inl h
    | 2, h => exact Or.inl h
    | 3, h => exact Or.inl ⟨h.1, by rw [← hX 1 (by decide)]; exact h.2⟩
    | 4, h => exact Or.inl h
    | 5, h =>
      by_cases e : i = 1
      · exact Or.inr (by rw [e]; simp)
      · exact Or.inl ⟨h.1, by rw [← x0o i e]; exact h.2⟩
    | 6, h => exact Or.inl (show i < N 3 by rw [← hN 3 (by decide)]; exact h)
    | 7, h => exact Or.inl (show i < N 3 by rw [← hN 3 (by decide)]; exact h)
    | 8, h => exact Or.inl (show i < N 3 by rw [← hN 3 (by decide)]; exact h)
    | 9, h =>
      rcases lt_or_eq (show i < N 19 + 1 from by have h1 : i < N1 19 := h; rw [hn] at h1; exact h1) with q | q
      · exact Or.inl q
      · exact Or.inr (by rw [q]; simp)
    | 10, h => exact Or.inl (show i < N 23 by rw [← hN 23 (by decide)]; exact h)
    | 11, h => exact Or.inl (show i < N 40 by rw [← hN 40 (by decide)]; exact h)
    | 12, h => exact Or.inl (show i < N 40 by rw [← hN 40 (by decide)]; exact h)
    | 13, h => exact Or.inl (show i < N 23 by rw [← hN 23 (by decide)]; exact h)
    | 14, h => exact Or.inl (show i < N 23 by rw [← hN 23 (by decide)]; exact h)
    | 15, h => exact Or.inl ⟨by rw [← hN 23 (by decide)]; exact h.1, by rw [← hG 25 (by decide) (by decide) (by decide)]; exact h.2⟩
    | 16, h => exact Or.inl ⟨by rw [← hN 23 (by decide)]; exact h.1, by rw [← hG 25 (by decide) (by decide) (by decide)]; exact h.2⟩
    | 17, h => exact Or.inl ⟨by rw [← hN 23 (by decide)]; exact h.1, by rw [← hG 25 (by decide) (by decide) (by decide)]; exact h.2⟩
    | 18, h => exact Or.inl ⟨by rw [← hN 23 (by decide)]; exact h.1, by rw [← hG 25 (by decide) (by decide) (by decide)]; exact h.2.1, by rw [← hG 28 (by decide) (by decide) (by decide)]; exact h.2.2⟩
    | k + 19, h => exact h.elim
  have he : ∀ k i, LH N1 G1 X1 k i → va_at D CL (ad1 k i, EH dA K ad1 X1 Y1 N1 I G1 J1 k i) H1 := by
    intro k i h
    have hv := live k i h
    simp only [List.mem_cons, Prod.mk.injEq, List.not_mem_nil, or_false] at hv
    match k, h with
    | 0, h =>
      have e3 : EH dA K ad1 X1 Y1 N1 I G1 J1 0 i = EH dA K ad X Y N I G J 0 i := by simp only [EH, fH, ha 1 (by decide) (by decide), ha 2 (by decide) (by decide), ha 4 (by decide) (by decide), hY 12 (by decide), hN 1 (by decide), hN 14 (by decide), hN 33 (by decide), hN 15 (by decide), hN 42 (by decide), hN 43 (by decide), hN 44 (by decide)]
      rw [e3, ha 0 (by decide) (by decide)]; exact old 0 i (hv.resolve_right (by omega)) (fun q => absurd q.1 (by decide)) (fun q => absurd q.1 (by decide))
    | 1, h =>
      rw [ha 1 (by decide) (by decide)]
      have e3 : fnH Y1 G1 J1 i = fnH Y G J i := by unfold fnH; split <;> first | rfl | (simp only [hY 4 (by decide), hY 5 (by decide), hY 6 (by decide), hY 7 (by decide), hY 8 (by decide), hY 9 (by decide), hG 18 (by decide) (by decide) (by decide), hG 2 (by decide) (by decide) (by decide), hG 45 (by decide) (by decide) (by decide), hG 46 (by decide) (by decide) (by decide), hG 47 (by decide) (by decide) (by decide), hG 48 (by decide) (by decide) (by decide), hJ 32 ])
      show va_at D CL (ad 1 i, .inl (dA (tyH i), lenH i, .inl (fnH Y1 G1 J1 i))) H1
      rw [e3]; exact old 1 i (hv.resolve_right (by omega)) (fun q => absurd q.1 (by decide)) (fun q => absurd q.1 (by decide))
    | 2, h =>
      have e3 : EH dA K ad1 X1 Y1 N1 I G1 J1 2 i = EH dA K ad X Y N I G J 2 i := by simp only [EH, rwH_cg (ha 3 (by decide) (by decide)) (hX 1 (by decide))]
      rw [e3, ha 2 (by decide) (by decide)]; exact old 2 i (hv.resolve_right (by omega)) (fun q => absurd q.1 (by decide)) (fun q => absurd q.1 (by decide))
    | 3, h =>
      have e3 : EH dA K ad1 X1 Y1 N1 I G1 J1 3 i = EH dA K ad X Y N I G J 3 i := by simp only [EH, hY 2 (by decide)]
      rw [e3, ha 3 (by decide) (by decide)]; exact old 3 i (hv.resolve_right (by omega)) (fun q => absurd q.1 (by decide)) (fun q => absurd q.1 (by decide))
    | 4, h =>
      have h4 : i < 4 := h
      rw [ha 4 (by decide) (by decide)]
      by_cases e : i = 1
      · rw [e]
        show va_at D CL (ad 4 1, .inr (15, [.int (Y1 3 1 0), .ref (elH K ad1 X1 1), .int (nI (N1 19))])) H1
        rw [y3, hn, show elH K ad1 X1 1 = ea from by unfold elH; rw [x0, if_neg hcap, a5]]
        exact hl
      · have e2 := old 4 i h (fun q => e q.2) (fun q => absurd q.1 (by decide))
        have e3 : EH dA K ad1 X1 Y1 N1 I G1 J1 4 i = EH dA K ad X Y N I G J 4 i := by
          show Sum.inr (15, [Value.int (Y1 3 i 0), .ref (elH K ad1 X1 i), .int (nI (szH N1 i))]) = Sum.inr (15, [Value.int (Y 3 i 0), .ref (elH K ad X i), .int (nI (szH N i))])
          have e5 : i = 0 ∨ i = 1 ∨ i = 2 ∨ i = 3 := by omega
          rw [y3o i e, show elH K ad1 X1 i = elH K ad X i from by unfold elH; rw [x0o i e, a5o i e], show szH N1 i = szH N i from by rcases e5 with rfl | rfl | rfl | rfl <;> first | exact absurd rfl e | exact hN _ (by decide)]
        rw [e3]; exact e2
    | 5, h =>
      have h4 : i < 4 := h.1
      by_cases e : i = 1
      · rw [e]
        show va_at D CL (ad1 5 1, .inl (dA 4, X1 0 1, rfA (ltH ad1 9 (N1 19) 0))) H1
        rw [a5, x0, hn]; exact hE
      · have hi : LH N G X 5 i := ⟨h.1, by rw [← x0o i e]; exact h.2⟩
        have e2 := old 5 i hi (fun q => absurd q.1 (by decide)) (fun q => e q.2)
        have e5 : i = 0 ∨ i = 1 ∨ i = 2 ∨ i = 3 := by omega
        have e3 : EH dA K ad1 X1 Y1 N1 I G1 J1 5 i = EH dA K ad X Y N I G J 5 i := by
          show (Sum.inl (dA 4, X1 0 i, rfA (ltH ad1 (kdH i) (szH N1 i) 0)) : va_E) = Sum.inl (dA 4, X 0 i, rfA (ltH ad (kdH i) (szH N i) 0))
          rw [x0o i e, show ltH ad1 (kdH i) (szH N1 i) 0 = ltH ad (kdH i) (szH N i) 0 from by rcases e5 with rfl | rfl | rfl | rfl <;> first | exact absurd rfl e | (funext j; show (if j < N1 _ then some (ad1 _ (0 + j)) else none) = (if j < N _ then some (ad _ (0 + j)) else none); rw [hN _ (by decide), ha _ (by decide) (by decide)])]
        rw [e3, a5o i e]; exact e2
    | 6, h =>
      have e3 : EH dA K ad1 X1 Y1 N1 I G1 J1 6 i = EH dA K ad X Y N I G J 6 i := by simp only [EH, fC, ha 7 (by decide) (by decide), ha 8 (by decide) (by decide), hY 0 (by decide), hG 7 (by decide) (by decide) (by decide), hG 8 (by decide) (by decide) (by decide), hG 9 (by decide) (by decide) (by decide), hG 6 (by decide) (by decide) (by decide), hJ 10 , hJ 11 , hJ 13 ]
      rw [e3, ha 6 (by decide) (by decide)]; exact old 6 i (hv.resolve_right (by omega)) (fun q => absurd q.1 (by decide)) (fun q => absurd q.1 (by decide))
    | 7, h =>
      have e3 : EH dA K ad1 X1 Y1 N1 I G1 J1 7 i = EH dA K ad X Y N I G J 7 i := by simp only [EH, hG 4 (by decide) (by decide) (by decide)]
      rw [e3, ha 7 (by decide) (by decide)]; exact old 7 i (hv.resolve_right (by omega)) (fun q => absurd q.1 (by decide)) (fun q => absurd q.1 (by decide))
    | 8, h =>
      have e3 : EH dA K ad1 X1 Y1 N1 I G1 J1 8 i = EH dA K ad X Y N I G J 8 i := by simp only [EH, hY 1 (by decide)]
      rw [e3, ha 8 (by decide) (by decide)]; exact old 8 i (hv.resolve_right (by omega)) (fun q => absurd q.1 (by decide)) (fun q => absurd q.1 (by decide))
    | 9, h =>
      rcases lt_or_eq (show i < N 19 + 1 from by have h1 : i < N1 19 := h; rw [hn] at h1; exact h1) with q | q
      · have hq : i ≠ N 19 := Nat.ne_of_lt q
        have e3 : EH dA K ad1 X1 Y1 N1 I G1 J1 9 i = EH dA K ad X Y N I G J 9 i := by simp only [EH, fT, g0o i hq, g1o i hq, g2o i hq, ha 6 (by decide) (by decide)]
        rw [e3, ao9 i hq]; exact old 9 i q (fun q => absurd q.1 (by decide)) (fun q => absurd q.1 (by decide))
      · rw [q, an9]
        have e3 : EH dA K ad1 X1 Y1 N1 I G1 J1 9 (N 19) = .inr (4, [.ref (ad 6 c), .int (nI hr), .int (nI v)]) := by simp only [EH, fT, g0, g1, g2, ha 6 (by decide) (by decide)]
        rw [e3]; exact eq
    | 10, h =>
      have e3 : EH dA K ad1 X1 Y1 N1 I G1 J1 10 i = EH dA K ad X Y N I G J 10 i := by simp only [EH, fR, ha 13 (by decide) (by decide), hG 24 (by decide) (by decide) (by decide)]
      rw [e3, ha 10 (by decide) (by decide)]; exact old 10 i (hv.resolve_right (by omega)) (fun q => absurd q.1 (by decide)) (fun q => absurd q.1 (by decide))
    | 11, h =>
      have e3 : EH dA K ad1 X1 Y1 N1 I G1 J1 11 i = EH dA K ad X Y N I G J 11 i := by simp only [EH, ha 12 (by decide) (by decide)]
      rw [e3, ha 11 (by decide) (by decide)]; exact old 11 i (hv.resolve_right (by omega)) (fun q => absurd q.1 (by decide)) (fun q => absurd q.1 (by decide))
    | 12, h =>
      have e3 : EH dA K ad1 X1 Y1 N1 I G1 J1 12 i = EH dA K ad X Y N I G J 12 i := by simp only [EH, hG 41 (by decide) (by decide) (by decide)]
      rw [e3, ha 12 (by decide) (by decide)]; exact old 12 i (hv.resolve_right (by omega)) (fun q => absurd q.1 (by decide)) (fun q => absurd q.1 (by decide))
    | 13, h =>
      have e3 : EH dA K ad1 X1 Y1 N1 I G1 J1 13 i = EH dA K ad X Y N I G J 13 i := by simp only [EH, ha 14 (by decide) (by decide), hY 10 (by decide), hG 25 (by decide) (by decide) (by decide)]
      rw [e3, ha 13 (by decide) (by decide)]; exact old 13 i (hv.resolve_right (by omega)) (fun q => absurd q.1 (by decide)) (fun q => absurd q.1 (by decide))
    | 14, h =>
      have e3 : EH dA K ad1 X1 Y1 N1 I G1 J1 14 i = EH dA K ad X Y N I G J 14 i := by simp only [EH, ltH_cg (ha 15 (by decide) (by decide)), hX 2 (by decide), hG 25 (by decide) (by decide) (by decide)]
      rw [e3, ha 14 (by decide) (by decide)]; exact old 14 i (hv.resolve_right (by omega)) (fun q => absurd q.1 (by decide)) (fun q => absurd q.1 (by decide))
    | 15, h =>
      have e3 : EH dA K ad1 X1 Y1 N1 I G1 J1 15 i = EH dA K ad X Y N I G J 15 i := by simp only [EH, fA, ha 16 (by decide) (by decide), hG 26 (by decide) (by decide) (by decide), hG 27 (by decide) (by decide) (by decide)]
      rw [e3, ha 15 (by decide) (by decide)]; exact old 15 i (hv.resolve_right (by omega)) (fun q => absurd q.1 (by decide)) (fun q => absurd q.1 (by decide))
    | 16, h =>
      have e3 : EH dA K ad1 X1 Y1 N1 I G1 J1 16 i = EH dA K ad X Y N I G J 16 i := by simp only [EH, ha 17 (by decide) (by decide), hY 11 (by decide), hG 28 (by decide) (by decide) (by decide)]
      rw [e3, ha 16 (by decide) (by decide)]; exact old 16 i (hv.resolve_right (by omega)) (fun q => absurd q.1 (by decide)) (fun q => absurd q.1 (by decide))
    | 17, h =>
      have e3 : EH dA K ad1 X1 Y1 N1 I G1 J1 17 i = EH dA K ad X Y N I G J 17 i := by simp only [EH, ltH_cg (ha 18 (by decide) (by decide)), hX 3 (by decide), hG 28 (by decide) (by decide) (by decide)]
      rw [e3, ha 17 (by decide) (by decide)]; exact old 17 i (hv.resolve_right (by omega)) (fun q => absurd q.1 (by decide)) (fun q => absurd q.1 (by decide))
    | 18, h =>
      have e3 : EH dA K ad1 X1 Y1 N1 I G1 J1 18 i = EH dA K ad X Y N I G J 18 i := by simp only [EH, fQ, hG 29 (by decide) (by decide) (by decide), hG 30 (by decide) (by decide) (by decide), hG 31 (by decide) (by decide) (by decide)]
      rw [e3, ha 18 (by decide) (by decide)]; exact old 18 i (hv.resolve_right (by omega)) (fun q => absurd q.1 (by decide)) (fun q => absurd q.1 (by decide))
    | k + 19, h => exact h.elim
  have hadn : ∀ k i, LH N G X k i → ¬ (k = 5 ∧ i = 1) → ad1 k i = ad k i := by
    intro k i h h5
    match k, h with
    | 0, h => rw [ha 0 (by decide) (by decide)]
    | 1, h => rw [ha 1 (by decide) (by decide)]
    | 2, h => rw [ha 2 (by decide) (by decide)]
    | 3, h => rw [ha 3 (by decide) (by decide)]
    | 4, h => rw [ha 4 (by decide) (by decide)]
    | 5, h => exact a5o i (fun q => h5 ⟨rfl, q⟩)
    | 6, h => rw [ha 6 (by decide) (by decide)]
    | 7, h => rw [ha 7 (by decide) (by decide)]
    | 8, h => rw [ha 8 (by decide) (by decide)]
    | 9, h => exact ao9 i (Nat.ne_of_lt h)
    | 10, h => rw [ha 10 (by decide) (by decide)]
    | 11, h => rw [ha 11 (by decide) (by decide)]
    | 12, h => rw [ha 12 (by decide) (by decide)]
    | 13, h => rw [ha 13 (by decide) (by decide)]
    | 14, h => rw [ha 14 (by decide) (by decide)]
    | 15, h => rw [ha 15 (by decide) (by decide)]
    | 16, h => rw [ha 16 (by decide) (by decide)]
    | 17, h => rw [ha 17 (by decide) (by decide)]
    | 18, h => rw [ha 18 (by decide) (by decide)]
    | k + 19, h => exact h.elim
  rcases hea with ⟨rfl, hx⟩ | ⟨hfe, hne⟩
  · refine hH.build (nw := [(9, N 19)]) (fun k i h => ?_) (fun c hc => ?_) (fun c hc c' hc' e => ?_) he (fun c hc => ?_)
    · rcases live k i h with q | q
      · by_cases e5 : k = 5 ∧ i = 1
        · obtain ⟨rfl, rfl⟩ := e5; exact Or.inl ⟨q, a5⟩
        · exact Or.inl ⟨q, hadn k i q e5⟩
      · by_cases e5 : k = 5 ∧ i = 1
        · obtain ⟨rfl, rfl⟩ := e5; exact Or.inl ⟨⟨by decide, hx⟩, a5⟩
        · exact Or.inr (by simp only [List.mem_cons, Prod.mk.injEq, List.not_mem_nil, or_false] at q ⊢; omega)
    · simp only [List.mem_cons, List.not_mem_nil, or_false] at hc
      rcases hc with rfl
      · dsimp only; rw [an9]; exact hf
    · simp only [List.mem_cons, List.not_mem_nil, or_false] at hc hc'
      rcases hc with rfl <;> rcases hc' with rfl <;> first | rfl | (exfalso; dsimp only at e; simp only [an9, a5] at e; omega)
    · simp only [List.mem_cons, List.not_mem_nil, or_false] at hc
      rcases hc with rfl
      · dsimp only; rw [an9]; exact hA.1
  · refine hH.build (nw := [(9, N 19), (5, 1)]) (fun k i h => ?_) (fun c hc => ?_) (fun c hc c' hc' e => ?_) he (fun c hc => ?_)
    · rcases live k i h with q | q
      · by_cases e5 : k = 5 ∧ i = 1
        · obtain ⟨rfl, rfl⟩ := e5; exact Or.inr (by simp)
        · exact Or.inl ⟨q, hadn k i q e5⟩
      · exact Or.inr q
    · simp only [List.mem_cons, List.not_mem_nil, or_false] at hc
      rcases hc with rfl | rfl
      · dsimp only; rw [an9]; exact hf
      · dsimp only; rw [a5]; exact hfe
    · simp only [List.mem_cons, List.not_mem_nil, or_false] at hc hc'
      rcases hc with rfl | rfl <;> rcases hc' with rfl | rfl <;> first | rfl | (exfalso; dsimp only at e; simp only [an9, a5] at e; omega)
    · simp only [List.mem_cons, List.not_mem_nil, or_false] at hc
      rcases hc with rfl | rfl
      · dsimp only; rw [an9]; exact hA.1
      · dsimp only; rw [a5]; exact hA.2
theorem RH.addJ (hH : RH A D dA K ad X Y N I G J H) {q g ea cap : Nat} {sh : Nat → Nat} (hf : Fr ad N G X q ∧ Fr ad N G X g) (dqg : q ≠ g) (hA : A q ∧ A g ∧ A ea) (hea : (ea = ad 5 3 ∧ X 0 3 ≠ 0) ∨ (Fr ad N G X ea ∧ ea ≠ q ∧ ea ≠ g)) (hcap : cap ≠ 0)
    (ha : ∀ k, k ≠ 5 → k ≠ 11 → k ≠ 12 → ad1 k = ad k) (hX : ∀ k, k ≠ 0 → X1 k = X k) (hY : ∀ k, k ≠ 3 → Y1 k = Y k) (hN : ∀ k, k ≠ 40 → N1 k = N k) (hG : ∀ k, k ≠ 41 → G1 k = G k) (hJ : ∀ k, J1 k = J k)
    (hn : N1 40 = N 40 + 1) (a5 : ad1 5 3 = ea) (a5o : ∀ i, i ≠ 3 → ad1 5 i = ad 5 i) (x0 : X1 0 3 = cap) (x0o : ∀ i, i ≠ 3 → X1 0 i = X 0 i) (y3 : Y1 3 3 0 = Y 3 3 0 + nI 1) (y3o : ∀ i, i ≠ 3 → Y1 3 i = Y 3 i) (an11 : ad1 11 (N 40) = q) (ao11 : ∀ i, i ≠ N 40 → ad1 11 i = ad 11 i) (an12 : ad1 12 (N 40) = g) (ao12 : ∀ i, i ≠ N 40 → ad1 12 i = ad 12 i)
    (eq : va_at D CL (q, .inr (3, [.ref g])) H1) (eg : va_at D CL (g, .inl (dA 0, 20, .inl (tr20 sh))) H1) (g1 : ∀ l, l < 20 → G1 41 (20 * N 40 + l) = sh l) (g1o : ∀ i, i < 20 * N 40 → G1 41 i = G 41 i)
    (hl : va_at D CL (ad 4 3, .inr (15, [.int (Y 3 3 0 + nI 1), .ref ea, .int (nI (N 40 + 1))])) H1) (hE : va_at D CL (ea, .inl (dA 4, cap, rfA (ltH ad1 11 (N 40 + 1) 0))) H1)
    (ho : ∀ k i, LH N G X k i → ¬ (k = 4 ∧ i = 3) → ¬ (k = 5 ∧ i = 3) → H1[ad k i]? = H[ad k i]?) : RH A D dA K ad1 X1 Y1 N1 I G1 J1 H1 := by
  have old : ∀ k i, LH N G X k i → ¬ (k = 4 ∧ i = 3) → ¬ (k = 5 ∧ i = 3) → va_at D CL (ad k i, EH dA K ad X Y N I G J k i) H1 := fun k i h h4 h5 => (hH.1 k i h).kept (ho k i h h4 h5)
  have live : ∀ k i, LH N1 G1 X1 k i → LH N G X k i ∨ (k, i) ∈ [(11, N 40), (12, N 40), (5, 3)] := by
    intro k i h
    match k, h with
    | 0, h => exact Or.inl h
    | 1, h => exact Or.inl h
    | 2, h => exact Or.inl h
    | 3, h => exact Or.inl ⟨h.1, by rw [← hX 1 (by decide)]; exact h.2⟩
    | 4, h => exact Or.inl h
    | 5, h =>
      by_cases e : i = 3
      · exact Or.inr (by rw [e]; simp)
      · exact Or.inl ⟨h.1, by rw [← x0o i e]; exact h.2⟩
    | 6, h => exact Or.inl (show i < N 3 by rw [← hN 3 (by decide)]; exact h)
    | 7, h => exact Or.inl (show i < N 3 by rw [← hN 3 (by decide)]; exact h)
    | 8, h => exact Or.inl (show i < N 3 by rw [← hN 3 (by decide)]; exact h)
    | 9, h => exact Or.inl (show i < N 19 by rw [← hN 19 (by decide)]; exact h)
    | 10, h => exact Or.inl (show i < N 23 by rw [← hN 23 (by decide)]; exact h)
    | 11, h =>
      rcases lt_or_eq (show i < N 40 + 1 from by have h1 : i < N1 40 := h; rw [hn] at h1; exact h1) with q | q
      · exact Or.inl q
      · exact Or.inr (by rw [q]; simp)
    | 12, h =>
      rcases lt_or_eq (show i < N 40 + 1 from by have h1 : i < N1 40 := h; rw [hn] at h1; exact h1) with q | q
      · exact Or.inl q
      · exact Or.inr (by rw [q]; simp)
    | 13, h => exact Or.inl (show i < N 23 by rw [← hN 23 (by decide)]; exact h)
    | 14, h => exact Or.inl (show i < N 23 by rw [← hN 23 (by decide)]; exact h)
    | 15, h => exact Or.inl ⟨by rw [← hN 23 (by decide)]; exact h.1, by rw [← hG 25 (by decide)]; exact h.2⟩
    | 16, h => exact Or.inl ⟨by rw [← hN 23 (by decide)]; exact h.1, by rw [← hG 25 (by decide)]; exact h.2⟩
    | 17, h => exact Or.inl ⟨by rw [← hN 23 (by decide)]; exact h.1, by rw [← hG 25 (by decide)]; exact h.2⟩
    | 18, h => exact Or.inl ⟨by rw [← hN 23 (by decide)]; exact h.1, by rw [← hG 25 (by decide)]; exact h.2.1, by rw [← hG 28 (by decide)]; exact h.2.2⟩
    | k + 19, h => exact h.elim
  have he : ∀ k i, LH N1 G1 X1 k i → va_at D CL (ad1 k i, EH dA K ad1 X1 Y1 N1 I G1 J1 k i) H1 := by
    intro k i h
    have hv := live k i h
    simp only [List.mem_cons, Prod.mk.injEq, List.not_mem_nil, or_false] at hv
    match k, h with
    | 0, h =>
      have e3 : EH dA K ad1 X1 Y1 N1 I G1 J1 0 i = EH dA K ad X Y N I G J 0 i := by simp only [EH, fH, ha 1 (by decide) (by decide) (by decide), ha 2 (by decide) (by decide) (by decide), ha 4 (by decide) (by decide) (by decide), hY 12 (by decide), hN 1 (by decide), hN 14 (by decide), hN 33 (by decide), hN 15 (by decide), hN 42 (by decide), hN 43 (by decide), hN 44 (by decide)]
      rw [e3, ha 0 (by decide) (by decide) (by decide)]; exact old 0 i (hv.resolve_right (by omega)) (fun q => absurd q.1 (by decide)) (fun q => absurd q.1 (by decide))
    | 1, h =>
      rw [ha 1 (by decide) (by decide) (by decide)]
      have e3 : fnH Y1 G1 J1 i = fnH Y G J i := by unfold fnH; split <;> first | rfl | (simp only [hY 4 (by decide), hY 5 (by decide), hY 6 (by decide), hY 7 (by decide), hY 8 (by decide), hY 9 (by decide), hG 18 (by decide), hG 2 (by decide), hG 45 (by decide), hG 46 (by decide), hG 47 (by decide), hG 48 (by decide), hJ 32 ])
      show va_at D CL (ad 1 i, .inl (dA (tyH i), lenH i, .inl (fnH Y1 G1 J1 i))) H1
      rw [e3]; exact old 1 i (hv.resolve_right (by omega)) (fun q => absurd q.1 (by decide)) (fun q => absurd q.1 (by decide))
    | 2, h =>
      have e3 : EH dA K ad1 X1 Y1 N1 I G1 J1 2 i = EH dA K ad X Y N I G J 2 i := by simp only [EH, rwH_cg (ha 3 (by decide) (by decide) (by decide)) (hX 1 (by decide))]
      rw [e3, ha 2 (by decide) (by decide) (by decide)]; exact old 2 i (hv.resolve_right (by omega)) (fun q => absurd q.1 (by decide)) (fun q => absurd q.1 (by decide))
    | 3, h =>
      have e3 : EH dA K ad1 X1 Y1 N1 I G1 J1 3 i = EH dA K ad X Y N I G J 3 i := by simp only [EH, hY 2 (by decide)]
      rw [e3, ha 3 (by decide) (by decide) (by decide)]; exact old 3 i (hv.resolve_right (by omega)) (fun q => absurd q.1 (by decide)) (fun q => absurd q.1 (by decide))
    | 4, h =>
      have h4 : i < 4 := h
      rw [ha 4 (by decide) (by decide) (by decide)]
      by_cases e : i = 3
      · rw [e]
        show va_at D CL (ad 4 3, .inr (15, [.int (Y1 3 3 0), .ref (elH K ad1 X1 3), .int (nI (N1 40))])) H1
        rw [y3, hn, show elH K ad1 X1 3 = ea from by unfold elH; rw [x0, if_neg hcap, a5]]
        exact hl
      · have e2 := old 4 i h (fun q => e q.2) (fun q => absurd q.1 (by decide))
        have e3 : EH dA K ad1 X1 Y1 N1 I G1 J1 4 i = EH dA K ad X Y N I G J 4 i := by
          show Sum.inr (15, [Value.int (Y1 3 i 0), .ref (elH K ad1 X1 i), .int (nI (szH N1 i))]) = Sum.inr (15, [Value.int (Y 3 i 0), .ref (elH K ad X i), .int (nI (szH N i))])
          have e5 : i = 0 ∨ i = 1 ∨ i = 2 ∨ i = 3 := by omega
          rw [y3o i e, show elH K ad1 X1 i = elH K ad X i from by unfold elH; rw [x0o i e, a5o i e], show szH N1 i = szH N i from by rcases e5 with rfl | rfl | rfl | rfl <;> first | exact absurd rfl e | exact hN _ (by decide)]
        rw [e3]; exact e2
    | 5, h =>
      have h4 : i < 4 := h.1
      by_cases e : i = 3
      · rw [e]
        show va_at D CL (ad1 5 3, .inl (dA 4, X1 0 3, rfA (ltH ad1 11 (N1 40) 0))) H1
        rw [a5, x0, hn]; exact hE
      · have hi : LH N G X 5 i := ⟨h.1, by rw [← x0o i e]; exact h.2⟩
        have e2 := old 5 i hi (fun q => absurd q.1 (by decide)) (fun q => e q.2)
        have e5 : i = 0 ∨ i = 1 ∨ i = 2 ∨ i = 3 := by omega
        have e3 : EH dA K ad1 X1 Y1 N1 I G1 J1 5 i = EH dA K ad X Y N I G J 5 i := by
          show (Sum.inl (dA 4, X1 0 i, rfA (ltH ad1 (kdH i) (szH N1 i) 0)) : va_E) = Sum.inl (dA 4, X 0 i, rfA (ltH ad (kdH i) (szH N i) 0))
          rw [x0o i e, show ltH ad1 (kdH i) (szH N1 i) 0 = ltH ad (kdH i) (szH N i) 0 from by rcases e5 with rfl | rfl | rfl | rfl <;> first | exact absurd rfl e | (funext j; show (if j < N1 _ then some (ad1 _ (0 + j)) else none) = (if j < N _ then some (ad _ (0 + j)) else none); rw [hN _ (by decide), ha _ (by decide) (by decide) (by decide)])]
        rw [e3, a5o i e]; exact e2
    | 6, h =>
      have e3 : EH dA K ad1 X1 Y1 N1 I G1 J1 6 i = EH dA K ad X Y N I G J 6 i := by simp only [EH, fC, ha 7 (by decide) (by decide) (by decide), ha 8 (by decide) (by decide) (by decide), hY 0 (by decide), hG 7 (by decide), hG 8 (by decide), hG 9 (by decide), hG 6 (by decide), hJ 10 , hJ 11 , hJ 13 ]
      rw [e3, ha 6 (by decide) (by decide) (by decide)]; exact old 6 i (hv.resolve_right (by omega)) (fun q => absurd q.1 (by decide)) (fun q => absurd q.1 (by decide))
    | 7, h =>
      have e3 : EH dA K ad1 X1 Y1 N1 I G1 J1 7 i = EH dA K ad X Y N I G J 7 i := by simp only [EH, hG 4 (by decide)]
      rw [e3, ha 7 (by decide) (by decide) (by decide)]; exact old 7 i (hv.resolve_right (by omega)) (fun q => absurd q.1 (by decide)) (fun q => absurd q.1 (by decide))
    | 8, h =>
      have e3 : EH dA K ad1 X1 Y1 N1 I G1 J1 8 i = EH dA K ad X Y N I G J 8 i := by simp only [EH, hY 1 (by decide)]
      rw [e3, ha 8 (by decide) (by decide) (by decide)]; exact old 8 i (hv.resolve_right (by omega)) (fun q => absurd q.1 (by decide)) (fun q => absurd q.1 (by decide))
    | 9, h =>
      have e3 : EH dA K ad1 X1 Y1 N1 I G1 J1 9 i = EH dA K ad X Y N I G J 9 i := by simp only [EH, fT, ha 6 (by decide) (by decide) (by decide), hG 20 (by decide), hG 21 (by decide), hG 22 (by decide)]
      rw [e3, ha 9 (by decide) (by decide) (by decide)]; exact old 9 i (hv.resolve_right (by omega)) (fun q => absurd q.1 (by decide)) (fun q => absurd q.1 (by decide))
    | 10, h =>
      have e3 : EH dA K ad1 X1 Y1 N1 I G1 J1 10 i = EH dA K ad X Y N I G J 10 i := by simp only [EH, fR, ha 13 (by decide) (by decide) (by decide), hG 24 (by decide)]
      rw [e3, ha 10 (by decide) (by decide) (by decide)]; exact old 10 i (hv.resolve_right (by omega)) (fun q => absurd q.1 (by decide)) (fun q => absurd q.1 (by decide))
    | 11, h =>
      rcases lt_or_eq (show i < N 40 + 1 from by have h1 : i < N1 40 := h; rw [hn] at h1; exact h1) with q | q
      · have hq : i ≠ N 40 := Nat.ne_of_lt q
        have e3 : EH dA K ad1 X1 Y1 N1 I G1 J1 11 i = EH dA K ad X Y N I G J 11 i := by simp only [EH, ao12 i hq]
        rw [e3, ao11 i hq]; exact old 11 i q (fun q => absurd q.1 (by decide)) (fun q => absurd q.1 (by decide))
      · rw [q, an11]
        have e3 : EH dA K ad1 X1 Y1 N1 I G1 J1 11 (N 40) = .inr (3, [.ref g]) := by simp only [EH, an12]
        rw [e3]; exact eq
    | 12, h =>
      rcases lt_or_eq (show i < N 40 + 1 from by have h1 : i < N1 40 := h; rw [hn] at h1; exact h1) with q | q
      · have hq : i ≠ N 40 := Nat.ne_of_lt q
        have e3 : EH dA K ad1 X1 Y1 N1 I G1 J1 12 i = EH dA K ad X Y N I G J 12 i := by
          show (Sum.inl (dA 0, 20, Sum.inl (tr20 (fun l => G1 41 (20 * i + l)))) : va_E) = Sum.inl (dA 0, 20, Sum.inl (tr20 (fun l => G 41 (20 * i + l))))
          refine inl_cg ?_
          funext l
          unfold tr20
          by_cases hl : l < 20
          · rw [if_pos hl, if_pos hl]; dsimp only; rw [g1o _ (by omega)]
          · rw [if_neg hl, if_neg hl]
        rw [e3, ao12 i hq]; exact old 12 i q (fun q => absurd q.1 (by decide)) (fun q => absurd q.1 (by decide))
      · rw [q, an12]
        have e3 : EH dA K ad1 X1 Y1 N1 I G1 J1 12 (N 40) = .inl (dA 0, 20, .inl (tr20 sh)) := by
          show (Sum.inl (dA 0, 20, Sum.inl (tr20 (fun l => G1 41 (20 * N 40 + l)))) : va_E) = _
          refine inl_cg ?_
          funext l
          unfold tr20
          by_cases hl : l < 20
          · rw [if_pos hl, if_pos hl]; dsimp only; rw [g1 l hl]
          · rw [if_neg hl, if_neg hl]
        rw [e3]; exact eg
    | 13, h =>
      have e3 : EH dA K ad1 X1 Y1 N1 I G1 J1 13 i = EH dA K ad X Y N I G J 13 i := by simp only [EH, ha 14 (by decide) (by decide) (by decide), hY 10 (by decide), hG 25 (by decide)]
      rw [e3, ha 13 (by decide) (by decide) (by decide)]; exact old 13 i (hv.resolve_right (by omega)) (fun q => absurd q.1 (by decide)) (fun q => absurd q.1 (by decide))
    | 14, h =>
      have e3 : EH dA K ad1 X1 Y1 N1 I G1 J1 14 i = EH dA K ad X Y N I G J 14 i := by simp only [EH, ltH_cg (ha 15 (by decide) (by decide) (by decide)), hX 2 (by decide), hG 25 (by decide)]
      rw [e3, ha 14 (by decide) (by decide) (by decide)]; exact old 14 i (hv.resolve_right (by omega)) (fun q => absurd q.1 (by decide)) (fun q => absurd q.1 (by decide))
    | 15, h =>
      have e3 : EH dA K ad1 X1 Y1 N1 I G1 J1 15 i = EH dA K ad X Y N I G J 15 i := by simp only [EH, fA, ha 16 (by decide) (by decide) (by decide), hG 26 (by decide), hG 27 (by decide)]
      rw [e3, ha 15 (by decide) (by decide) (by decide)]; exact old 15 i (hv.resolve_right (by omega)) (fun q => absurd q.1 (by decide)) (fun q => absurd q.1 (by decide))
    | 16, h =>
      have e3 : EH dA K ad1 X1 Y1 N1 I G1 J1 16 i = EH dA K ad X Y N I G J 16 i := by simp only [EH, ha 17 (by decide) (by decide) (by decide), hY 11 (by decide), hG 28 (by decide)]
      rw [e3, ha 16 (by decide) (by decide) (by decide)]; exact old 16 i (hv.resolve_right (by omega)) (fun q => absurd q.1 (by decide)) (fun q => absurd q.1 (by decide))
    | 17, h =>
      have e3 : EH dA K ad1 X1 Y1 N1 I G1 J1 17 i = EH dA K ad X Y N I G J 17 i := by simp only [EH, ltH_cg (ha 18 (by decide) (by decide) (by decide)), hX 3 (by decide), hG 28 (by decide)]
      rw [e3, ha 17 (by decide) (by decide) (by decide)]; exact old 17 i (hv.resolve_right (by omega)) (fun q => absurd q.1 (by decide)) (fun q => absurd q.1 (by decide))
    | 18, h =>
      have e3 : EH dA K ad1 X1 Y1 N1 I G1 J1 18 i = EH dA K ad X Y N I G J 18 i := by simp only [EH, fQ, hG 29 (by decide), hG 30 (by decide), hG 31 (by decide)]
      rw [e3, ha 18 (by decide) (by decide) (by decide)]; exact old 18 i (hv.resolve_right (by omega)) (fun q => absurd q.1 (by decide)) (fun q => absurd q.1 (by decide))
    | k + 19, h => exact h.elim
  have hadn : ∀ k i, LH N G X k i → ¬ (k = 5 ∧ i = 3) → ad1 k i = ad k i := by
    intro k i h h5
    match k, h with
    | 0, h => rw [ha 0 (by decide) (by decide) (by decide)]
    | 1, h => rw [ha 1 (by decide) (by decide) (by decide)]
    | 2, h => rw [ha 2 (by decide) (by decide) (by decide)]
    | 3, h => rw [ha 3 (by decide) (by decide) (by decide)]
    | 4, h => rw [ha 4 (by decide) (by decide) (by decide)]
    | 5, h => exact a5o i (fun q => h5 ⟨rfl, q⟩)
    | 6, h => rw [ha 6 (by decide) (by decide) (by decide)]
    | 7, h => rw [ha 7 (by decide) (by decide) (by decide)]
    | 8, h => rw [ha 8 (by decide) (by decide) (by decide)]
    | 9, h => rw [ha 9 (by decide) (by decide) (by decide)]
    | 10, h => rw [ha 10 (by decide) (by decide) (by decide)]
    | 11, h => exact ao11 i (Nat.ne_of_lt h)
    | 12, h => exact ao12 i (Nat.ne_of_lt h)
    | 13, h => rw [ha 13 (by decide) (by decide) (by decide)]
    | 14, h => rw [ha 14 (by decide) (by decide) (by decide)]
    | 15, h => rw [ha 15 (by decide) (by decide) (by decide)]
    | 16, h => rw [ha 16 (by decide) (by decide) (by decide)]
    | 17, h => rw [ha 17 (by decide) (by decide) (by decide)]
    | 18, h => rw [ha 18 (by decide) (by decide) (by decide)]
    | k + 19, h => exact h.elim
  rcases hea with ⟨rfl, hx⟩ | ⟨hfe, hne⟩
  · refine hH.build (nw := [(11, N 40), (12, N 40)]) (fun k i h => ?_) (fun c hc => ?_) (fun c hc c' hc' e => ?_) he (fun c hc => ?_)
    · rcases live k i h with q | q
      · by_cases e5 : k = 5 ∧ i = 3
        · obtain ⟨rfl, rfl⟩ := e5; exact Or.inl ⟨q, a5⟩
        · exact Or.inl ⟨q, hadn k i q e5⟩
      · by_cases e5 : k = 5 ∧ i = 3
        · obtain ⟨rfl, rfl⟩ := e5; exact Or.inl ⟨⟨by decide, hx⟩, a5⟩
        · exact Or.inr (by simp only [List.mem_cons, Prod.mk.injEq, List.not_mem_nil, or_false] at q ⊢; omega)
    · simp only [List.mem_cons, List.not_mem_nil, or_false] at hc
      rcases hc with rfl | rfl
      · dsimp only; rw [an11]; exact hf.1
      · dsimp only; rw [an12]; exact hf.2
    · simp only [List.mem_cons, List.not_mem_nil, or_false] at hc hc'
      rcases hc with rfl | rfl <;> rcases hc' with rfl | rfl <;> first | rfl | (exfalso; dsimp only at e; simp only [an11, an12, a5] at e; omega)
    · simp only [List.mem_cons, List.not_mem_nil, or_false] at hc
      rcases hc with rfl | rfl
      · dsimp only; rw [an11]; exact hA.1
      · dsimp only; rw [an12]; exact hA.2.1
  · refine hH.build (nw := [(11, N 40), (12, N 40), (5, 3)]) (fun k i h => ?_) (fun c hc => ?_) (fun c hc c' hc' e => ?_) he (fun c hc => ?_)
    · rcases live k i h with q | q
      · by_cases e5 : k = 5 ∧ i = 3
        · obtain ⟨rfl, rfl⟩ := e5; exact Or.inr (by simp)
        · exact Or.inl ⟨q, hadn k i q e5⟩
      · exact Or.inr q
    · simp only [List.mem_cons, List.not_mem_nil, or_false] at hc
      rcases hc with rfl | rfl | rfl
      · dsimp only; rw [an11]; exact hf.1
      · dsimp only; rw [an12]; exact hf.2
      · dsimp only; rw [a5]; exact hfe
    · simp only [List.mem_cons, List.not_mem_nil, or_false] at hc hc'
      rcases hc with rfl | rfl | rfl <;> rcases hc' with rfl | rfl | rfl <;> first | rfl | (exfalso; dsimp only at e; simp only [an11, an12, a5] at e; omega)
    · simp only [List.mem_cons, List.not_mem_nil, or_false] at hc
      rcases hc with rfl | rfl | rfl
      · dsimp only; rw [an11]; exact hA.1
      · dsimp only; rw [an12]; exact hA.2.1
      · dsimp only; rw [a5]; exact hA.2.2
end RHN
