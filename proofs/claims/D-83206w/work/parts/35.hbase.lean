set_option maxRecDepth 100000
/-! THE HOUSE: its cells by kind and number; they hold the same numbers as the reference -/
def up3 {α : Type} (f : Nat → Nat → Nat → α) (k i j : Nat) (v : α) : Nat → Nat → Nat → α := fun q a b => if q = k then (if a = i then (if b = j then v else f q a b) else f q a b) else f q a b
theorem up3_o {α : Type} {f : Nat → Nat → Nat → α} {k i j : Nat} {v : α} {a : Nat} (h : a ≠ k) : up3 f k i j v a = f a := by
  funext x y
  simp [up3, h]
def lenH : Nat → Nat := fun i => match i with | 0 => 24 | 1 => 20 | 7 => 300 | 15 => 20 | 16 => 6 | 17 => 6 | 18 => 6 | 19 => 6 | 20 => 6 | 21 => 6 | 22 => 60 | 23 => 10 | 24 => 7 | _ => 0
def isH (i : Nat) : Bool := decide (0 < lenH i)
def tyH : Nat → Nat := fun i => match i with | 7 => 1 | 22 => 2 | _ => 0
theorem lenH_lt (k : Nat) : lenH k < 2 ^ 31 := by unfold lenH; split <;> decide
def fnH (Y : Nat → Nat → Nat → Int32) (G : Nat → Nat → Nat) (J : Nat → Nat → Int32) (i : Nat) : Nat → Int32 := match i with | 0 => fun j => nI (G 18 j) | 1 => fun j => nI (G 2 j) | 7 => J 32 | 15 => Y 4 0 | 16 => fun j => nI (G 45 j) | 17 => fun j => nI (G 46 j) | 18 => fun j => nI (G 47 j) | 19 => fun j => nI (G 48 j) | 20 => Y 8 0 | 21 => Y 9 0 | 22 => Y 5 0 | 23 => Y 6 0 | 24 => Y 7 0 | _ => fun _ => 0
def szH (N : Nat → Nat) : Nat → Nat := fun l => match l with | 0 => N 3 | 1 => N 19 | 2 => N 23 | _ => N 40
def kdH : Nat → Nat := fun l => match l with | 0 => 6 | 1 => 9 | 2 => 10 | _ => 11
def tr20 (f : Nat → Nat) : Nat → Int32 := fun l => if l < 20 then nI (f l) else 0
abbrev rfA (f : Nat → Option Nat) : (Nat → Int32) ⊕ (Nat → Int64) ⊕ (Nat → UInt32) ⊕ (Nat → UInt64) ⊕ (Nat → Option Nat) := .inr (.inr (.inr (.inr f)))
def fH (ad : Nat → Nat → Nat) (Y : Nat → Nat → Nat → Int32) (N : Nat → Nat) (I : Nat → Int32) : List Value := [.ref (ad 1 0), .ref (ad 1 1), .ref (ad 2 0), .ref (ad 4 0), .ref (ad 4 1), .ref (ad 4 2), .ref (ad 4 3), .ref (ad 1 7), .int (nI (N 1)), .int (nI (N 14)), .int (nI (N 33)), .int (I 35), .int (nI (N 15)), .int (nI (N 42)), .int (nI (N 43)), .ref (ad 1 15), .ref (ad 1 16), .ref (ad 1 17), .ref (ad 1 18), .ref (ad 1 19), .ref (ad 1 20), .ref (ad 1 21), .ref (ad 1 22), .ref (ad 1 23), .ref (ad 1 24), .int (nI (N 44)), .int (Y 12 0 0), .int (Y 12 0 1)]
def fC (ad : Nat → Nat → Nat) (Y : Nat → Nat → Nat → Int32) (G : Nat → Nat → Nat) (J : Nat → Nat → Int32) (c : Nat) : List Value := [.ref (ad 7 c), .int (nI c), .ref (ad 8 c), .int (Y 0 c 0), .int (nI (G 7 c)), .int (nI (G 8 c)), .int (nI (G 9 c)), .int (J 10 c), .int (J 11 c), .int (nI (G 6 c)), .int (J 13 c)]
def fT (ad G : Nat → Nat → Nat) (k : Nat) : List Value := [.ref (ad 6 (G 20 k)), .int (nI (G 21 k)), .int (nI (G 22 k))]
def fR (ad G : Nat → Nat → Nat) (k : Nat) : List Value := [.int (nI (G 24 k)), .ref (ad 13 k)]
def fA (ad G : Nat → Nat → Nat) (i : Nat) : List Value := if G 26 i = 5 then [.ref (ad 16 i), .int (nI (G 27 i))] else [.ref (ad 16 i)]
def fQ (G : Nat → Nat → Nat) (i : Nat) : List Value := [.int (nI (G 29 i)), .int (nI (60 + G 30 i)), .int (nI (G 31 i))]
def elH (K : Nat → Nat) (ad X : Nat → Nat → Nat) (l : Nat) : Nat := if X 0 l = 0 then K 50 else ad 5 l
def rwH (ad X : Nat → Nat → Nat) : Nat → Option Nat := fun z => if X 1 z = 1 then some (ad 3 z) else none
def ltH (ad : Nat → Nat → Nat) (k n b : Nat) : Nat → Option Nat := fun j => if j < n then some (ad k (b + j)) else none
def EH (dA : Nat → ClassId) (K : Nat → Nat) (ad X : Nat → Nat → Nat) (Y : Nat → Nat → Nat → Int32) (N : Nat → Nat) (I : Nat → Int32) (G : Nat → Nat → Nat) (J : Nat → Nat → Int32) (k i : Nat) : va_E := match k with
  | 0 => .inr (1, fH ad Y N I)
  | 1 => .inl (dA (tyH i), lenH i, .inl (fnH Y G J i))
  | 2 => .inl (dA 5, 3, rfA (rwH ad X))
  | 3 => .inl (dA 1, 600, .inl (Y 2 i))
  | 4 => .inr (15, [.int (Y 3 i 0), .ref (elH K ad X i), .int (nI (szH N i))])
  | 5 => .inl (dA 4, X 0 i, rfA (ltH ad (kdH i) (szH N i) 0))
  | 6 => .inr (2, fC ad Y G J i)
  | 7 => .inl (dA 0, 20, .inl (tr20 (fun l => G 4 (20 * i + l))))
  | 8 => .inl (dA 1, 600, .inl (Y 1 i))
  | 9 => .inr (4, fT ad G i)
  | 10 => .inr (5, fR ad G i)
  | 11 => .inr (3, [.ref (ad 12 i)])
  | 12 => .inl (dA 0, 20, .inl (tr20 (fun l => G 41 (20 * i + l))))
  | 13 => .inr (15, [.int (Y 10 i 0), .ref (ad 14 i), .int (nI (G 25 i))])
  | 14 => .inl (dA 4, X 2 i, rfA (ltH ad 15 (G 25 i) (10 * i)))
  | 15 => .inr (9 + G 26 i, fA ad G i)
  | 16 => .inr (15, [.int (Y 11 i 0), .ref (ad 17 i), .int (nI (G 28 i))])
  | 17 => .inl (dA 4, X 3 i, rfA (ltH ad 18 (G 28 i) (3 * i)))
  | 18 => .inr (8, fQ G i)
  | _ => .inr (0, [])
def LH (N : Nat → Nat) (G X : Nat → Nat → Nat) (k i : Nat) : Prop := match k with
  | 0 => i = 0
  | 1 => isH i = true
  | 2 => i = 0
  | 3 => i < 3 ∧ X 1 i = 1
  | 4 => i < 4
  | 5 => i < 4 ∧ X 0 i ≠ 0
  | 6 => i < N 3
  | 7 => i < N 3
  | 8 => i < N 3
  | 9 => i < N 19
  | 10 => i < N 23
  | 11 => i < N 40
  | 12 => i < N 40
  | 13 => i < N 23
  | 14 => i < N 23
  | 15 => i / 10 < N 23 ∧ i % 10 < G 25 (i / 10)
  | 16 => i / 10 < N 23 ∧ i % 10 < G 25 (i / 10)
  | 17 => i / 10 < N 23 ∧ i % 10 < G 25 (i / 10)
  | 18 => i / 30 < N 23 ∧ i / 3 % 10 < G 25 (i / 30) ∧ i % 3 < G 28 (i / 3)
  | _ => False
/-- the house stands in H, all of it in A -/
def RH (A : Nat → Prop) (D : va_G) (dA : Nat → ClassId) (K : Nat → Nat) (ad X : Nat → Nat → Nat) (Y : Nat → Nat → Nat → Int32) (N : Nat → Nat) (I : Nat → Int32) (G : Nat → Nat → Nat) (J : Nat → Nat → Int32) (H : Heap) : Prop := (∀ k i, LH N G X k i → va_at D CL (ad k i, EH dA K ad X Y N I G J k i) H) ∧ (∀ k i k' i', LH N G X k i → LH N G X k' i' → ad k i = ad k' i' → k = k' ∧ i = i') ∧ ∀ k i, LH N G X k i → A (ad k i)
theorem inl_cg {c : ClassId} {n : Nat} {f g : Nat → Int32} (h : f = g) : (Sum.inl (c, n, Sum.inl f) : va_E) = Sum.inl (c, n, Sum.inl g) := by rw [h]
section RHS
variable {A : Nat → Prop} {D : va_G} {dA : Nat → ClassId} {K : Nat → Nat} {ad X : Nat → Nat → Nat} {Y : Nat → Nat → Nat → Int32} {N : Nat → Nat} {I : Nat → Int32} {G : Nat → Nat → Nat} {J : Nat → Nat → Int32} {H H1 : Heap}
theorem RH.kept (hH : RH A D dA K ad X Y N I G J H) (h : ∀ k i, LH N G X k i → H1[ad k i]? = H[ad k i]?) : RH A D dA K ad X Y N I G J H1 := ⟨fun k i q => (hH.1 k i q).kept (h k i q), hH.2⟩
theorem RH.lt (hH : RH A D dA K ad X Y N I G J H) {k i : Nat} (h : LH N G X k i) : ad k i < H.size := va_at_lt (hH.1 k i h)
theorem RH.grow (hH : RH A D dA K ad X Y N I G J H) (o : ∀ q : Nat, q < H.size → H1[q]? = H[q]?) : RH A D dA K ad X Y N I G J H1 := hH.kept (fun _ _ h => o _ (hH.lt h))
theorem RH.inj (hH : RH A D dA K ad X Y N I G J H) (k : Nat) {i i' : Nat} (h : LH N G X k i) (h' : LH N G X k i') (e : ad k i = ad k i') : i = i' := (hH.2.1 k i k i' h h' e).2
theorem RH.set (hH : RH A D dA K ad X Y N I G J H) {k i : Nat} (hL : LH N G X k i) {e : va_E} (e1 : va_at D CL (ad k i, e) H1) (o1 : ∀ q : Nat, q ≠ ad k i → H1[q]? = H[q]?) {X1 : Nat → Nat → Nat} {Y1 : Nat → Nat → Nat → Int32} {N1 : Nat → Nat} {I1 : Nat → Int32} {G1 : Nat → Nat → Nat} {J1 : Nat → Nat → Int32} (hLe : ∀ k i, LH N1 G1 X1 k i → LH N G X k i) (hE : ∀ k' i', LH N1 G1 X1 k' i' → EH dA K ad X1 Y1 N1 I1 G1 J1 k' i' = if k' = k ∧ i' = i then e else EH dA K ad X Y N I G J k' i') : RH A D dA K ad X1 Y1 N1 I1 G1 J1 H1 := by
  refine ⟨fun k' i' h' => ?_, fun a b a' b' h h' => hH.2.1 a b a' b' (hLe _ _ h) (hLe _ _ h'), fun a b h => hH.2.2 a b (hLe _ _ h)⟩
  rw [hE k' i' h']
  by_cases h : k' = k ∧ i' = i
  · rw [if_pos h]
    obtain ⟨rfl, rfl⟩ := h
    exact e1
  · rw [if_neg h]
    exact (hH.1 k' i' (hLe _ _ h')).kept (o1 _ (fun q => h (hH.2.1 _ _ _ _ (hLe _ _ h') hL q)))
theorem szH_cg {N N1 : Nat → Nat} (h3 : N1 3 = N 3) (h19 : N1 19 = N 19) (h23 : N1 23 = N 23) (h40 : N1 40 = N 40) : szH N1 = szH N := by
  funext l
  unfold szH
  split <;> assumption
theorem LH_cg {N N1 : Nat → Nat} {G X : Nat → Nat → Nat} (h3 : N1 3 = N 3) (h19 : N1 19 = N 19) (h23 : N1 23 = N 23) (h40 : N1 40 = N 40) {k i : Nat} (h : LH N1 G X k i) : LH N G X k i := by
  unfold LH at h ⊢
  split at h <;> first | exact h | (rw [← h3]; exact h) | (rw [← h19]; exact h) | (rw [← h23]; exact h) | (rw [← h40]; exact h)
theorem RH.house (hH : RH A D dA K ad X Y N I G J H) {N1 : Nat → Nat} {I1 : Nat → Int32} {Y1 : Nat → Nat → Nat → Int32} (e1 : va_at D CL (ad 0 0, .inr (1, fH ad Y1 N1 I1)) H1) (o1 : ∀ q : Nat, q ≠ ad 0 0 → H1[q]? = H[q]?) (h3 : N1 3 = N 3) (h19 : N1 19 = N 19) (h23 : N1 23 = N 23) (h40 : N1 40 = N 40) (hy : ∀ a, a ≠ 12 → Y1 a = Y a) : RH A D dA K ad X Y1 N1 I1 G J H1 := by
  refine hH.set (k := 0) (i := 0) rfl e1 o1 (fun _ _ h => LH_cg h3 h19 h23 h40 h) (fun k' i' h' => ?_)
  match k', h' with
  | 0, h' =>
    rw [if_pos ⟨rfl, h'⟩]
    rfl
  | 1, h' =>
    rw [if_neg (fun q => absurd q.1 (by decide))]
    show Sum.inl (dA (tyH i'), lenH i', Sum.inl (fnH Y1 G J i')) = Sum.inl (dA (tyH i'), lenH i', Sum.inl (fnH Y G J i'))
    unfold fnH
    simp only [hy 4 (by decide), hy 5 (by decide), hy 6 (by decide), hy 7 (by decide), hy 8 (by decide), hy 9 (by decide)]
  | 2, _ => rw [if_neg (fun q => absurd q.1 (by decide))]; simp only [EH, fC, szH_cg h3 h19 h23 h40, hy 0 (by decide), hy 1 (by decide), hy 2 (by decide), hy 3 (by decide), hy 10 (by decide), hy 11 (by decide)]
  | 3, _ => rw [if_neg (fun q => absurd q.1 (by decide))]; simp only [EH, fC, szH_cg h3 h19 h23 h40, hy 0 (by decide), hy 1 (by decide), hy 2 (by decide), hy 3 (by decide), hy 10 (by decide), hy 11 (by decide)]
  | 4, _ => rw [if_neg (fun q => absurd q.1 (by decide))]; simp only [EH, fC, szH_cg h3 h19 h23 h40, hy 0 (by decide), hy 1 (by decide), hy 2 (by decide), hy 3 (by decide), hy 10 (by decide), hy 11 (by decide)]
  | 5, _ => rw [if_neg (fun q => absurd q.1 (by decide))]; simp only [EH, fC, szH_cg h3 h19 h23 h40, hy 0 (by decide), hy 1 (by decide), hy 2 (by decide), hy 3 (by decide), hy 10 (by decide), hy 11 (by decide)]
  | 6, _ => rw [if_neg (fun q => absurd q.1 (by decide))]; simp only [EH, fC, szH_cg h3 h19 h23 h40, hy 0 (by decide), hy 1 (by decide), hy 2 (by decide), hy 3 (by decide), hy 10 (by decide), hy 11 (by decide)]
  | 7, _ => rw [if_neg (fun q => absurd q.1 (by decide))]; simp only [EH, fC, szH_cg h3 h19 h23 h40, hy 0 (by decide), hy 1 (by decide), hy 2 (by decide), hy 3 (by decide), hy 10 (by decide), hy 11 (by decide)]
  | 8, _ => rw [if_neg (fun q => absurd q.1 (by decide))]; simp only [EH, fC, szH_cg h3 h19 h23 h40, hy 0 (by decide), hy 1 (by decide), hy 2 (by decide), hy 3 (by decide), hy 10 (by decide), hy 11 (by decide)]
  | 9, _ => rw [if_neg (fun q => absurd q.1 (by decide))]; simp only [EH, fC, szH_cg h3 h19 h23 h40, hy 0 (by decide), hy 1 (by decide), hy 2 (by decide), hy 3 (by decide), hy 10 (by decide), hy 11 (by decide)]
  | 10, _ => rw [if_neg (fun q => absurd q.1 (by decide))]; simp only [EH, fC, szH_cg h3 h19 h23 h40, hy 0 (by decide), hy 1 (by decide), hy 2 (by decide), hy 3 (by decide), hy 10 (by decide), hy 11 (by decide)]
  | 11, _ => rw [if_neg (fun q => absurd q.1 (by decide))]; simp only [EH, fC, szH_cg h3 h19 h23 h40, hy 0 (by decide), hy 1 (by decide), hy 2 (by decide), hy 3 (by decide), hy 10 (by decide), hy 11 (by decide)]
  | 12, _ => rw [if_neg (fun q => absurd q.1 (by decide))]; simp only [EH, fC, szH_cg h3 h19 h23 h40, hy 0 (by decide), hy 1 (by decide), hy 2 (by decide), hy 3 (by decide), hy 10 (by decide), hy 11 (by decide)]
  | 13, _ => rw [if_neg (fun q => absurd q.1 (by decide))]; simp only [EH, fC, szH_cg h3 h19 h23 h40, hy 0 (by decide), hy 1 (by decide), hy 2 (by decide), hy 3 (by decide), hy 10 (by decide), hy 11 (by decide)]
  | 14, _ => rw [if_neg (fun q => absurd q.1 (by decide))]; simp only [EH, fC, szH_cg h3 h19 h23 h40, hy 0 (by decide), hy 1 (by decide), hy 2 (by decide), hy 3 (by decide), hy 10 (by decide), hy 11 (by decide)]
  | 15, _ => rw [if_neg (fun q => absurd q.1 (by decide))]; simp only [EH, fC, szH_cg h3 h19 h23 h40, hy 0 (by decide), hy 1 (by decide), hy 2 (by decide), hy 3 (by decide), hy 10 (by decide), hy 11 (by decide)]
  | 16, _ => rw [if_neg (fun q => absurd q.1 (by decide))]; simp only [EH, fC, szH_cg h3 h19 h23 h40, hy 0 (by decide), hy 1 (by decide), hy 2 (by decide), hy 3 (by decide), hy 10 (by decide), hy 11 (by decide)]
  | 17, _ => rw [if_neg (fun q => absurd q.1 (by decide))]; simp only [EH, fC, szH_cg h3 h19 h23 h40, hy 0 (by decide), hy 1 (by decide), hy 2 (by decide), hy 3 (by decide), hy 10 (by decide), hy 11 (by decide)]
  | 18, _ => rw [if_neg (fun q => absurd q.1 (by decide))]; simp only [EH, fC, szH_cg h3 h19 h23 h40, hy 0 (by decide), hy 1 (by decide), hy 2 (by decide), hy 3 (by decide), hy 10 (by decide), hy 11 (by decide)]
  | n + 19, h' => exact h'.elim
theorem RH.h1 (hH : RH A D dA K ad X Y N I G J H) {j : Nat} {v : Nat} (e1 : va_at D CL (ad 1 1, .inl (dA (tyH 1), lenH 1, .inl (upd (fnH Y G J 1) j (nI v)))) H1) (o1 : ∀ q : Nat, q ≠ ad 1 1 → H1[q]? = H[q]?) : RH A D dA K ad X Y N I (up2 G 2 j v) J H1 := by
  refine hH.set (k := 1) (i := 1) rfl e1 o1 (fun k i h => h) (fun k' i' h' => ?_)
  match k', h' with
  | 0, _ => rw [if_neg (fun q => absurd q.1 (by decide))]; rfl
  | 1, h' =>
    by_cases hi : i' = 1
    · subst hi
      rw [if_pos ⟨rfl, rfl⟩]
      show Sum.inl (dA (tyH 1), lenH 1, Sum.inl _) = _
      refine inl_cg ?_
      funext z
      by_cases hz : z = j <;> simp [fnH, upd, up2, hz]
    · rw [if_neg (fun q => hi q.2)]
      show Sum.inl (dA (tyH i'), lenH i', Sum.inl (fnH Y (up2 G 2 j v) J i')) = Sum.inl (dA (tyH i'), lenH i', Sum.inl (fnH Y G J i'))
      refine inl_cg ?_
      unfold fnH
      split <;> first | rfl | exact absurd rfl hi
  | 2, _ => rw [if_neg (fun q => absurd q.1 (by decide))]; rfl
  | 3, _ => rw [if_neg (fun q => absurd q.1 (by decide))]; rfl
  | 4, _ => rw [if_neg (fun q => absurd q.1 (by decide))]; rfl
  | 5, _ => rw [if_neg (fun q => absurd q.1 (by decide))]; rfl
  | 6, _ => rw [if_neg (fun q => absurd q.1 (by decide))]; rfl
  | 7, _ => rw [if_neg (fun q => absurd q.1 (by decide))]; rfl
  | 8, _ => rw [if_neg (fun q => absurd q.1 (by decide))]; rfl
  | 9, _ => rw [if_neg (fun q => absurd q.1 (by decide))]; rfl
  | 10, _ => rw [if_neg (fun q => absurd q.1 (by decide))]; rfl
  | 11, _ => rw [if_neg (fun q => absurd q.1 (by decide))]; rfl
  | 12, _ => rw [if_neg (fun q => absurd q.1 (by decide))]; rfl
  | 13, _ => rw [if_neg (fun q => absurd q.1 (by decide))]; rfl
  | 14, _ => rw [if_neg (fun q => absurd q.1 (by decide))]; rfl
  | 15, _ => rw [if_neg (fun q => absurd q.1 (by decide))]; rfl
  | 16, _ => rw [if_neg (fun q => absurd q.1 (by decide))]; rfl
  | 17, _ => rw [if_neg (fun q => absurd q.1 (by decide))]; rfl
  | 18, _ => rw [if_neg (fun q => absurd q.1 (by decide))]; rfl
  | n + 19, h' => exact h'.elim
theorem RH.h16 (hH : RH A D dA K ad X Y N I G J H) {j : Nat} {v : Nat} (e1 : va_at D CL (ad 1 16, .inl (dA (tyH 16), lenH 16, .inl (upd (fnH Y G J 16) j (nI v)))) H1) (o1 : ∀ q : Nat, q ≠ ad 1 16 → H1[q]? = H[q]?) : RH A D dA K ad X Y N I (up2 G 45 j v) J H1 := by
  refine hH.set (k := 1) (i := 16) rfl e1 o1 (fun k i h => h) (fun k' i' h' => ?_)
  match k', h' with
  | 0, _ => rw [if_neg (fun q => absurd q.1 (by decide))]; rfl
  | 1, h' =>
    by_cases hi : i' = 16
    · subst hi
      rw [if_pos ⟨rfl, rfl⟩]
      show Sum.inl (dA (tyH 16), lenH 16, Sum.inl _) = _
      refine inl_cg ?_
      funext z
      by_cases hz : z = j <;> simp [fnH, upd, up2, hz]
    · rw [if_neg (fun q => hi q.2)]
      show Sum.inl (dA (tyH i'), lenH i', Sum.inl (fnH Y (up2 G 45 j v) J i')) = Sum.inl (dA (tyH i'), lenH i', Sum.inl (fnH Y G J i'))
      refine inl_cg ?_
      unfold fnH
      split <;> first | rfl | exact absurd rfl hi
  | 2, _ => rw [if_neg (fun q => absurd q.1 (by decide))]; rfl
  | 3, _ => rw [if_neg (fun q => absurd q.1 (by decide))]; rfl
  | 4, _ => rw [if_neg (fun q => absurd q.1 (by decide))]; rfl
  | 5, _ => rw [if_neg (fun q => absurd q.1 (by decide))]; rfl
  | 6, _ => rw [if_neg (fun q => absurd q.1 (by decide))]; rfl
  | 7, _ => rw [if_neg (fun q => absurd q.1 (by decide))]; rfl
  | 8, _ => rw [if_neg (fun q => absurd q.1 (by decide))]; rfl
  | 9, _ => rw [if_neg (fun q => absurd q.1 (by decide))]; rfl
  | 10, _ => rw [if_neg (fun q => absurd q.1 (by decide))]; rfl
  | 11, _ => rw [if_neg (fun q => absurd q.1 (by decide))]; rfl
  | 12, _ => rw [if_neg (fun q => absurd q.1 (by decide))]; rfl
  | 13, _ => rw [if_neg (fun q => absurd q.1 (by decide))]; rfl
  | 14, _ => rw [if_neg (fun q => absurd q.1 (by decide))]; rfl
  | 15, _ => rw [if_neg (fun q => absurd q.1 (by decide))]; rfl
  | 16, _ => rw [if_neg (fun q => absurd q.1 (by decide))]; rfl
  | 17, _ => rw [if_neg (fun q => absurd q.1 (by decide))]; rfl
  | 18, _ => rw [if_neg (fun q => absurd q.1 (by decide))]; rfl
  | n + 19, h' => exact h'.elim
theorem RH.h17 (hH : RH A D dA K ad X Y N I G J H) {j : Nat} {v : Nat} (e1 : va_at D CL (ad 1 17, .inl (dA (tyH 17), lenH 17, .inl (upd (fnH Y G J 17) j (nI v)))) H1) (o1 : ∀ q : Nat, q ≠ ad 1 17 → H1[q]? = H[q]?) : RH A D dA K ad X Y N I (up2 G 46 j v) J H1 := by
  refine hH.set (k := 1) (i := 17) rfl e1 o1 (fun k i h => h) (fun k' i' h' => ?_)
  match k', h' with
  | 0, _ => rw [if_neg (fun q => absurd q.1 (by decide))]; rfl
  | 1, h' =>
    by_cases hi : i' = 17
    · subst hi
      rw [if_pos ⟨rfl, rfl⟩]
      show Sum.inl (dA (tyH 17), lenH 17, Sum.inl _) = _
      refine inl_cg ?_
      funext z
      by_cases hz : z = j <;> simp [fnH, upd, up2, hz]
    · rw [if_neg (fun q => hi q.2)]
      show Sum.inl (dA (tyH i'), lenH i', Sum.inl (fnH Y (up2 G 46 j v) J i')) = Sum.inl (dA (tyH i'), lenH i', Sum.inl (fnH Y G J i'))
      refine inl_cg ?_
      unfold fnH
      split <;> first | rfl | exact absurd rfl hi
  | 2, _ => rw [if_neg (fun q => absurd q.1 (by decide))]; rfl
  | 3, _ => rw [if_neg (fun q => absurd q.1 (by decide))]; rfl
  | 4, _ => rw [if_neg (fun q => absurd q.1 (by decide))]; rfl
  | 5, _ => rw [if_neg (fun q => absurd q.1 (by decide))]; rfl
  | 6, _ => rw [if_neg (fun q => absurd q.1 (by decide))]; rfl
  | 7, _ => rw [if_neg (fun q => absurd q.1 (by decide))]; rfl
  | 8, _ => rw [if_neg (fun q => absurd q.1 (by decide))]; rfl
  | 9, _ => rw [if_neg (fun q => absurd q.1 (by decide))]; rfl
  | 10, _ => rw [if_neg (fun q => absurd q.1 (by decide))]; rfl
  | 11, _ => rw [if_neg (fun q => absurd q.1 (by decide))]; rfl
  | 12, _ => rw [if_neg (fun q => absurd q.1 (by decide))]; rfl
  | 13, _ => rw [if_neg (fun q => absurd q.1 (by decide))]; rfl
  | 14, _ => rw [if_neg (fun q => absurd q.1 (by decide))]; rfl
  | 15, _ => rw [if_neg (fun q => absurd q.1 (by decide))]; rfl
  | 16, _ => rw [if_neg (fun q => absurd q.1 (by decide))]; rfl
  | 17, _ => rw [if_neg (fun q => absurd q.1 (by decide))]; rfl
  | 18, _ => rw [if_neg (fun q => absurd q.1 (by decide))]; rfl
  | n + 19, h' => exact h'.elim
theorem RH.h18 (hH : RH A D dA K ad X Y N I G J H) {j : Nat} {v : Nat} (e1 : va_at D CL (ad 1 18, .inl (dA (tyH 18), lenH 18, .inl (upd (fnH Y G J 18) j (nI v)))) H1) (o1 : ∀ q : Nat, q ≠ ad 1 18 → H1[q]? = H[q]?) : RH A D dA K ad X Y N I (up2 G 47 j v) J H1 := by
  refine hH.set (k := 1) (i := 18) rfl e1 o1 (fun k i h => h) (fun k' i' h' => ?_)
  match k', h' with
  | 0, _ => rw [if_neg (fun q => absurd q.1 (by decide))]; rfl
  | 1, h' =>
    by_cases hi : i' = 18
    · subst hi
      rw [if_pos ⟨rfl, rfl⟩]
      show Sum.inl (dA (tyH 18), lenH 18, Sum.inl _) = _
      refine inl_cg ?_
      funext z
      by_cases hz : z = j <;> simp [fnH, upd, up2, hz]
    · rw [if_neg (fun q => hi q.2)]
      show Sum.inl (dA (tyH i'), lenH i', Sum.inl (fnH Y (up2 G 47 j v) J i')) = Sum.inl (dA (tyH i'), lenH i', Sum.inl (fnH Y G J i'))
      refine inl_cg ?_
      unfold fnH
      split <;> first | rfl | exact absurd rfl hi
  | 2, _ => rw [if_neg (fun q => absurd q.1 (by decide))]; rfl
  | 3, _ => rw [if_neg (fun q => absurd q.1 (by decide))]; rfl
  | 4, _ => rw [if_neg (fun q => absurd q.1 (by decide))]; rfl
  | 5, _ => rw [if_neg (fun q => absurd q.1 (by decide))]; rfl
  | 6, _ => rw [if_neg (fun q => absurd q.1 (by decide))]; rfl
  | 7, _ => rw [if_neg (fun q => absurd q.1 (by decide))]; rfl
  | 8, _ => rw [if_neg (fun q => absurd q.1 (by decide))]; rfl
  | 9, _ => rw [if_neg (fun q => absurd q.1 (by decide))]; rfl
  | 10, _ => rw [if_neg (fun q => absurd q.1 (by decide))]; rfl
  | 11, _ => rw [if_neg (fun q => absurd q.1 (by decide))]; rfl
  | 12, _ => rw [if_neg (fun q => absurd q.1 (by decide))]; rfl
  | 13, _ => rw [if_neg (fun q => absurd q.1 (by decide))]; rfl
  | 14, _ => rw [if_neg (fun q => absurd q.1 (by decide))]; rfl
  | 15, _ => rw [if_neg (fun q => absurd q.1 (by decide))]; rfl
  | 16, _ => rw [if_neg (fun q => absurd q.1 (by decide))]; rfl
  | 17, _ => rw [if_neg (fun q => absurd q.1 (by decide))]; rfl
  | 18, _ => rw [if_neg (fun q => absurd q.1 (by decide))]; rfl
  | n + 19, h' => exact h'.elim
theorem RH.h19 (hH : RH A D dA K ad X Y N I G J H) {j : Nat} {v : Nat} (e1 : va_at D CL (ad 1 19, .inl (dA (tyH 19), lenH 19, .inl (upd (fnH Y G J 19) j (nI v)))) H1) (o1 : ∀ q : Nat, q ≠ ad 1 19 → H1[q]? = H[q]?) : RH A D dA K ad X Y N I (up2 G 48 j v) J H1 := by
  refine hH.set (k := 1) (i := 19) rfl e1 o1 (fun k i h => h) (fun k' i' h' => ?_)
  match k', h' with
  | 0, _ => rw [if_neg (fun q => absurd q.1 (by decide))]; rfl
  | 1, h' =>
    by_cases hi : i' = 19
    · subst hi
      rw [if_pos ⟨rfl, rfl⟩]
      show Sum.inl (dA (tyH 19), lenH 19, Sum.inl _) = _
      refine inl_cg ?_
      funext z
      by_cases hz : z = j <;> simp [fnH, upd, up2, hz]
    · rw [if_neg (fun q => hi q.2)]
      show Sum.inl (dA (tyH i'), lenH i', Sum.inl (fnH Y (up2 G 48 j v) J i')) = Sum.inl (dA (tyH i'), lenH i', Sum.inl (fnH Y G J i'))
      refine inl_cg ?_
      unfold fnH
      split <;> first | rfl | exact absurd rfl hi
  | 2, _ => rw [if_neg (fun q => absurd q.1 (by decide))]; rfl
  | 3, _ => rw [if_neg (fun q => absurd q.1 (by decide))]; rfl
  | 4, _ => rw [if_neg (fun q => absurd q.1 (by decide))]; rfl
  | 5, _ => rw [if_neg (fun q => absurd q.1 (by decide))]; rfl
  | 6, _ => rw [if_neg (fun q => absurd q.1 (by decide))]; rfl
  | 7, _ => rw [if_neg (fun q => absurd q.1 (by decide))]; rfl
  | 8, _ => rw [if_neg (fun q => absurd q.1 (by decide))]; rfl
  | 9, _ => rw [if_neg (fun q => absurd q.1 (by decide))]; rfl
  | 10, _ => rw [if_neg (fun q => absurd q.1 (by decide))]; rfl
  | 11, _ => rw [if_neg (fun q => absurd q.1 (by decide))]; rfl
  | 12, _ => rw [if_neg (fun q => absurd q.1 (by decide))]; rfl
  | 13, _ => rw [if_neg (fun q => absurd q.1 (by decide))]; rfl
  | 14, _ => rw [if_neg (fun q => absurd q.1 (by decide))]; rfl
  | 15, _ => rw [if_neg (fun q => absurd q.1 (by decide))]; rfl
  | 16, _ => rw [if_neg (fun q => absurd q.1 (by decide))]; rfl
  | 17, _ => rw [if_neg (fun q => absurd q.1 (by decide))]; rfl
  | 18, _ => rw [if_neg (fun q => absurd q.1 (by decide))]; rfl
  | n + 19, h' => exact h'.elim
theorem RH.h7 (hH : RH A D dA K ad X Y N I G J H) {j : Nat} {v : Int32} (e1 : va_at D CL (ad 1 7, .inl (dA (tyH 7), lenH 7, .inl (upd (fnH Y G J 7) j (v)))) H1) (o1 : ∀ q : Nat, q ≠ ad 1 7 → H1[q]? = H[q]?) : RH A D dA K ad X Y N I G (up2 J 32 j v) H1 := by
  refine hH.set (k := 1) (i := 7) rfl e1 o1 (fun k i h => h) (fun k' i' h' => ?_)
  match k', h' with
  | 0, _ => rw [if_neg (fun q => absurd q.1 (by decide))]; rfl
  | 1, h' =>
    by_cases hi : i' = 7
    · subst hi
      rw [if_pos ⟨rfl, rfl⟩]
      show Sum.inl (dA (tyH 7), lenH 7, Sum.inl _) = _
      refine inl_cg ?_
      funext z
      by_cases hz : z = j <;> simp [fnH, upd, up2, hz]
    · rw [if_neg (fun q => hi q.2)]
      show Sum.inl (dA (tyH i'), lenH i', Sum.inl (fnH Y G (up2 J 32 j v) i')) = Sum.inl (dA (tyH i'), lenH i', Sum.inl (fnH Y G J i'))
      refine inl_cg ?_
      unfold fnH
      split <;> first | rfl | exact absurd rfl hi
  | 2, _ => rw [if_neg (fun q => absurd q.1 (by decide))]; rfl
  | 3, _ => rw [if_neg (fun q => absurd q.1 (by decide))]; rfl
  | 4, _ => rw [if_neg (fun q => absurd q.1 (by decide))]; rfl
  | 5, _ => rw [if_neg (fun q => absurd q.1 (by decide))]; rfl
  | 6, _ => rw [if_neg (fun q => absurd q.1 (by decide))]; rfl
  | 7, _ => rw [if_neg (fun q => absurd q.1 (by decide))]; rfl
  | 8, _ => rw [if_neg (fun q => absurd q.1 (by decide))]; rfl
  | 9, _ => rw [if_neg (fun q => absurd q.1 (by decide))]; rfl
  | 10, _ => rw [if_neg (fun q => absurd q.1 (by decide))]; rfl
  | 11, _ => rw [if_neg (fun q => absurd q.1 (by decide))]; rfl
  | 12, _ => rw [if_neg (fun q => absurd q.1 (by decide))]; rfl
  | 13, _ => rw [if_neg (fun q => absurd q.1 (by decide))]; rfl
  | 14, _ => rw [if_neg (fun q => absurd q.1 (by decide))]; rfl
  | 15, _ => rw [if_neg (fun q => absurd q.1 (by decide))]; rfl
  | 16, _ => rw [if_neg (fun q => absurd q.1 (by decide))]; rfl
  | 17, _ => rw [if_neg (fun q => absurd q.1 (by decide))]; rfl
  | 18, _ => rw [if_neg (fun q => absurd q.1 (by decide))]; rfl
  | n + 19, h' => exact h'.elim
theorem RH.h15 (hH : RH A D dA K ad X Y N I G J H) {j : Nat} {v : Int32} (e1 : va_at D CL (ad 1 15, .inl (dA (tyH 15), lenH 15, .inl (upd (fnH Y G J 15) j (v)))) H1) (o1 : ∀ q : Nat, q ≠ ad 1 15 → H1[q]? = H[q]?) : RH A D dA K ad X (up3 Y 4 0 j v) N I G J H1 := by
  refine hH.set (k := 1) (i := 15) rfl e1 o1 (fun k i h => h) (fun k' i' h' => ?_)
  match k', h' with
  | 0, _ => rw [if_neg (fun q => absurd q.1 (by decide))]; rfl
  | 1, h' =>
    by_cases hi : i' = 15
    · subst hi
      rw [if_pos ⟨rfl, rfl⟩]
      show Sum.inl (dA (tyH 15), lenH 15, Sum.inl _) = _
      refine inl_cg ?_
      funext z
      by_cases hz : z = j <;> simp [fnH, upd, up3, hz]
    · rw [if_neg (fun q => hi q.2)]
      show Sum.inl (dA (tyH i'), lenH i', Sum.inl (fnH (up3 Y 4 0 j v) G J i')) = Sum.inl (dA (tyH i'), lenH i', Sum.inl (fnH Y G J i'))
      refine inl_cg ?_
      unfold fnH
      split <;> first | rfl | exact absurd rfl hi
  | 2, _ => rw [if_neg (fun q => absurd q.1 (by decide))]; rfl
  | 3, _ => rw [if_neg (fun q => absurd q.1 (by decide))]; rfl
  | 4, _ => rw [if_neg (fun q => absurd q.1 (by decide))]; rfl
  | 5, _ => rw [if_neg (fun q => absurd q.1 (by decide))]; rfl
  | 6, _ => rw [if_neg (fun q => absurd q.1 (by decide))]; rfl
  | 7, _ => rw [if_neg (fun q => absurd q.1 (by decide))]; rfl
  | 8, _ => rw [if_neg (fun q => absurd q.1 (by decide))]; rfl
  | 9, _ => rw [if_neg (fun q => absurd q.1 (by decide))]; rfl
  | 10, _ => rw [if_neg (fun q => absurd q.1 (by decide))]; rfl
  | 11, _ => rw [if_neg (fun q => absurd q.1 (by decide))]; rfl
  | 12, _ => rw [if_neg (fun q => absurd q.1 (by decide))]; rfl
  | 13, _ => rw [if_neg (fun q => absurd q.1 (by decide))]; rfl
  | 14, _ => rw [if_neg (fun q => absurd q.1 (by decide))]; rfl
  | 15, _ => rw [if_neg (fun q => absurd q.1 (by decide))]; rfl
  | 16, _ => rw [if_neg (fun q => absurd q.1 (by decide))]; rfl
  | 17, _ => rw [if_neg (fun q => absurd q.1 (by decide))]; rfl
  | 18, _ => rw [if_neg (fun q => absurd q.1 (by decide))]; rfl
  | n + 19, h' => exact h'.elim
theorem RH.h20 (hH : RH A D dA K ad X Y N I G J H) {j : Nat} {v : Int32} (e1 : va_at D CL (ad 1 20, .inl (dA (tyH 20), lenH 20, .inl (upd (fnH Y G J 20) j (v)))) H1) (o1 : ∀ q : Nat, q ≠ ad 1 20 → H1[q]? = H[q]?) : RH A D dA K ad X (up3 Y 8 0 j v) N I G J H1 := by
  refine hH.set (k := 1) (i := 20) rfl e1 o1 (fun k i h => h) (fun k' i' h' => ?_)
  match k', h' with
  | 0, _ => rw [if_neg (fun q => absurd q.1 (by decide))]; rfl
  | 1, h' =>
    by_cases hi : i' = 20
    · subst hi
      rw [if_pos ⟨rfl, rfl⟩]
      show Sum.inl (dA (tyH 20), lenH 20, Sum.inl _) = _
      refine inl_cg ?_
      funext z
      by_cases hz : z = j <;> simp [fnH, upd, up3, hz]
    · rw [if_neg (fun q => hi q.2)]
      show Sum.inl (dA (tyH i'), lenH i', Sum.inl (fnH (up3 Y 8 0 j v) G J i')) = Sum.inl (dA (tyH i'), lenH i', Sum.inl (fnH Y G J i'))
      refine inl_cg ?_
      unfold fnH
      split <;> first | rfl | exact absurd rfl hi
  | 2, _ => rw [if_neg (fun q => absurd q.1 (by decide))]; rfl
  | 3, _ => rw [if_neg (fun q => absurd q.1 (by decide))]; rfl
  | 4, _ => rw [if_neg (fun q => absurd q.1 (by decide))]; rfl
  | 5, _ => rw [if_neg (fun q => absurd q.1 (by decide))]; rfl
  | 6, _ => rw [if_neg (fun q => absurd q.1 (by decide))]; rfl
  | 7, _ => rw [if_neg (fun q => absurd q.1 (by decide))]; rfl
  | 8, _ => rw [if_neg (fun q => absurd q.1 (by decide))]; rfl
  | 9, _ => rw [if_neg (fun q => absurd q.1 (by decide))]; rfl
  | 10, _ => rw [if_neg (fun q => absurd q.1 (by decide))]; rfl
  | 11, _ => rw [if_neg (fun q => absurd q.1 (by decide))]; rfl
  | 12, _ => rw [if_neg (fun q => absurd q.1 (by decide))]; rfl
  | 13, _ => rw [if_neg (fun q => absurd q.1 (by decide))]; rfl
  | 14, _ => rw [if_neg (fun q => absurd q.1 (by decide))]; rfl
  | 15, _ => rw [if_neg (fun q => absurd q.1 (by decide))]; rfl
  | 16, _ => rw [if_neg (fun q => absurd q.1 (by decide))]; rfl
  | 17, _ => rw [if_neg (fun q => absurd q.1 (by decide))]; rfl
  | 18, _ => rw [if_neg (fun q => absurd q.1 (by decide))]; rfl
  | n + 19, h' => exact h'.elim
theorem RH.h21 (hH : RH A D dA K ad X Y N I G J H) {j : Nat} {v : Int32} (e1 : va_at D CL (ad 1 21, .inl (dA (tyH 21), lenH 21, .inl (upd (fnH Y G J 21) j (v)))) H1) (o1 : ∀ q : Nat, q ≠ ad 1 21 → H1[q]? = H[q]?) : RH A D dA K ad X (up3 Y 9 0 j v) N I G J H1 := by
  refine hH.set (k := 1) (i := 21) rfl e1 o1 (fun k i h => h) (fun k' i' h' => ?_)
  match k', h' with
  | 0, _ => rw [if_neg (fun q => absurd q.1 (by decide))]; rfl
  | 1, h' =>
    by_cases hi : i' = 21
    · subst hi
      rw [if_pos ⟨rfl, rfl⟩]
      show Sum.inl (dA (tyH 21), lenH 21, Sum.inl _) = _
      refine inl_cg ?_
      funext z
      by_cases hz : z = j <;> simp [fnH, upd, up3, hz]
    · rw [if_neg (fun q => hi q.2)]
      show Sum.inl (dA (tyH i'), lenH i', Sum.inl (fnH (up3 Y 9 0 j v) G J i')) = Sum.inl (dA (tyH i'), lenH i', Sum.inl (fnH Y G J i'))
      refine inl_cg ?_
      unfold fnH
      split <;> first | rfl | exact absurd rfl hi
  | 2, _ => rw [if_neg (fun q => absurd q.1 (by decide))]; rfl
  | 3, _ => rw [if_neg (fun q => absurd q.1 (by decide))]; rfl
  | 4, _ => rw [if_neg (fun q => absurd q.1 (by decide))]; rfl
  | 5, _ => rw [if_neg (fun q => absurd q.1 (by decide))]; rfl
  | 6, _ => rw [if_neg (fun q => absurd q.1 (by decide))]; rfl
  | 7, _ => rw [if_neg (fun q => absurd q.1 (by decide))]; rfl
  | 8, _ => rw [if_neg (fun q => absurd q.1 (by decide))]; rfl
  | 9, _ => rw [if_neg (fun q => absurd q.1 (by decide))]; rfl
  | 10, _ => rw [if_neg (fun q => absurd q.1 (by decide))]; rfl
  | 11, _ => rw [if_neg (fun q => absurd q.1 (by decide))]; rfl
  | 12, _ => rw [if_neg (fun q => absurd q.1 (by decide))]; rfl
  | 13, _ => rw [if_neg (fun q => absurd q.1 (by decide))]; rfl
  | 14, _ => rw [if_neg (fun q => absurd q.1 (by decide))]; rfl
  | 15, _ => rw [if_neg (fun q => absurd q.1 (by decide))]; rfl
  | 16, _ => rw [if_neg (fun q => absurd q.1 (by decide))]; rfl
  | 17, _ => rw [if_neg (fun q => absurd q.1 (by decide))]; rfl
  | 18, _ => rw [if_neg (fun q => absurd q.1 (by decide))]; rfl
  | n + 19, h' => exact h'.elim
theorem RH.h22 (hH : RH A D dA K ad X Y N I G J H) {j : Nat} {v : Int32} (e1 : va_at D CL (ad 1 22, .inl (dA (tyH 22), lenH 22, .inl (upd (fnH Y G J 22) j (v)))) H1) (o1 : ∀ q : Nat, q ≠ ad 1 22 → H1[q]? = H[q]?) : RH A D dA K ad X (up3 Y 5 0 j v) N I G J H1 := by
  refine hH.set (k := 1) (i := 22) rfl e1 o1 (fun k i h => h) (fun k' i' h' => ?_)
  match k', h' with
  | 0, _ => rw [if_neg (fun q => absurd q.1 (by decide))]; rfl
  | 1, h' =>
    by_cases hi : i' = 22
    · subst hi
      rw [if_pos ⟨rfl, rfl⟩]
      show Sum.inl (dA (tyH 22), lenH 22, Sum.inl _) = _
      refine inl_cg ?_
      funext z
      by_cases hz : z = j <;> simp [fnH, upd, up3, hz]
    · rw [if_neg (fun q => hi q.2)]
      show Sum.inl (dA (tyH i'), lenH i', Sum.inl (fnH (up3 Y 5 0 j v) G J i')) = Sum.inl (dA (tyH i'), lenH i', Sum.inl (fnH Y G J i'))
      refine inl_cg ?_
      unfold fnH
      split <;> first | rfl | exact absurd rfl hi
  | 2, _ => rw [if_neg (fun q => absurd q.1 (by decide))]; rfl
  | 3, _ => rw [if_neg (fun q => absurd q.1 (by decide))]; rfl
  | 4, _ => rw [if_neg (fun q => absurd q.1 (by decide))]; rfl
  | 5, _ => rw [if_neg (fun q => absurd q.1 (by decide))]; rfl
  | 6, _ => rw [if_neg (fun q => absurd q.1 (by decide))]; rfl
  | 7, _ => rw [if_neg (fun q => absurd q.1 (by decide))]; rfl
  | 8, _ => rw [if_neg (fun q => absurd q.1 (by decide))]; rfl
  | 9, _ => rw [if_neg (fun q => absurd q.1 (by decide))]; rfl
  | 10, _ => rw [if_neg (fun q => absurd q.1 (by decide))]; rfl
  | 11, _ => rw [if_neg (fun q => absurd q.1 (by decide))]; rfl
  | 12, _ => rw [if_neg (fun q => absurd q.1 (by decide))]; rfl
  | 13, _ => rw [if_neg (fun q => absurd q.1 (by decide))]; rfl
  | 14, _ => rw [if_neg (fun q => absurd q.1 (by decide))]; rfl
  | 15, _ => rw [if_neg (fun q => absurd q.1 (by decide))]; rfl
  | 16, _ => rw [if_neg (fun q => absurd q.1 (by decide))]; rfl
  | 17, _ => rw [if_neg (fun q => absurd q.1 (by decide))]; rfl
  | 18, _ => rw [if_neg (fun q => absurd q.1 (by decide))]; rfl
  | n + 19, h' => exact h'.elim
theorem RH.h23 (hH : RH A D dA K ad X Y N I G J H) {j : Nat} {v : Int32} (e1 : va_at D CL (ad 1 23, .inl (dA (tyH 23), lenH 23, .inl (upd (fnH Y G J 23) j (v)))) H1) (o1 : ∀ q : Nat, q ≠ ad 1 23 → H1[q]? = H[q]?) : RH A D dA K ad X (up3 Y 6 0 j v) N I G J H1 := by
  refine hH.set (k := 1) (i := 23) rfl e1 o1 (fun k i h => h) (fun k' i' h' => ?_)
  match k', h' with
  | 0, _ => rw [if_neg (fun q => absurd q.1 (by decide))]; rfl
  | 1, h' =>
    by_cases hi : i' = 23
    · subst hi
      rw [if_pos ⟨rfl, rfl⟩]
      show Sum.inl (dA (tyH 23), lenH 23, Sum.inl _) = _
      refine inl_cg ?_
      funext z
      by_cases hz : z = j <;> simp [fnH, upd, up3, hz]
    · rw [if_neg (fun q => hi q.2)]
      show Sum.inl (dA (tyH i'), lenH i', Sum.inl (fnH (up3 Y 6 0 j v) G J i')) = Sum.inl (dA (tyH i'), lenH i', Sum.inl (fnH Y G J i'))
      refine inl_cg ?_
      unfold fnH
      split <;> first | rfl | exact absurd rfl hi
  | 2, _ => rw [if_neg (fun q => absurd q.1 (by decide))]; rfl
  | 3, _ => rw [if_neg (fun q => absurd q.1 (by decide))]; rfl
  | 4, _ => rw [if_neg (fun q => absurd q.1 (by decide))]; rfl
  | 5, _ => rw [if_neg (fun q => absurd q.1 (by decide))]; rfl
  | 6, _ => rw [if_neg (fun q => absurd q.1 (by decide))]; rfl
  | 7, _ => rw [if_neg (fun q => absurd q.1 (by decide))]; rfl
  | 8, _ => rw [if_neg (fun q => absurd q.1 (by decide))]; rfl
  | 9, _ => rw [if_neg (fun q => absurd q.1 (by decide))]; rfl
  | 10, _ => rw [if_neg (fun q => absurd q.1 (by decide))]; rfl
  | 11, _ => rw [if_neg (fun q => absurd q.1 (by decide))]; rfl
  | 12, _ => rw [if_neg (fun q => absurd q.1 (by decide))]; rfl
  | 13, _ => rw [if_neg (fun q => absurd q.1 (by decide))]; rfl
  | 14, _ => rw [if_neg (fun q => absurd q.1 (by decide))]; rfl
  | 15, _ => rw [if_neg (fun q => absurd q.1 (by decide))]; rfl
  | 16, _ => rw [if_neg (fun q => absurd q.1 (by decide))]; rfl
  | 17, _ => rw [if_neg (fun q => absurd q.1 (by decide))]; rfl
  | 18, _ => rw [if_neg (fun q => absurd q.1 (by decide))]; rfl
  | n + 19, h' => exact h'.elim
theorem RH.h24 (hH : RH A D dA K ad X Y N I G J H) {j : Nat} {v : Int32} (e1 : va_at D CL (ad 1 24, .inl (dA (tyH 24), lenH 24, .inl (upd (fnH Y G J 24) j (v)))) H1) (o1 : ∀ q : Nat, q ≠ ad 1 24 → H1[q]? = H[q]?) : RH A D dA K ad X (up3 Y 7 0 j v) N I G J H1 := by
  refine hH.set (k := 1) (i := 24) rfl e1 o1 (fun k i h => h) (fun k' i' h' => ?_)
  match k', h' with
  | 0, _ => rw [if_neg (fun q => absurd q.1 (by decide))]; rfl
  | 1, h' =>
    by_cases hi : i' = 24
    · subst hi
      rw [if_pos ⟨rfl, rfl⟩]
      show Sum.inl (dA (tyH 24), lenH 24, Sum.inl _) = _
      refine inl_cg ?_
      funext z
      by_cases hz : z = j <;> simp [fnH, upd, up3, hz]
    · rw [if_neg (fun q => hi q.2)]
      show Sum.inl (dA (tyH i'), lenH i', Sum.inl (fnH (up3 Y 7 0 j v) G J i')) = Sum.inl (dA (tyH i'), lenH i', Sum.inl (fnH Y G J i'))
      refine inl_cg ?_
      unfold fnH
      split <;> first | rfl | exact absurd rfl hi
  | 2, _ => rw [if_neg (fun q => absurd q.1 (by decide))]; rfl
  | 3, _ => rw [if_neg (fun q => absurd q.1 (by decide))]; rfl
  | 4, _ => rw [if_neg (fun q => absurd q.1 (by decide))]; rfl
  | 5, _ => rw [if_neg (fun q => absurd q.1 (by decide))]; rfl
  | 6, _ => rw [if_neg (fun q => absurd q.1 (by decide))]; rfl
  | 7, _ => rw [if_neg (fun q => absurd q.1 (by decide))]; rfl
  | 8, _ => rw [if_neg (fun q => absurd q.1 (by decide))]; rfl
  | 9, _ => rw [if_neg (fun q => absurd q.1 (by decide))]; rfl
  | 10, _ => rw [if_neg (fun q => absurd q.1 (by decide))]; rfl
  | 11, _ => rw [if_neg (fun q => absurd q.1 (by decide))]; rfl
  | 12, _ => rw [if_neg (fun q => absurd q.1 (by decide))]; rfl
  | 13, _ => rw [if_neg (fun q => absurd q.1 (by decide))]; rfl
  | 14, _ => rw [if_neg (fun q => absurd q.1 (by decide))]; rfl
  | 15, _ => rw [if_neg (fun q => absurd q.1 (by decide))]; rfl
  | 16, _ => rw [if_neg (fun q => absurd q.1 (by decide))]; rfl
  | 17, _ => rw [if_neg (fun q => absurd q.1 (by decide))]; rfl
  | 18, _ => rw [if_neg (fun q => absurd q.1 (by decide))]; rfl
  | n + 19, h' => exact h'.elim
theorem RH.c3 (hH : RH A D dA K ad X Y N I G J H) {c : Nat} (hc : c < N 3) {v : Int32} (e1 : va_at D CL (ad 6 c, .inr (2, (fC ad Y G J c).set 3 (.int v))) H1) (o1 : ∀ q : Nat, q ≠ ad 6 c → H1[q]? = H[q]?) : RH A D dA K ad X (up3 Y 0 c 0 v) N I G J H1 := by
  refine hH.set (k := 6) (i := c) hc e1 o1 (fun k i h => h) (fun k' i' h' => ?_)
  match k', h' with
  | 0, _ => rw [if_neg (fun q => absurd q.1 (by decide))]; rfl
  | 1, _ => rw [if_neg (fun q => absurd q.1 (by decide))]; rfl
  | 2, _ => rw [if_neg (fun q => absurd q.1 (by decide))]; rfl
  | 3, _ => rw [if_neg (fun q => absurd q.1 (by decide))]; rfl
  | 4, _ => rw [if_neg (fun q => absurd q.1 (by decide))]; rfl
  | 5, _ => rw [if_neg (fun q => absurd q.1 (by decide))]; rfl
  | 6, h' =>
    by_cases hi : i' = c
    · subst hi
      rw [if_pos ⟨rfl, rfl⟩]
      simp [EH, fC, up3]
    · rw [if_neg (fun q => hi q.2)]
      simp [EH, fC, up3, hi]
  | 7, _ => rw [if_neg (fun q => absurd q.1 (by decide))]; rfl
  | 8, _ => rw [if_neg (fun q => absurd q.1 (by decide))]; rfl
  | 9, _ => rw [if_neg (fun q => absurd q.1 (by decide))]; rfl
  | 10, _ => rw [if_neg (fun q => absurd q.1 (by decide))]; rfl
  | 11, _ => rw [if_neg (fun q => absurd q.1 (by decide))]; rfl
  | 12, _ => rw [if_neg (fun q => absurd q.1 (by decide))]; rfl
  | 13, _ => rw [if_neg (fun q => absurd q.1 (by decide))]; rfl
  | 14, _ => rw [if_neg (fun q => absurd q.1 (by decide))]; rfl
  | 15, _ => rw [if_neg (fun q => absurd q.1 (by decide))]; rfl
  | 16, _ => rw [if_neg (fun q => absurd q.1 (by decide))]; rfl
  | 17, _ => rw [if_neg (fun q => absurd q.1 (by decide))]; rfl
  | 18, _ => rw [if_neg (fun q => absurd q.1 (by decide))]; rfl
  | n + 19, h' => exact h'.elim
theorem RH.c4 (hH : RH A D dA K ad X Y N I G J H) {c : Nat} (hc : c < N 3) {v : Nat} (e1 : va_at D CL (ad 6 c, .inr (2, (fC ad Y G J c).set 4 (.int (nI v)))) H1) (o1 : ∀ q : Nat, q ≠ ad 6 c → H1[q]? = H[q]?) : RH A D dA K ad X Y N I (up2 G 7 c v) J H1 := by
  refine hH.set (k := 6) (i := c) hc e1 o1 (fun k i h => h) (fun k' i' h' => ?_)
  match k', h' with
  | 0, _ => rw [if_neg (fun q => absurd q.1 (by decide))]; rfl
  | 1, _ => rw [if_neg (fun q => absurd q.1 (by decide))]; rfl
  | 2, _ => rw [if_neg (fun q => absurd q.1 (by decide))]; rfl
  | 3, _ => rw [if_neg (fun q => absurd q.1 (by decide))]; rfl
  | 4, _ => rw [if_neg (fun q => absurd q.1 (by decide))]; rfl
  | 5, _ => rw [if_neg (fun q => absurd q.1 (by decide))]; rfl
  | 6, h' =>
    by_cases hi : i' = c
    · subst hi
      rw [if_pos ⟨rfl, rfl⟩]
      simp [EH, fC, up2]
    · rw [if_neg (fun q => hi q.2)]
      simp [EH, fC, up2, hi]
  | 7, _ => rw [if_neg (fun q => absurd q.1 (by decide))]; rfl
  | 8, _ => rw [if_neg (fun q => absurd q.1 (by decide))]; rfl
  | 9, _ => rw [if_neg (fun q => absurd q.1 (by decide))]; rfl
  | 10, _ => rw [if_neg (fun q => absurd q.1 (by decide))]; rfl
  | 11, _ => rw [if_neg (fun q => absurd q.1 (by decide))]; rfl
  | 12, _ => rw [if_neg (fun q => absurd q.1 (by decide))]; rfl
  | 13, _ => rw [if_neg (fun q => absurd q.1 (by decide))]; rfl
  | 14, _ => rw [if_neg (fun q => absurd q.1 (by decide))]; rfl
  | 15, _ => rw [if_neg (fun q => absurd q.1 (by decide))]; rfl
  | 16, _ => rw [if_neg (fun q => absurd q.1 (by decide))]; rfl
  | 17, _ => rw [if_neg (fun q => absurd q.1 (by decide))]; rfl
  | 18, _ => rw [if_neg (fun q => absurd q.1 (by decide))]; rfl
  | n + 19, h' => exact h'.elim
theorem RH.c5 (hH : RH A D dA K ad X Y N I G J H) {c : Nat} (hc : c < N 3) {v : Nat} (e1 : va_at D CL (ad 6 c, .inr (2, (fC ad Y G J c).set 5 (.int (nI v)))) H1) (o1 : ∀ q : Nat, q ≠ ad 6 c → H1[q]? = H[q]?) : RH A D dA K ad X Y N I (up2 G 8 c v) J H1 := by
  refine hH.set (k := 6) (i := c) hc e1 o1 (fun k i h => h) (fun k' i' h' => ?_)
  match k', h' with
  | 0, _ => rw [if_neg (fun q => absurd q.1 (by decide))]; rfl
  | 1, _ => rw [if_neg (fun q => absurd q.1 (by decide))]; rfl
  | 2, _ => rw [if_neg (fun q => absurd q.1 (by decide))]; rfl
  | 3, _ => rw [if_neg (fun q => absurd q.1 (by decide))]; rfl
  | 4, _ => rw [if_neg (fun q => absurd q.1 (by decide))]; rfl
  | 5, _ => rw [if_neg (fun q => absurd q.1 (by decide))]; rfl
  | 6, h' =>
    by_cases hi : i' = c
    · subst hi
      rw [if_pos ⟨rfl, rfl⟩]
      simp [EH, fC, up2]
    · rw [if_neg (fun q => hi q.2)]
      simp [EH, fC, up2, hi]
  | 7, _ => rw [if_neg (fun q => absurd q.1 (by decide))]; rfl
  | 8, _ => rw [if_neg (fun q => absurd q.1 (by decide))]; rfl
  | 9, _ => rw [if_neg (fun q => absurd q.1 (by decide))]; rfl
  | 10, _ => rw [if_neg (fun q => absurd q.1 (by decide))]; rfl
  | 11, _ => rw [if_neg (fun q => absurd q.1 (by decide))]; rfl
  | 12, _ => rw [if_neg (fun q => absurd q.1 (by decide))]; rfl
  | 13, _ => rw [if_neg (fun q => absurd q.1 (by decide))]; rfl
  | 14, _ => rw [if_neg (fun q => absurd q.1 (by decide))]; rfl
  | 15, _ => rw [if_neg (fun q => absurd q.1 (by decide))]; rfl
  | 16, _ => rw [if_neg (fun q => absurd q.1 (by decide))]; rfl
  | 17, _ => rw [if_neg (fun q => absurd q.1 (by decide))]; rfl
  | 18, _ => rw [if_neg (fun q => absurd q.1 (by decide))]; rfl
  | n + 19, h' => exact h'.elim
theorem RH.c6 (hH : RH A D dA K ad X Y N I G J H) {c : Nat} (hc : c < N 3) {v : Nat} (e1 : va_at D CL (ad 6 c, .inr (2, (fC ad Y G J c).set 6 (.int (nI v)))) H1) (o1 : ∀ q : Nat, q ≠ ad 6 c → H1[q]? = H[q]?) : RH A D dA K ad X Y N I (up2 G 9 c v) J H1 := by
  refine hH.set (k := 6) (i := c) hc e1 o1 (fun k i h => h) (fun k' i' h' => ?_)
  match k', h' with
  | 0, _ => rw [if_neg (fun q => absurd q.1 (by decide))]; rfl
  | 1, _ => rw [if_neg (fun q => absurd q.1 (by decide))]; rfl
  | 2, _ => rw [if_neg (fun q => absurd q.1 (by decide))]; rfl
  | 3, _ => rw [if_neg (fun q => absurd q.1 (by decide))]; rfl
  | 4, _ => rw [if_neg (fun q => absurd q.1 (by decide))]; rfl
  | 5, _ => rw [if_neg (fun q => absurd q.1 (by decide))]; rfl
  | 6, h' =>
    by_cases hi : i' = c
    · subst hi
      rw [if_pos ⟨rfl, rfl⟩]
      simp [EH, fC, up2]
    · rw [if_neg (fun q => hi q.2)]
      simp [EH, fC, up2, hi]
  | 7, _ => rw [if_neg (fun q => absurd q.1 (by decide))]; rfl
  | 8, _ => rw [if_neg (fun q => absurd q.1 (by decide))]; rfl
  | 9, _ => rw [if_neg (fun q => absurd q.1 (by decide))]; rfl
  | 10, _ => rw [if_neg (fun q => absurd q.1 (by decide))]; rfl
  | 11, _ => rw [if_neg (fun q => absurd q.1 (by decide))]; rfl
  | 12, _ => rw [if_neg (fun q => absurd q.1 (by decide))]; rfl
  | 13, _ => rw [if_neg (fun q => absurd q.1 (by decide))]; rfl
  | 14, _ => rw [if_neg (fun q => absurd q.1 (by decide))]; rfl
  | 15, _ => rw [if_neg (fun q => absurd q.1 (by decide))]; rfl
  | 16, _ => rw [if_neg (fun q => absurd q.1 (by decide))]; rfl
  | 17, _ => rw [if_neg (fun q => absurd q.1 (by decide))]; rfl
  | 18, _ => rw [if_neg (fun q => absurd q.1 (by decide))]; rfl
  | n + 19, h' => exact h'.elim
theorem RH.c7 (hH : RH A D dA K ad X Y N I G J H) {c : Nat} (hc : c < N 3) {v : Int32} (e1 : va_at D CL (ad 6 c, .inr (2, (fC ad Y G J c).set 7 (.int v))) H1) (o1 : ∀ q : Nat, q ≠ ad 6 c → H1[q]? = H[q]?) : RH A D dA K ad X Y N I G (up2 J 10 c v) H1 := by
  refine hH.set (k := 6) (i := c) hc e1 o1 (fun k i h => h) (fun k' i' h' => ?_)
  match k', h' with
  | 0, _ => rw [if_neg (fun q => absurd q.1 (by decide))]; rfl
  | 1, _ => rw [if_neg (fun q => absurd q.1 (by decide))]; rfl
  | 2, _ => rw [if_neg (fun q => absurd q.1 (by decide))]; rfl
  | 3, _ => rw [if_neg (fun q => absurd q.1 (by decide))]; rfl
  | 4, _ => rw [if_neg (fun q => absurd q.1 (by decide))]; rfl
  | 5, _ => rw [if_neg (fun q => absurd q.1 (by decide))]; rfl
  | 6, h' =>
    by_cases hi : i' = c
    · subst hi
      rw [if_pos ⟨rfl, rfl⟩]
      simp [EH, fC, up2]
    · rw [if_neg (fun q => hi q.2)]
      simp [EH, fC, up2, hi]
  | 7, _ => rw [if_neg (fun q => absurd q.1 (by decide))]; rfl
  | 8, _ => rw [if_neg (fun q => absurd q.1 (by decide))]; rfl
  | 9, _ => rw [if_neg (fun q => absurd q.1 (by decide))]; rfl
  | 10, _ => rw [if_neg (fun q => absurd q.1 (by decide))]; rfl
  | 11, _ => rw [if_neg (fun q => absurd q.1 (by decide))]; rfl
  | 12, _ => rw [if_neg (fun q => absurd q.1 (by decide))]; rfl
  | 13, _ => rw [if_neg (fun q => absurd q.1 (by decide))]; rfl
  | 14, _ => rw [if_neg (fun q => absurd q.1 (by decide))]; rfl
  | 15, _ => rw [if_neg (fun q => absurd q.1 (by decide))]; rfl
  | 16, _ => rw [if_neg (fun q => absurd q.1 (by decide))]; rfl
  | 17, _ => rw [if_neg (fun q => absurd q.1 (by decide))]; rfl
  | 18, _ => rw [if_neg (fun q => absurd q.1 (by decide))]; rfl
  | n + 19, h' => exact h'.elim
theorem RH.c8 (hH : RH A D dA K ad X Y N I G J H) {c : Nat} (hc : c < N 3) {v : Int32} (e1 : va_at D CL (ad 6 c, .inr (2, (fC ad Y G J c).set 8 (.int v))) H1) (o1 : ∀ q : Nat, q ≠ ad 6 c → H1[q]? = H[q]?) : RH A D dA K ad X Y N I G (up2 J 11 c v) H1 := by
  refine hH.set (k := 6) (i := c) hc e1 o1 (fun k i h => h) (fun k' i' h' => ?_)
  match k', h' with
  | 0, _ => rw [if_neg (fun q => absurd q.1 (by decide))]; rfl
  | 1, _ => rw [if_neg (fun q => absurd q.1 (by decide))]; rfl
  | 2, _ => rw [if_neg (fun q => absurd q.1 (by decide))]; rfl
  | 3, _ => rw [if_neg (fun q => absurd q.1 (by decide))]; rfl
  | 4, _ => rw [if_neg (fun q => absurd q.1 (by decide))]; rfl
  | 5, _ => rw [if_neg (fun q => absurd q.1 (by decide))]; rfl
  | 6, h' =>
    by_cases hi : i' = c
    · subst hi
      rw [if_pos ⟨rfl, rfl⟩]
      simp [EH, fC, up2]
    · rw [if_neg (fun q => hi q.2)]
      simp [EH, fC, up2, hi]
  | 7, _ => rw [if_neg (fun q => absurd q.1 (by decide))]; rfl
  | 8, _ => rw [if_neg (fun q => absurd q.1 (by decide))]; rfl
  | 9, _ => rw [if_neg (fun q => absurd q.1 (by decide))]; rfl
  | 10, _ => rw [if_neg (fun q => absurd q.1 (by decide))]; rfl
  | 11, _ => rw [if_neg (fun q => absurd q.1 (by decide))]; rfl
  | 12, _ => rw [if_neg (fun q => absurd q.1 (by decide))]; rfl
  | 13, _ => rw [if_neg (fun q => absurd q.1 (by decide))]; rfl
  | 14, _ => rw [if_neg (fun q => absurd q.1 (by decide))]; rfl
  | 15, _ => rw [if_neg (fun q => absurd q.1 (by decide))]; rfl
  | 16, _ => rw [if_neg (fun q => absurd q.1 (by decide))]; rfl
  | 17, _ => rw [if_neg (fun q => absurd q.1 (by decide))]; rfl
  | 18, _ => rw [if_neg (fun q => absurd q.1 (by decide))]; rfl
  | n + 19, h' => exact h'.elim
theorem RH.c9 (hH : RH A D dA K ad X Y N I G J H) {c : Nat} (hc : c < N 3) {v : Nat} (e1 : va_at D CL (ad 6 c, .inr (2, (fC ad Y G J c).set 9 (.int (nI v)))) H1) (o1 : ∀ q : Nat, q ≠ ad 6 c → H1[q]? = H[q]?) : RH A D dA K ad X Y N I (up2 G 6 c v) J H1 := by
  refine hH.set (k := 6) (i := c) hc e1 o1 (fun k i h => h) (fun k' i' h' => ?_)
  match k', h' with
  | 0, _ => rw [if_neg (fun q => absurd q.1 (by decide))]; rfl
  | 1, _ => rw [if_neg (fun q => absurd q.1 (by decide))]; rfl
  | 2, _ => rw [if_neg (fun q => absurd q.1 (by decide))]; rfl
  | 3, _ => rw [if_neg (fun q => absurd q.1 (by decide))]; rfl
  | 4, _ => rw [if_neg (fun q => absurd q.1 (by decide))]; rfl
  | 5, _ => rw [if_neg (fun q => absurd q.1 (by decide))]; rfl
  | 6, h' =>
    by_cases hi : i' = c
    · subst hi
      rw [if_pos ⟨rfl, rfl⟩]
      simp [EH, fC, up2]
    · rw [if_neg (fun q => hi q.2)]
      simp [EH, fC, up2, hi]
  | 7, _ => rw [if_neg (fun q => absurd q.1 (by decide))]; rfl
  | 8, _ => rw [if_neg (fun q => absurd q.1 (by decide))]; rfl
  | 9, _ => rw [if_neg (fun q => absurd q.1 (by decide))]; rfl
  | 10, _ => rw [if_neg (fun q => absurd q.1 (by decide))]; rfl
  | 11, _ => rw [if_neg (fun q => absurd q.1 (by decide))]; rfl
  | 12, _ => rw [if_neg (fun q => absurd q.1 (by decide))]; rfl
  | 13, _ => rw [if_neg (fun q => absurd q.1 (by decide))]; rfl
  | 14, _ => rw [if_neg (fun q => absurd q.1 (by decide))]; rfl
  | 15, _ => rw [if_neg (fun q => absurd q.1 (by decide))]; rfl
  | 16, _ => rw [if_neg (fun q => absurd q.1 (by decide))]; rfl
  | 17, _ => rw [if_neg (fun q => absurd q.1 (by decide))]; rfl
  | 18, _ => rw [if_neg (fun q => absurd q.1 (by decide))]; rfl
  | n + 19, h' => exact h'.elim
theorem RH.c10 (hH : RH A D dA K ad X Y N I G J H) {c : Nat} (hc : c < N 3) {v : Int32} (e1 : va_at D CL (ad 6 c, .inr (2, (fC ad Y G J c).set 10 (.int v))) H1) (o1 : ∀ q : Nat, q ≠ ad 6 c → H1[q]? = H[q]?) : RH A D dA K ad X Y N I G (up2 J 13 c v) H1 := by
  refine hH.set (k := 6) (i := c) hc e1 o1 (fun k i h => h) (fun k' i' h' => ?_)
  match k', h' with
  | 0, _ => rw [if_neg (fun q => absurd q.1 (by decide))]; rfl
  | 1, _ => rw [if_neg (fun q => absurd q.1 (by decide))]; rfl
  | 2, _ => rw [if_neg (fun q => absurd q.1 (by decide))]; rfl
  | 3, _ => rw [if_neg (fun q => absurd q.1 (by decide))]; rfl
  | 4, _ => rw [if_neg (fun q => absurd q.1 (by decide))]; rfl
  | 5, _ => rw [if_neg (fun q => absurd q.1 (by decide))]; rfl
  | 6, h' =>
    by_cases hi : i' = c
    · subst hi
      rw [if_pos ⟨rfl, rfl⟩]
      simp [EH, fC, up2]
    · rw [if_neg (fun q => hi q.2)]
      simp [EH, fC, up2, hi]
  | 7, _ => rw [if_neg (fun q => absurd q.1 (by decide))]; rfl
  | 8, _ => rw [if_neg (fun q => absurd q.1 (by decide))]; rfl
  | 9, _ => rw [if_neg (fun q => absurd q.1 (by decide))]; rfl
  | 10, _ => rw [if_neg (fun q => absurd q.1 (by decide))]; rfl
  | 11, _ => rw [if_neg (fun q => absurd q.1 (by decide))]; rfl
  | 12, _ => rw [if_neg (fun q => absurd q.1 (by decide))]; rfl
  | 13, _ => rw [if_neg (fun q => absurd q.1 (by decide))]; rfl
  | 14, _ => rw [if_neg (fun q => absurd q.1 (by decide))]; rfl
  | 15, _ => rw [if_neg (fun q => absurd q.1 (by decide))]; rfl
  | 16, _ => rw [if_neg (fun q => absurd q.1 (by decide))]; rfl
  | 17, _ => rw [if_neg (fun q => absurd q.1 (by decide))]; rfl
  | 18, _ => rw [if_neg (fun q => absurd q.1 (by decide))]; rfl
  | n + 19, h' => exact h'.elim
theorem RH.gram (hH : RH A D dA K ad X Y N I G J H) {c : Nat} (hc : c < N 3) {j v : Nat} (hj : j < 20) (e1 : va_at D CL (ad 7 c, .inl (dA 0, 20, .inl (upd (tr20 (fun l => G 4 (20 * c + l))) j (nI v)))) H1) (o1 : ∀ q : Nat, q ≠ ad 7 c → H1[q]? = H[q]?) : RH A D dA K ad X Y N I (up2 G 4 (20 * c + j) v) J H1 := by
  refine hH.set (k := 7) (i := c) hc e1 o1 (fun k i h => h) (fun k' i' h' => ?_)
  match k', h' with
  | 0, _ => rw [if_neg (fun q => absurd q.1 (by decide))]; rfl
  | 1, _ => rw [if_neg (fun q => absurd q.1 (by decide))]; rfl
  | 2, _ => rw [if_neg (fun q => absurd q.1 (by decide))]; rfl
  | 3, _ => rw [if_neg (fun q => absurd q.1 (by decide))]; rfl
  | 4, _ => rw [if_neg (fun q => absurd q.1 (by decide))]; rfl
  | 5, _ => rw [if_neg (fun q => absurd q.1 (by decide))]; rfl
  | 6, _ => rw [if_neg (fun q => absurd q.1 (by decide))]; rfl
  | 7, h' =>
    by_cases hi : i' = c
    · subst hi
      rw [if_pos ⟨rfl, rfl⟩]
      show Sum.inl (dA 0, 20, Sum.inl (tr20 _)) = _
      refine inl_cg ?_
      funext z
      by_cases hz : z = j
      · subst hz; simp [tr20, upd, up2, hj]
      · by_cases hz2 : z < 20
        · simp [tr20, upd, up2, hz, hz2]
        · simp [tr20, upd, hz, hz2]
    · rw [if_neg (fun q => hi q.2)]
      show Sum.inl (dA 0, 20, Sum.inl (tr20 _)) = Sum.inl (dA 0, 20, Sum.inl (tr20 _))
      refine inl_cg ?_
      funext z
      by_cases hz2 : z < 20
      · simp [tr20, up2, hz2, show ¬ 20 * i' + z = 20 * c + j by omega]
      · simp [tr20, hz2]
  | 8, _ => rw [if_neg (fun q => absurd q.1 (by decide))]; rfl
  | 9, _ => rw [if_neg (fun q => absurd q.1 (by decide))]; rfl
  | 10, _ => rw [if_neg (fun q => absurd q.1 (by decide))]; rfl
  | 11, _ => rw [if_neg (fun q => absurd q.1 (by decide))]; rfl
  | 12, _ => rw [if_neg (fun q => absurd q.1 (by decide))]; rfl
  | 13, _ => rw [if_neg (fun q => absurd q.1 (by decide))]; rfl
  | 14, _ => rw [if_neg (fun q => absurd q.1 (by decide))]; rfl
  | 15, _ => rw [if_neg (fun q => absurd q.1 (by decide))]; rfl
  | 16, _ => rw [if_neg (fun q => absurd q.1 (by decide))]; rfl
  | 17, _ => rw [if_neg (fun q => absurd q.1 (by decide))]; rfl
  | 18, _ => rw [if_neg (fun q => absurd q.1 (by decide))]; rfl
  | n + 19, h' => exact h'.elim
theorem RH.rate (hH : RH A D dA K ad X Y N I G J H) {c : Nat} (hc : c < N 3) {j : Nat} {v : Int32} (e1 : va_at D CL (ad 8 c, .inl (dA 1, 600, .inl (upd (Y 1 c) j v))) H1) (o1 : ∀ q : Nat, q ≠ ad 8 c → H1[q]? = H[q]?) : RH A D dA K ad X (up3 Y 1 c j v) N I G J H1 := by
  refine hH.set (k := 8) (i := c) hc e1 o1 (fun k i h => h) (fun k' i' h' => ?_)
  match k', h' with
  | 0, _ => rw [if_neg (fun q => absurd q.1 (by decide))]; rfl
  | 1, _ => rw [if_neg (fun q => absurd q.1 (by decide))]; rfl
  | 2, _ => rw [if_neg (fun q => absurd q.1 (by decide))]; rfl
  | 3, _ => rw [if_neg (fun q => absurd q.1 (by decide))]; rfl
  | 4, _ => rw [if_neg (fun q => absurd q.1 (by decide))]; rfl
  | 5, _ => rw [if_neg (fun q => absurd q.1 (by decide))]; rfl
  | 6, _ => rw [if_neg (fun q => absurd q.1 (by decide))]; rfl
  | 7, _ => rw [if_neg (fun q => absurd q.1 (by decide))]; rfl
  | 8, h' =>
    by_cases hi : i' = c
    · subst hi
      rw [if_pos ⟨rfl, rfl⟩]
      show Sum.inl (dA 1, 600, Sum.inl _) = _
      refine inl_cg ?_
      funext z
      by_cases hz : z = j <;> simp [upd, up3, hz]
    · rw [if_neg (fun q => hi q.2)]
      show Sum.inl (dA 1, 600, Sum.inl _) = Sum.inl (dA 1, 600, Sum.inl _)
      refine inl_cg ?_
      funext z
      simp [up3, hi]
  | 9, _ => rw [if_neg (fun q => absurd q.1 (by decide))]; rfl
  | 10, _ => rw [if_neg (fun q => absurd q.1 (by decide))]; rfl
  | 11, _ => rw [if_neg (fun q => absurd q.1 (by decide))]; rfl
  | 12, _ => rw [if_neg (fun q => absurd q.1 (by decide))]; rfl
  | 13, _ => rw [if_neg (fun q => absurd q.1 (by decide))]; rfl
  | 14, _ => rw [if_neg (fun q => absurd q.1 (by decide))]; rfl
  | 15, _ => rw [if_neg (fun q => absurd q.1 (by decide))]; rfl
  | 16, _ => rw [if_neg (fun q => absurd q.1 (by decide))]; rfl
  | 17, _ => rw [if_neg (fun q => absurd q.1 (by decide))]; rfl
  | 18, _ => rw [if_neg (fun q => absurd q.1 (by decide))]; rfl
  | n + 19, h' => exact h'.elim
theorem RH.row (hH : RH A D dA K ad X Y N I G J H) {c : Nat} (hc : c < 3 ∧ X 1 c = 1) {j : Nat} {v : Int32} (e1 : va_at D CL (ad 3 c, .inl (dA 1, 600, .inl (upd (Y 2 c) j v))) H1) (o1 : ∀ q : Nat, q ≠ ad 3 c → H1[q]? = H[q]?) : RH A D dA K ad X (up3 Y 2 c j v) N I G J H1 := by
  refine hH.set (k := 3) (i := c) hc e1 o1 (fun k i h => h) (fun k' i' h' => ?_)
  match k', h' with
  | 0, _ => rw [if_neg (fun q => absurd q.1 (by decide))]; rfl
  | 1, _ => rw [if_neg (fun q => absurd q.1 (by decide))]; rfl
  | 2, _ => rw [if_neg (fun q => absurd q.1 (by decide))]; rfl
  | 3, h' =>
    by_cases hi : i' = c
    · subst hi
      rw [if_pos ⟨rfl, rfl⟩]
      show Sum.inl (dA 1, 600, Sum.inl _) = _
      refine inl_cg ?_
      funext z
      by_cases hz : z = j <;> simp [upd, up3, hz]
    · rw [if_neg (fun q => hi q.2)]
      show Sum.inl (dA 1, 600, Sum.inl _) = Sum.inl (dA 1, 600, Sum.inl _)
      refine inl_cg ?_
      funext z
      simp [up3, hi]
  | 4, _ => rw [if_neg (fun q => absurd q.1 (by decide))]; rfl
  | 5, _ => rw [if_neg (fun q => absurd q.1 (by decide))]; rfl
  | 6, _ => rw [if_neg (fun q => absurd q.1 (by decide))]; rfl
  | 7, _ => rw [if_neg (fun q => absurd q.1 (by decide))]; rfl
  | 8, _ => rw [if_neg (fun q => absurd q.1 (by decide))]; rfl
  | 9, _ => rw [if_neg (fun q => absurd q.1 (by decide))]; rfl
  | 10, _ => rw [if_neg (fun q => absurd q.1 (by decide))]; rfl
  | 11, _ => rw [if_neg (fun q => absurd q.1 (by decide))]; rfl
  | 12, _ => rw [if_neg (fun q => absurd q.1 (by decide))]; rfl
  | 13, _ => rw [if_neg (fun q => absurd q.1 (by decide))]; rfl
  | 14, _ => rw [if_neg (fun q => absurd q.1 (by decide))]; rfl
  | 15, _ => rw [if_neg (fun q => absurd q.1 (by decide))]; rfl
  | 16, _ => rw [if_neg (fun q => absurd q.1 (by decide))]; rfl
  | 17, _ => rw [if_neg (fun q => absurd q.1 (by decide))]; rfl
  | 18, _ => rw [if_neg (fun q => absurd q.1 (by decide))]; rfl
  | n + 19, h' => exact h'.elim
end RHS
