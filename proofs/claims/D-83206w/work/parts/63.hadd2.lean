set_option maxRecDepth 100000
theorem L1 {P : Nat → Prop} {c1 : Nat × va_E} (h1 : P c1.1) : ∀ (j : Nat) (q : Nat × va_E), [c1][j]? = some q → P q.1 := by
  intro j q h
  match j, h with
  | 0, h => cases h; exact h1
  | n + 1, h => cases h
theorem L2 {P : Nat → Prop} {c1 c2 : Nat × va_E} (h1 : P c1.1) (h2 : P c2.1) : ∀ (j : Nat) (q : Nat × va_E), [c1, c2][j]? = some q → P q.1 := by
  intro j q h
  match j, h with
  | 0, h => cases h; exact h1
  | 1, h => cases h; exact h2
  | n + 2, h => cases h
theorem L3 {P : Nat → Prop} {c1 c2 c3 : Nat × va_E} (h1 : P c1.1) (h2 : P c2.1) (h3 : P c3.1) : ∀ (j : Nat) (q : Nat × va_E), [c1, c2, c3][j]? = some q → P q.1 := by
  intro j q h
  match j, h with
  | 0, h => cases h; exact h1
  | 1, h => cases h; exact h2
  | 2, h => cases h; exact h3
  | n + 3, h => cases h
theorem va_D1 {c1 : Nat × va_E} : va_D nT [c1] := by
  refine ⟨fun i j p q hi hj _ => ?_, fun _ _ _ => trivial⟩
  match i, j, hi, hj with
  | 0, 0, _, _ => rfl
  | 0, n + 1, _, hj => cases hj
  | n + 1, _, hi, _ => cases hi
theorem va_D2 {c1 c2 : Nat × va_E} (h : c1.1 ≠ c2.1) : va_D nT [c1, c2] := by
  refine ⟨fun i j p q hi hj e => ?_, fun _ _ _ => trivial⟩
  match i, j, hi, hj with
  | 0, 0, _, _ => rfl
  | 1, 1, _, _ => rfl
  | 0, 1, hi, hj => cases hi; cases hj; exact absurd e h
  | 1, 0, hi, hj => cases hi; cases hj; exact absurd e.symm h
  | 0, n + 2, _, hj => cases hj
  | 1, n + 2, _, hj => cases hj
  | n + 2, _, hi, _ => cases hi
theorem va_D3 {c1 c2 c3 : Nat × va_E} (h12 : c1.1 ≠ c2.1) (h13 : c1.1 ≠ c3.1) (h23 : c2.1 ≠ c3.1) : va_D nT [c1, c2, c3] := by
  refine ⟨fun i j p q hi hj e => ?_, fun _ _ _ => trivial⟩
  match i, j, hi, hj with
  | 0, 0, _, _ => rfl
  | 1, 1, _, _ => rfl
  | 2, 2, _, _ => rfl
  | 0, 1, hi, hj => cases hi; cases hj; exact absurd e h12
  | 0, 2, hi, hj => cases hi; cases hj; exact absurd e h13
  | 1, 2, hi, hj => cases hi; cases hj; exact absurd e h23
  | 1, 0, hi, hj => cases hi; cases hj; exact absurd e.symm h12
  | 2, 0, hi, hj => cases hi; cases hj; exact absurd e.symm h13
  | 2, 1, hi, hj => cases hi; cases hj; exact absurd e.symm h23
  | 0, n + 3, _, hj => cases hj
  | 1, n + 3, _, hj => cases hj
  | 2, n + 3, _, hj => cases hj
  | n + 3, _, hi, _ => cases hi
theorem va_AA {A : Nat → Prop} {ws : va_W} {sz sz0 : Nat} (h : ∀ (j : Nat) (q : Nat × va_E), ws[j]? = some q → A q.1) (hA : ∀ q, sz0 ≤ q → A q) (hz : sz0 ≤ sz) : ∀ q, va_A ws sz q → A q := by
  intro q hq
  rcases hq with ⟨k, e, hk⟩ | hq
  · exact h k _ hk
  · exact hA q (Nat.le_trans hz hq)
/-- a new address of a call -/
theorem va_ge {ws0 ws1 : va_W} {sz : Nat} (hD : va_D (va_A ws0 sz) ws1) (k : Nat) {u : Nat} {e : va_E} (hk : ws1[k]? = some (u, e)) (h : ∀ (j : Nat) (q : Nat × va_E), ws0[j]? = some q → q.1 ≠ u) : sz ≤ u := by
  rcases hD.2 k _ hk with ⟨j, e', hj⟩ | h1
  · exact absurd rfl (h j _ hj)
  · exact h1
theorem va_ne {A : Nat → Prop} {ws1 : va_W} (hD : va_D A ws1) (i k : Nat) {u v : Nat} {e e' : va_E} (hk : ws1[k]? = some (u, e)) (hi : ws1[i]? = some (v, e')) (hik : i ≠ k) : v ≠ u := fun q => hik (hD.1 i k _ _ hi hk q)
section RHP
variable {A : Nat → Prop} {D : va_G} {dA : Nat → ClassId} {K : Nat → Nat} {ad X : Nat → Nat → Nat} {Y : Nat → Nat → Nat → Int32} {N : Nat → Nat} {I : Nat → Int32} {G : Nat → Nat → Nat} {J : Nat → Nat → Int32} {H H1 : Heap} {ws0 : va_W}
theorem notA {q : Nat} (hlt : q < H.size) (h : ∀ (j : Nat) (x : Nat × va_E), ws0[j]? = some x → x.1 ≠ q) : ¬ va_A ws0 H.size q := fun hq => by
  rcases hq with ⟨k, e, hk⟩ | hq
  · exact h k _ hk rfl
  · omega
theorem RH.keptP (hH : RH A D dA K ad X Y N I G J H) (hk : ∀ q : Nat, q < H.size → ¬ va_A ws0 H.size q → H1[q]? = H[q]?) (hw : ∀ (j : Nat) (q : Nat × va_E), ws0[j]? = some q → Fr ad N G X q.1) : RH A D dA K ad X Y N I G J H1 :=
  hH.kept (fun k i h => hk _ (hH.lt h) (notA (hH.lt h) (fun j x hx e => hw j x hx k i h e.symm)))
theorem RH.others (hH : RH A D dA K ad X Y N I G J H) (hk : ∀ q : Nat, q < H.size → ¬ va_A ws0 H.size q → H1[q]? = H[q]?) {l : Nat} (hl : l < 4) (hw : ∀ (j : Nat) (q : Nat × va_E), ws0[j]? = some q → q.1 = ad 4 l ∨ (X 0 l ≠ 0 ∧ q.1 = ad 5 l) ∨ Fr ad N G X q.1) : ∀ k i, LH N G X k i → ¬ (k = 4 ∧ i = l) → ¬ (k = 5 ∧ i = l) → H1[ad k i]? = H[ad k i]? := by
  intro k i h h4 h5
  refine hk _ (hH.lt h) (notA (hH.lt h) (fun j x hx e => ?_))
  rcases hw j x hx with q | q | q
  · exact h4 (hH.2.1 k i 4 l h hl (by rw [← e]; exact q))
  · exact h5 (hH.2.1 k i 5 l h ⟨hl, q.1⟩ (by rw [← e]; exact q.2))
  · exact q k i h e.symm
theorem va_at.keptP {cl : List vw_C} {g : Nat} {e : va_E} (h : va_at D cl (g, e) H) (hk : ∀ q : Nat, q < H.size → ¬ va_A ws0 H.size q → H1[q]? = H[q]?) (hw : ∀ (j : Nat) (q : Nat × va_E), ws0[j]? = some q → q.1 ≠ g) : va_at D cl (g, e) H1 := h.kept (hk _ (va_at_lt h) (notA (va_at_lt h) hw))
theorem Fr.ne {q k i : Nat} (h : Fr ad N G X q) (hl : LH N G X k i) : ad k i ≠ q := h k i hl
end RHP
theorem ltH_up {ad ad1 : Nat → Nat → Nat} {k n q : Nat} (h1 : ad1 k n = q) (h2 : ∀ i, i ≠ n → ad1 k i = ad k i) : va_up (ltH ad k n 0) n (some q) = ltH ad1 k (n + 1) 0 := by
  funext j
  unfold ltH va_up
  by_cases e : j = n
  · subst e; rw [if_pos rfl, if_pos (by omega), Nat.zero_add, h1]
  · rw [if_neg e]
    dsimp only
    rw [Nat.zero_add]
    by_cases hj : j < n
    · rw [if_pos hj, if_pos (by omega), h2 j e]
    · rw [if_neg hj, if_neg (by omega)]
theorem ltH_up0 {ad ad1 : Nat → Nat → Nat} {k n q : Nat} (hn : n = 0) (h1 : ad1 k n = q) : va_up (fun _ => none) 0 (some q) = ltH ad1 k (n + 1) 0 := by
  subst hn
  funext j
  unfold ltH va_up
  by_cases e : j = 0
  · subst e; rw [if_pos rfl, if_pos (by omega), Nat.zero_add, h1]
  · rw [if_neg e, if_neg (by omega)]
theorem ltH_cpy {ad : Nat → Nat → Nat} {k n : Nat} : va_cpy (ltH ad k n 0) (fun _ => none) 0 0 n = ltH ad k n 0 := by
  funext j
  by_cases h : j < n
  · rw [pk_cpy_in (by omega) (by omega), show 0 + (j - 0) = j by omega]
  · rw [pk_cpy_out (by omega)]
    unfold ltH
    rw [if_neg h]
