set_option maxRecDepth 100000
theorem up1_o {α : Type} {f : Nat → α} {k : Nat} {v : α} {a : Nat} (h : a ≠ k) : up1 f k v a = f a := by simp [up1, h]
theorem up1_s {α : Type} {f : Nat → α} {k : Nat} {v : α} : up1 f k v k = v := by simp [up1]
theorem upR_s {α : Type} {f : Nat → Nat → Nat → α} {k i : Nat} {v : Nat → α} : upR f k i v k i = v := by funext b; simp [upR]
theorem upR_n {α : Type} {f : Nat → Nat → Nat → α} {k i j : Nat} {v : Nat → α} (h : j ≠ i) : upR f k i v k j = f k j := by funext b; simp [upR, h]
theorem up3_n {α : Type} {f : Nat → Nat → Nat → α} {k i b j : Nat} {v : α} (h : j ≠ i) : up3 f k i b v k j = f k j := by funext b; simp [up3, h]
theorem up3_s {α : Type} {f : Nat → Nat → Nat → α} {k i b : Nat} {v : α} : up3 f k i b v k i b = v := by simp [up3]
section RHW
variable {A : Nat → Prop} {D : va_G} {dA : Nat → ClassId} {K : Nat → Nat} {ad X : Nat → Nat → Nat} {Y : Nat → Nat → Nat → Int32} {N : Nat → Nat} {I : Nat → Int32} {G : Nat → Nat → Nat} {J : Nat → Nat → Int32} {H H1 : Heap}
abbrev adC (ad : Nat → Nat → Nat) (n q g r ea : Nat) : Nat → Nat → Nat := up2 (up2 (up2 (up2 ad 6 n q) 7 n g) 8 n r) 5 0 ea
abbrev yC (Y : Nat → Nat → Nat → Int32) (n p0 : Nat) : Nat → Nat → Nat → Int32 := up3 (upR (up3 Y 0 n 0 (nI p0)) 1 n (fun _ => 0)) 3 0 0 (Y 3 0 0 + nI 1)
theorem RH.newC (hH : RH A D dA K ad X Y N I G J H) {q g r ea cap p0 sa : Nat} (hf : Fr ad N G X q ∧ Fr ad N G X g ∧ Fr ad N G X r) (dqg : q ≠ g) (dqr : q ≠ r) (dgr : g ≠ r) (hA : A q ∧ A g ∧ A r ∧ A ea) (hea : (ea = ad 5 0 ∧ X 0 0 ≠ 0) ∨ (Fr ad N G X ea ∧ ea ≠ q ∧ ea ≠ g ∧ ea ≠ r)) (hcap : cap ≠ 0) (hts : TsOk N G)
    (hz : (∀ l, l < 20 → G 4 (20 * N 3 + l) = 0) ∧ G 6 (N 3) = 0 ∧ G 8 (N 3) = 0 ∧ J 10 (N 3) = nI 0 ∧ J 11 (N 3) = nI 0)
    (eq : va_at D CL (q, .inr (2, [.ref g, .int (nI (N 3)), .ref r, .int (nI p0), .int (nI sa), .int (nI 0), .int (nI (N 14)), .int (nI 0), .int (nI 0), .int (nI 0), .int (-1)])) H1) (eg : va_at D CL (g, .inl (dA 0, 20, .inl (fun _ => 0))) H1) (er : va_at D CL (r, .inl (dA 1, 600, .inl (fun _ => 0))) H1)
    (hl : va_at D CL (ad 4 0, .inr (15, [.int (Y 3 0 0 + nI 1), .ref ea, .int (nI (N 3 + 1))])) H1) (hE : va_at D CL (ea, .inl (dA 4, cap, rfA (ltH (adC ad (N 3) q g r ea) 6 (N 3 + 1) 0))) H1)
    (ho : ∀ k i, LH N G X k i → ¬ (k = 4 ∧ i = 0) → ¬ (k = 5 ∧ i = 0) → H1[ad k i]? = H[ad k i]?) : RH A D dA K (adC ad (N 3) q g r ea) (up2 X 0 0 cap) (yC Y (N 3) p0) (up1 N 3 (N 3 + 1)) I (crockG G (N 3) p0 sa (N 14)) (up2 J 13 (N 3) (-1)) H1 := by
  refine hH.addC (q := q) (g := g) (r := r) (ea := ea) (cap := cap) (p0 := p0) (sa := sa) hf dqg dqr dgr hA hea hcap hts hz (fun k h5 h6 h7 h8 => ?_) (fun k h => up2_o h) (fun k h0 h1 h3 => ?_) (fun k h => up1_o h) (fun k h5 h7 h9 => ?_) (fun k h => up2_o h) up1_s up2_s (fun i hi => ?_) up2_s (fun i hi => up2_n hi) up3_s (fun i hi => ?_) ?_ (fun i hi => ?_) ?_ (fun i hi => ?_) ?_ (fun i hi => ?_) eq eg er ?_ (fun i hi => ?_) ?_ (fun i hi => ?_) ?_ (fun i hi => ?_) up2_s (fun i hi => up2_n hi) up2_s (fun i hi => up2_n hi) hl hE ho
  · unfold adC; rw [up2_o h5, up2_o h8, up2_o h7, up2_o h6]
  · unfold yC; rw [up3_o h3, upR_o h1, up3_o h0]
  · unfold crockG; rw [up2_o h9, up2_o h7, up2_o h5]
  · unfold adC; rw [up2_n hi, up2_o (by decide), up2_o (by decide), up2_o (by decide)]
  · unfold yC; rw [up3_n hi, upR_o (by decide), up3_o (by decide)]
  · unfold adC; rw [up2_o (by decide), up2_o (by decide), up2_o (by decide), up2_s]
  · unfold adC; rw [up2_o (by decide), up2_o (by decide), up2_o (by decide), up2_n hi]
  · unfold adC; rw [up2_o (by decide), up2_o (by decide), up2_s]
  · unfold adC; rw [up2_o (by decide), up2_o (by decide), up2_n hi, up2_o (by decide)]
  · unfold adC; rw [up2_o (by decide), up2_s]
  · unfold adC; rw [up2_o (by decide), up2_n hi, up2_o (by decide), up2_o (by decide)]
  · unfold yC; rw [up3_o (by decide), upR_o (by decide), up3_s]
  · unfold yC; rw [up3_o (by decide), upR_o (by decide), up3_n hi]
  · unfold yC; rw [up3_o (by decide), upR_s]
  · unfold yC; rw [up3_o (by decide), upR_n hi, up3_o (by decide)]
  · unfold crockG; rw [up2_o (by decide), up2_s]
  · unfold crockG; rw [up2_o (by decide), up2_n hi, up2_o (by decide)]
abbrev ad1L (ad : Nat → Nat → Nat) (k n q l ea : Nat) : Nat → Nat → Nat := up2 (up2 ad k n q) 5 l ea
theorem RH.newT (hH : RH A D dA K ad X Y N I G J H) {q ea cap c hr v : Nat} (hf : Fr ad N G X q) (hA : A q ∧ A ea) (hea : (ea = ad 5 1 ∧ X 0 1 ≠ 0) ∨ (Fr ad N G X ea ∧ ea ≠ q)) (hcap : cap ≠ 0)
    (eq : va_at D CL (q, .inr (4, [.ref (ad 6 c), .int (nI hr), .int (nI v)])) H1)
    (hl : va_at D CL (ad 4 1, .inr (15, [.int (Y 3 1 0 + nI 1), .ref ea, .int (nI (N 19 + 1))])) H1) (hE : va_at D CL (ea, .inl (dA 4, cap, rfA (ltH (ad1L ad 9 (N 19) q 1 ea) 9 (N 19 + 1) 0))) H1)
    (ho : ∀ k i, LH N G X k i → ¬ (k = 4 ∧ i = 1) → ¬ (k = 5 ∧ i = 1) → H1[ad k i]? = H[ad k i]?) : RH A D dA K (ad1L ad 9 (N 19) q 1 ea) (up2 X 0 1 cap) (up3 Y 3 1 0 (Y 3 1 0 + nI 1)) (up1 N 19 (N 19 + 1)) I (testG G (N 19) c hr v) J H1 := by
  refine hH.addT (q := q) (ea := ea) (cap := cap) (c := c) (hr := hr) (v := v) hf hA hea hcap (fun k h5 h9 => ?_) (fun k h => up2_o h) (fun k h => up3_o h) (fun k h => up1_o h) (fun k h0 h1 h2 => ?_) (fun k => rfl) up1_s up2_s (fun i hi => ?_) up2_s (fun i hi => up2_n hi) up3_s (fun i hi => up3_n hi) ?_ (fun i hi => ?_) eq ?_ (fun i hi => ?_) ?_ (fun i hi => ?_) up2_s (fun i hi => ?_) hl hE ho
  · unfold ad1L; rw [up2_o h5, up2_o h9]
  · unfold testG; rw [up2_o h2, up2_o h1, up2_o h0]
  · unfold ad1L; rw [up2_n hi, up2_o (by decide)]
  · unfold ad1L; rw [up2_o (by decide), up2_s]
  · unfold ad1L; rw [up2_o (by decide), up2_n hi]
  · unfold testG; rw [up2_o (by decide), up2_o (by decide), up2_s]
  · unfold testG; rw [up2_o (by decide), up2_o (by decide), up2_n hi]
  · unfold testG; rw [up2_o (by decide), up2_s]
  · unfold testG; rw [up2_o (by decide), up2_n hi, up2_o (by decide)]
  · unfold testG; rw [up2_n hi, up2_o (by decide), up2_o (by decide)]
abbrev adJ (ad : Nat → Nat → Nat) (n q g ea : Nat) : Nat → Nat → Nat := up2 (up2 (up2 ad 11 n q) 12 n g) 5 3 ea
theorem RH.newJ (hH : RH A D dA K ad X Y N I G J H) {q g ea cap : Nat} {sh : Nat → Nat} {G1 : Nat → Nat → Nat} (hf : Fr ad N G X q ∧ Fr ad N G X g) (dqg : q ≠ g) (hA : A q ∧ A g ∧ A ea) (hea : (ea = ad 5 3 ∧ X 0 3 ≠ 0) ∨ (Fr ad N G X ea ∧ ea ≠ q ∧ ea ≠ g)) (hcap : cap ≠ 0)
    (hG : ∀ k, k ≠ 41 → G1 k = G k) (g1 : ∀ l, l < 20 → G1 41 (20 * N 40 + l) = sh l) (g1o : ∀ i, i < 20 * N 40 → G1 41 i = G 41 i)
    (eq : va_at D CL (q, .inr (3, [.ref g])) H1) (eg : va_at D CL (g, .inl (dA 0, 20, .inl (tr20 sh))) H1)
    (hl : va_at D CL (ad 4 3, .inr (15, [.int (Y 3 3 0 + nI 1), .ref ea, .int (nI (N 40 + 1))])) H1) (hE : va_at D CL (ea, .inl (dA 4, cap, rfA (ltH (adJ ad (N 40) q g ea) 11 (N 40 + 1) 0))) H1)
    (ho : ∀ k i, LH N G X k i → ¬ (k = 4 ∧ i = 3) → ¬ (k = 5 ∧ i = 3) → H1[ad k i]? = H[ad k i]?) : RH A D dA K (adJ ad (N 40) q g ea) (up2 X 0 3 cap) (up3 Y 3 3 0 (Y 3 3 0 + nI 1)) (up1 N 40 (N 40 + 1)) I G1 J H1 := by
  refine hH.addJ (q := q) (g := g) (ea := ea) (cap := cap) (sh := sh) hf dqg hA hea hcap (fun k h5 h11 h12 => ?_) (fun k h => up2_o h) (fun k h => up3_o h) (fun k h => up1_o h) hG (fun k => rfl) up1_s up2_s (fun i hi => ?_) up2_s (fun i hi => up2_n hi) up3_s (fun i hi => up3_n hi) ?_ (fun i hi => ?_) ?_ (fun i hi => ?_) eq eg g1 g1o hl hE ho
  · unfold adJ; rw [up2_o h5, up2_o h12, up2_o h11]
  · unfold adJ; rw [up2_n hi, up2_o (by decide), up2_o (by decide)]
  · unfold adJ; rw [up2_o (by decide), up2_o (by decide), up2_s]
  · unfold adJ; rw [up2_o (by decide), up2_o (by decide), up2_n hi]
  · unfold adJ; rw [up2_o (by decide), up2_s]
  · unfold adJ; rw [up2_o (by decide), up2_n hi, up2_o (by decide)]
/-- elements of a list of the house, for the copy -/
theorem EL_of {s : State} {locs : List Loc} (hG : GK D dA s) (hH : RH A D dA K ad X Y N I G J H) {kd n ci : Nat} {C : String} {T : u_T} {m l va : Nat} {fs : Nat → List Value} (hc : CL[ci]? = some (C, T, m)) (hlv : ∀ i, i < n → LH N G X kd i) (hat : ∀ i, i < n → va_at D CL (ad kd i, .inr (ci, fs i)) H)
    {e1 e2 e3 : va_E} (hl : LH N G X 4 l) (hx : LH N G X 5 l) (hk4 : kd ≠ 4) (hk5 : kd ≠ 5) (hv : Fr ad N G X va) : EL (va_A [(ad 4 l, e1), (ad 5 l, e2), (va, e3)] H.size) C (ltH ad kd n 0) n s H := by
  intro i hi y e
  unfold ltH at e
  rw [if_pos hi, Nat.zero_add] at e
  cases e
  refine ⟨O_recv hG (hat i hi) hc, notA (hH.lt (hlv i hi)) (L3 (P := fun x => x ≠ ad kd i) (fun q => ?_) (fun q => ?_) (fun q => hv kd i (hlv i hi) q.symm))⟩
  · exact hk4 (hH.2.1 _ _ _ _ hl (hlv i hi) q).1.symm
  · exact hk5 (hH.2.1 _ _ _ _ hx (hlv i hi) q).1.symm
end RHW
/-- lists' arrays: none, or ten places and more -/
def X2Ok (X : Nat → Nat → Nat) : Prop := ∀ l, l < 4 → X 0 l = 0 ∨ (10 ≤ X 0 l ∧ X 0 l ≤ 200)
/-- what lies behind the last crock is nought -/
def FrOk (N : Nat → Nat) (G : Nat → Nat → Nat) (J : Nat → Nat → Int32) : Prop := ∀ c, N 3 ≤ c → (∀ l, l < 20 → G 4 (20 * c + l) = 0) ∧ G 6 c = 0 ∧ G 8 c = 0 ∧ J 10 c = nI 0 ∧ J 11 c = nI 0
