set_option maxRecDepth 100000
/-! WHAT ALWAYS HOLDS, kept by every public method -/
def SpOk (G : Nat → Nat → Nat) : Prop := ∀ i, G 28 i ≤ 3 ∧ G 29 i ≤ 7
theorem SpOk.cg {G G1 : Nat → Nat → Nat} (h : SpOk G) (e1 : G1 28 = G 28) (e2 : G1 29 = G 29) : SpOk G1 := by
  intro i
  rw [e1, e2]
  exact h i
def WI (N : Nat → Nat) (G : Nat → Nat → Nat) (J : Nat → Nat → Int32) : Prop := OkS N G J ∧ CsOk N G ∧ R2Ok G ∧ FrOk N G J ∧ PrOk G ∧ N 39 ≤ 9999 ∧ SpOk G
def coldK (a : Nat) : Bool := !(hotK a || decide (a = 17) || decide (a = 18) || decide (a = 25) || decide (a = 27) || decide (a = 28) || decide (a = 29))
theorem coldK_n {k : Nat} (h : coldK k = true) : k ≠ 4 ∧ k ≠ 5 ∧ k ≠ 6 ∧ k ≠ 7 ∧ k ≠ 8 ∧ k ≠ 12 ∧ k ≠ 17 ∧ k ≠ 18 ∧ k ≠ 25 ∧ k ≠ 27 ∧ k ≠ 28 ∧ k ≠ 29 := by
  refine ⟨?_, ?_, ?_, ?_, ?_, ?_, ?_, ?_, ?_, ?_, ?_, ?_⟩ <;> (intro e; rw [e] at h; exact absurd h (by decide))
theorem up2_B {G : Nat → Nat → Nat} (h : ∀ a b, G a b < 2 ^ 31) {k i v : Nat} (hv : v < 2 ^ 31) : ∀ a b, up2 G k i v a b < 2 ^ 31 := by
  intro a b
  unfold up2
  split
  · split
    · exact hv
    · exact h a b
  · exact h a b
theorem OkS.cold {N : Nat → Nat} {G : Nat → Nat → Nat} {J : Nat → Nat → Int32} (h : OkS N G J) {k i v : Nat} (hk : coldK k = true) (hv : v < 2 ^ 31) : OkS N (up2 G k i v) J := by
  obtain ⟨n4, n5, n6, n7, n8, n12, n17, n18, n25, n27, n28, n29⟩ := coldK_n hk
  obtain ⟨a1, a2, a3, a4, a5, a6⟩ := h
  refine ⟨up2_B a1 hv, a2, fun c => ?_, fun c => ?_, fun c hc => ?_, fun r hr => ?_⟩
  · rw [up2_o n5.symm, up2_o n7.symm, up2_o n8.symm]; exact a3 c
  · rw [up2_o n18.symm, up2_o n27.symm]; exact a4 c
  · rw [up2_o n17.symm] at hc; exact a5 c hc
  · rw [up2_o n25.symm, up2_o n28.symm, up2_o n29.symm]; exact a6 r hr
/-- N changes within its bounds -/
theorem OkS.n {N N1 : Nat → Nat} {G : Nat → Nat → Nat} {J : Nat → Nat → Int32} (h : OkS N G J) (h2 : N1 1 ≤ 20 ∧ N1 3 ≤ 10 ∧ N1 14 ≤ 600 ∧ N1 19 ≤ 100 ∧ N1 23 ≤ 10 ∧ N1 33 ≤ 300 ∧ N1 40 ≤ 60 ∧ N1 44 ≤ 6) (h3 : N1 23 ≤ N 23) : OkS N1 G J := by
  obtain ⟨a1, a2, a3, a4, a5, a6⟩ := h
  exact ⟨a1, h2, a3, a4, a5, fun r hr => a6 r (by omega)⟩
theorem OkS.j {N : Nat → Nat} {G : Nat → Nat → Nat} {J J1 : Nat → Nat → Int32} (h : OkS N G J) (e : J1 16 = J 16) : OkS N G J1 := by
  obtain ⟨a1, a2, a3, a4, a5, a6⟩ := h
  exact ⟨a1, a2, a3, a4, fun i hi => by rw [e]; exact a5 i hi, a6⟩
theorem CsOk.cg {N N1 : Nat → Nat} {G G1 : Nat → Nat → Nat} (h : CsOk N G) (e1 : N1 1 = N 1) (e2 : G1 2 = G 2) (e4 : G1 4 = G 4) : CsOk N1 G1 := by
  intro l hl
  have a := h l hl
  unfold tot at a ⊢
  rw [e1, e2, e4]
  exact a
theorem FrOk.cg {N N1 : Nat → Nat} {G G1 : Nat → Nat → Nat} {J J1 : Nat → Nat → Int32} (h : FrOk N G J) (e3 : N 3 ≤ N1 3) (e4 : ∀ c l, N1 3 ≤ c → l < 20 → G1 4 (20 * c + l) = G 4 (20 * c + l)) (e6 : ∀ c, N1 3 ≤ c → G1 6 c = G 6 c ∧ G1 8 c = G 8 c ∧ J1 10 c = J 10 c ∧ J1 11 c = J 11 c) : FrOk N1 G1 J1 := by
  intro c hc
  obtain ⟨a1, a2, a3, a4, a5⟩ := h c (by omega)
  obtain ⟨b1, b2, b3, b4⟩ := e6 c hc
  exact ⟨fun l hl => by rw [e4 c l hc hl]; exact a1 l hl, by rw [b1]; exact a2, by rw [b2]; exact a3, by rw [b3]; exact a4, by rw [b4]; exact a5⟩
theorem R2Ok.cg {G G1 : Nat → Nat → Nat} (h : R2Ok G) (e1 : G1 26 = G 26) (e2 : G1 30 = G 30) : R2Ok G1 := by
  intro i
  rw [e1, e2]
  exact h i
theorem PrOk.cg {G G1 : Nat → Nat → Nat} (h : PrOk G) (e1 : G1 48 = G 48) : PrOk G1 := by
  intro i
  rw [e1]
  exact h i
theorem HOk.cg {N N1 : Nat → Nat} {G G1 : Nat → Nat → Nat} {J J1 : Nat → Nat → Int32} {X : Nat → Nat → Nat} {Y Y1 : Nat → Nat → Nat → Int32} (h : HOk N G J X Y) (n3 : N1 3 = N 3) (n14 : N1 14 = N 14) (n19 : N1 19 = N 19) (n23 : N1 23 = N 23) (n40 : N1 40 = N 40)
    (e5 : G1 5 = G 5) (e6 : G1 6 = G 6) (e9 : G1 9 = G 9) (e12 : G1 12 = G 12) (e17 : G1 17 = G 17) (e20 : G1 20 = G 20) (e25 : G1 25 = G 25) (e28 : G1 28 = G 28) (j16 : J1 16 = J 16) (y0 : Y1 0 = Y 0) (y1 : Y1 1 = Y 1) (y2 : Y1 2 = Y 2) : HOk N1 G1 J1 X Y1 := by
  obtain ⟨a1, a2, a3, a4, a5⟩ := h
  have hs : ∀ l, szH N1 l = szH N l := by
    intro l
    unfold szH
    rw [n3, n19, n23, n40]
  have hl : ∀ c, lv G1 c = lv G c := fun c => by unfold lv; rw [e6]
  refine ⟨⟨fun l hl => by rw [hs]; exact a1.1 l hl, fun r hr => by rw [e25]; exact a1.2.1 r (by omega), fun i h1 h2 => by rw [e28]; rw [e25] at h2; exact a1.2.2 i (by omega) h2⟩, fun c hc h => ?_, fun c hc h q hq1 hq2 => ?_, fun z hz => ?_, fun k hk => ?_⟩
  · rw [y0, e5]; exact a2 c (by omega) (by rw [← hl]; exact h)
  · rw [e12, y1]; exact a3 c (by omega) (by rw [← hl]; exact h) q (by rw [e9] at hq1; exact hq1) (by omega)
  · rw [e17, j16, y2]; exact a4 z hz
  · rw [e20, n3]; exact a5 k (by omega)
theorem sumTo_add1 {f h : Nat → Nat} {j g : Nat} : ∀ {n : Nat}, j < n → h j = f j + g → (∀ c, c ≠ j → h c = f c) → sumTo h n = sumTo f n + g := by
  intro n
  induction n with
  | zero => intro hj; omega
  | succ n ih =>
    intro hj h1 h2
    show sumTo h n + h n = sumTo f n + f n + g
    by_cases e : j = n
    · subst e
      have : ∀ m, m ≤ j → sumTo h m = sumTo f m := by
        intro m
        induction m with
        | zero => intro _; rfl
        | succ m ihm => intro hm; show sumTo h m + h m = sumTo f m + f m; rw [ihm (by omega), h2 m (by omega)]
      rw [this j (Nat.le_refl _), h1]
      omega
    · rw [ih (by omega) h1 h2, h2 n (fun q => e q.symm)]
      omega
theorem sumTo_mono2 {f h : Nat → Nat} : ∀ {n : Nat}, (∀ c, c < n → h c ≤ f c) → sumTo h n ≤ sumTo f n := by
  intro n
  induction n with
  | zero => intro _; exact Nat.le_refl _
  | succ n ih =>
    intro hh
    show sumTo h n + h n ≤ sumTo f n + f n
    have a := ih (fun c hc => hh c (by omega))
    have b := hh n (by omega)
    omega
theorem sumTo_move {f h : Nat → Nat} {a b n : Nat} (ha : a < n) (hb : b < n) (hab : a ≠ b) (h1 : h b = f b + f a) (h2 : h a = 0) (h3 : ∀ c, c ≠ a → c ≠ b → h c = f c) : sumTo h n = sumTo f n := by
  have e1 := sumTo_add1 (f := f) (h := fun c => if c = b then f b + f a else f c) (j := b) (g := f a) hb (if_pos rfl) (fun c hc => if_neg hc)
  have e2 := sumTo_add1 (f := h) (h := fun c => if c = b then f b + f a else f c) (j := a) (g := f a) ha (by show (if a = b then _ else _) = _; rw [if_neg hab, h2, Nat.zero_add]) (fun c hc => by
    show (if c = b then _ else _) = _
    by_cases e : c = b
    · rw [if_pos e, e, h1]
    · rw [if_neg e, h3 c hc e])
  omega
/-! lots -/
theorem WI.lot {N : Nat → Nat} {G : Nat → Nat → Nat} {J : Nat → Nat → Int32} (h : WI N G J) {g : Int32} (hB : lotB N g = true) : WI (up1 N 1 (N 1 + 1)) (up2 G 2 (N 1) (tn g)) J := by
  obtain ⟨a1, a2, a3, a4, a5, a6⟩ := h
  unfold lotB at hB
  rw [Bool.and_eq_true] at hB
  obtain ⟨b1, b2⟩ := hB
  have b1 : N 1 ≠ 20 := by simpa using b1
  obtain ⟨j, j1, j2, rfl⟩ := wi_nat (a := 1) (b := 100000) (by decide) (by decide) b2
  rw [tn_nI (by omega)]
  have hb := a1.2.1
  refine ⟨(a1.cold (k := 2) rfl (by omega)).n ?_ (Nat.le_refl _), ?_, a3, a4.cg (Nat.le_refl _) (fun _ _ _ _ => rfl) (fun _ _ => ⟨rfl, rfl, rfl, rfl⟩), a5, a6⟩
  · show N 1 + 1 ≤ 20 ∧ N 3 ≤ 10 ∧ N 14 ≤ 600 ∧ N 19 ≤ 100 ∧ N 23 ≤ 10 ∧ N 33 ≤ 300 ∧ N 40 ≤ 60 ∧ N 44 ≤ 6
    omega
  · intro l hl
    obtain ⟨c1, c2⟩ := a2 l hl
    show (up2 G 2 (N 1) j 2 l + sumTo (fun c => G 4 (20 * c + l)) 10 ≤ 100000) ∧ (N 1 + 1 ≤ l → up2 G 2 (N 1) j 2 l + sumTo (fun c => G 4 (20 * c + l)) 10 = 0)
    unfold tot at c1 c2
    by_cases e : l = N 1
    · have c3 := c2 (by omega)
      rw [e, up2_s]
      rw [e] at c3
      exact ⟨by omega, by omega⟩
    · rw [up2_n e]
      exact ⟨c1, fun q => c2 (by omega)⟩
theorem HOk.lot {N : Nat → Nat} {G : Nat → Nat → Nat} {J : Nat → Nat → Int32} {X : Nat → Nat → Nat} {Y : Nat → Nat → Nat → Int32} (h : HOk N G J X Y) (v w : Nat) : HOk (up1 N 1 v) (up2 G 2 (N 1) w) J X Y := h.cg rfl rfl rfl rfl rfl rfl rfl rfl rfl rfl rfl rfl rfl rfl rfl rfl rfl
/-! crocks -/
theorem WI.crock {N : Nat → Nat} {G : Nat → Nat → Nat} {J : Nat → Nat → Int32} (h : WI N G J) {q sa : Int32} (hB : crockB N G q sa = true) : WI (up1 N 3 (N 3 + 1)) (crockG G (N 3) (tn q) (tn sa) (N 14)) (up2 J 13 (N 3) (-1)) := by
  obtain ⟨a1, a2, a3, a4, a5, a6⟩ := h
  unfold crockB at hB
  simp only [Bool.and_eq_true] at hB
  obtain ⟨b1, b2, b3, -⟩ := hB
  have b1 : N 3 ≠ 10 := by simpa using b1
  obtain ⟨j, j1, j2, rfl⟩ := wi_nat (a := 0) (b := 11) (by decide) (by decide) b2
  obtain ⟨k, k1, k2, rfl⟩ := wi_nat (a := 0) (b := 60) (by decide) (by decide) b3
  rw [tn_nI (by omega), tn_nI (by omega)]
  have hb := a1.2.1
  refine ⟨?_, a2.cg rfl rfl rfl, a3.cg rfl rfl, a4.cg (Nat.le_succ _) (fun _ _ _ _ => rfl) (fun _ _ => ⟨rfl, rfl, rfl, rfl⟩), a5.cg rfl, a6⟩
  have c1 := (((a1.set (k := 5) (i := N 3) (v := j) rfl (by omega) (fun _ => by omega) (fun e => by cases e) (fun e => by cases e)).set (k := 7) (i := N 3) (v := k) rfl (by omega) (fun e => by cases e) (fun _ => by omega) (fun e => by cases e)).cold (k := 9) (i := N 3) (v := N 14) rfl (by omega)).j13 (i := N 3) (v := -1)
  refine c1.n ?_ (Nat.le_refl _)
  show N 1 ≤ 20 ∧ N 3 + 1 ≤ 10 ∧ N 14 ≤ 600 ∧ N 19 ≤ 100 ∧ N 23 ≤ 10 ∧ N 33 ≤ 300 ∧ N 40 ≤ 60 ∧ N 44 ≤ 6
  omega
theorem row_ne {c j l k : Nat} (hl : l < 20) (hk : k < 20) (h : c ≠ j ∨ l ≠ k) : 20 * c + l ≠ 20 * j + k := by omega
theorem WI.put {N : Nat → Nat} {G : Nat → Nat → Nat} {J : Nat → Nat → Int32} (h : WI N G J) {c l g : Int32} (hB : putB N G c l g = true) : WI N (putG G (tn c) (tn l) (tn g)) J := by
  obtain ⟨a1, a2, a3, a4, a5, a6⟩ := h
  have hb := a1.2.1
  unfold putB at hB
  simp only [Bool.and_eq_true] at hB
  obtain ⟨b1, b2, b3, b4⟩ := hB
  obtain ⟨j, j1, rfl, -⟩ := lvI_nat (by omega) b1
  obtain ⟨k, k1, rfl⟩ := wi_cnt (by omega) b2
  obtain ⟨x, x1, x2, rfl⟩ := nI_ge1 (g := g) (by simpa using b3)
  rw [tn_nI (by omega), tn_nI (by omega), tn_nI (by omega)]
  rw [tn_nI (by omega)] at b4
  have b4 : nI x ≤ nI (G 2 k) := by simpa using b4
  have b5 := (nI_leI x2 (a1.1 2 k)).mp b4
  have hT := a2 k (by omega)
  have hk1 := hT.1
  have hm : G 4 (20 * j + k) ≤ 100000 := a2.one (by omega) (by omega)
  have hg2 : G 2 k ≤ 100000 := by unfold tot at hk1; omega
  refine ⟨?_, fun l hl => ?_, a3.cg rfl rfl, a4.cg (Nat.le_refl _) (fun c l hc hl => ?_) (fun _ _ => ⟨rfl, rfl, rfl, rfl⟩), a5.cg rfl, a6⟩
  · exact (a1.cold (k := 2) rfl (by omega)).set (k := 4) rfl (by omega) (fun e => by cases e) (fun e => by cases e) (fun e => by cases e)
  · obtain ⟨c1, c2⟩ := a2 l hl
    unfold tot at c1 c2
    have e2 : putG G j k x 2 l = if l = k then G 2 k - x else G 2 l := by
      show up2 G 2 k (G 2 k - x) 2 l = _
      by_cases e : l = k
      · rw [if_pos e, e, up2_s]
      · rw [if_neg e, up2_n e]
    have e4 : ∀ c, putG G j k x 4 (20 * c + l) = if c = j ∧ l = k then G 4 (20 * j + k) + x else G 4 (20 * c + l) := by
      intro c
      show up2 _ 4 (20 * j + k) _ 4 (20 * c + l) = _
      by_cases e : c = j ∧ l = k
      · rw [if_pos e, e.1, e.2, up2_s]
      · rw [if_neg e, up2_n (row_ne hl (by omega) (by omega))]; rfl
    unfold tot
    by_cases e : l = k
    · subst e
      have hs := sumTo_add1 (f := fun c => G 4 (20 * c + l)) (h := fun c => putG G j l x 4 (20 * c + l)) (j := j) (g := x) (n := 10) (by omega) (by show putG G j l x 4 _ = _; rw [e4, if_pos ⟨rfl, rfl⟩]) (fun c hc => by show putG G j l x 4 _ = _; rw [e4, if_neg (fun q => hc q.1)])
      rw [e2, if_pos rfl, hs]
      exact ⟨by omega, fun q => by omega⟩
    · have hs : (fun c => putG G j k x 4 (20 * c + l)) = fun c => G 4 (20 * c + l) := by
        funext c
        rw [e4, if_neg (fun q => e q.2)]
      rw [e2, if_neg e, hs]
      exact ⟨c1, c2⟩
  · show up2 _ 4 (20 * j + k) _ 4 (20 * c + l) = _
    rw [up2_n (row_ne hl (by omega) (by omega))]
    rfl
theorem HOk.put {N : Nat → Nat} {G : Nat → Nat → Nat} {J : Nat → Nat → Int32} {X : Nat → Nat → Nat} {Y : Nat → Nat → Nat → Int32} (h : HOk N G J X Y) (j k g : Nat) : HOk N (putG G j k g) J X Y := h.cg rfl rfl rfl rfl rfl rfl rfl rfl rfl rfl rfl rfl rfl rfl rfl rfl rfl
/-! warmth, tests, texts, limits, orders -/
theorem WI.warmth {N : Nat → Nat} {G : Nat → Nat → Nat} {J : Nat → Nat → Int32} (h : WI N G J) {z q v : Int32} (hB : warmB N z q v = true) (i : Nat) : WI N (up2 G 17 i 1) (up2 J 16 i v) := by
  obtain ⟨a1, a2, a3, a4, a5, a6⟩ := h
  unfold warmB at hB
  simp only [Bool.and_eq_true] at hB
  obtain ⟨-, -, b3⟩ := hB
  refine ⟨?_, a2.cg rfl rfl rfl, a3.cg rfl rfl, a4.cg (Nat.le_refl _) (fun _ _ _ _ => rfl) (fun _ _ => ⟨rfl, rfl, rfl, rfl⟩), a5.cg rfl, a6⟩
  obtain ⟨c1, c2, c3, c4, c5, c6⟩ := a1
  refine ⟨up2_B c1 (by decide), c2, c3, c4, fun j hj => ?_, c6⟩
  by_cases e : j = i
  · rw [e, up2_s]
    obtain ⟨b4, b5⟩ := wi_iff.mp b3
    refine ⟨(v + nI 5).toInt.toNat, ?_, ?_⟩
    · have h5 := Int32.not_lt.mp b4
      have h6 := Int32.not_lt.mp b5
      have h5 := Int32.le_iff_toInt_le.mp h5
      have h6 := Int32.le_iff_toInt_le.mp h6
      have e1 : (-5 : Int32).toInt = -5 := by decide
      have e2 : (nI 42).toInt = 42 := by decide
      have e3 : (nI 5).toInt = 5 := by decide
      rw [e1] at h5
      rw [e2] at h6
      have e4 : (v + nI 5).toInt = v.toInt + 5 := by
        rw [Int32.toInt_add, e3]
        rw [Int.bmod_eq_of_le (by omega) (by omega)]
      rw [e4]
      omega
    · have h5 := Int32.not_lt.mp b4
      have h6 := Int32.not_lt.mp b5
      have h5 := Int32.le_iff_toInt_le.mp h5
      have h6 := Int32.le_iff_toInt_le.mp h6
      have e1 : (-5 : Int32).toInt = -5 := by decide
      have e2 : (nI 42).toInt = 42 := by decide
      have e3 : (nI 5).toInt = 5 := by decide
      rw [e1] at h5
      rw [e2] at h6
      have e4 : (v + nI 5).toInt = v.toInt + 5 := by
        rw [Int32.toInt_add, e3]
        rw [Int.bmod_eq_of_le (by omega) (by omega)]
      apply Int32.toInt_inj.mp
      rw [nI_toInt (by rw [e4]; omega), e4]
      omega
  · rw [up2_n e] at hj ⊢
    exact c5 j hj
theorem WI.test {N : Nat → Nat} {G : Nat → Nat → Nat} {J : Nat → Nat → Int32} (h : WI N G J) {c q v : Int32} (hB : testB N G c q v = true) : WI (up1 N 19 (N 19 + 1)) (testG G (N 19) (tn c) (tn q) (tn v)) J := by
  obtain ⟨a1, a2, a3, a4, a5, a6⟩ := h
  have hb := a1.2.1
  unfold testB at hB
  simp only [Bool.and_eq_true] at hB
  obtain ⟨b1, b2, b3, b4⟩ := hB
  have b4 : N 19 ≠ 100 := by simpa using b4
  obtain ⟨j, j1, rfl, -⟩ := lvI_nat (by omega) b1
  rw [tn_nI (by omega)] at b2 ⊢
  obtain ⟨x, x1, x2, rfl⟩ := wi_nat (a1.1 9 j) (by omega) b2
  obtain ⟨y, y1, y2, rfl⟩ := wi_nat (a := 0) (b := 1000) (by decide) (by decide) b3
  rw [tn_nI (by omega), tn_nI (by omega)]
  refine ⟨((((a1.cold (k := 20) rfl (by omega)).cold (k := 21) rfl (by omega)).cold (k := 22) rfl (by omega))).n ?_ (Nat.le_refl _), a2.cg rfl rfl rfl, a3.cg rfl rfl, a4.cg (Nat.le_refl _) (fun _ _ _ _ => rfl) (fun _ _ => ⟨rfl, rfl, rfl, rfl⟩), a5.cg rfl, a6⟩
  show N 1 ≤ 20 ∧ N 3 ≤ 10 ∧ N 14 ≤ 600 ∧ N 19 + 1 ≤ 100 ∧ N 23 ≤ 10 ∧ N 33 ≤ 300 ∧ N 40 ≤ 60 ∧ N 44 ≤ 6
  omega
theorem WI.n33 {N : Nat → Nat} {G : Nat → Nat → Nat} {J J1 : Nat → Nat → Int32} (h : WI N G J) {v : Nat} (hv : v ≤ 300) (hJ : ∀ a, a ≠ 32 → J1 a = J a) : WI (up1 N 33 v) G J1 := by
  obtain ⟨a1, a2, a3, a4, a5, a6⟩ := h
  have hb := a1.2.1
  refine ⟨(a1.j (J1 := J1) (hJ 16 (by decide))).n ?_ (Nat.le_refl _), a2.cg rfl rfl rfl, a3, a4.cg (Nat.le_refl _) (fun _ _ _ _ => rfl) (fun c _ => ⟨rfl, rfl, by rw [hJ 10 (by decide)], by rw [hJ 11 (by decide)]⟩), a5, a6⟩
  show N 1 ≤ 20 ∧ N 3 ≤ 10 ∧ N 14 ≤ 600 ∧ N 19 ≤ 100 ∧ N 23 ≤ 10 ∧ v ≤ 300 ∧ N 40 ≤ 60 ∧ N 44 ≤ 6
  omega
theorem sj_o' {J : Nat → Nat → Int32} {a lo n k : Nat} {f : Nat → Int32} (h : k ≠ a) : sj J a lo n f k = J k := by
  funext i
  unfold sj
  rw [if_neg (fun q => h q.1)]
theorem HOk.n33 {N : Nat → Nat} {G : Nat → Nat → Nat} {J J1 : Nat → Nat → Int32} {X : Nat → Nat → Nat} {Y : Nat → Nat → Nat → Int32} (h : HOk N G J X Y) {v : Nat} (hJ : ∀ a, a ≠ 32 → J1 a = J a) : HOk (up1 N 33 v) G J1 X Y := h.cg rfl rfl rfl rfl rfl rfl rfl rfl rfl rfl rfl rfl rfl (hJ 16 (by decide)) rfl rfl rfl
theorem WI.n0 {N : Nat → Nat} {G : Nat → Nat → Nat} {J : Nat → Nat → Int32} (h : WI N G J) (v : Nat) : WI (up1 N 0 v) G J := by
  obtain ⟨a1, a2, a3, a4, a5, a6⟩ := h
  exact ⟨a1.n a1.2.1 (Nat.le_refl _), a2.cg rfl rfl rfl, a3, a4.cg (Nat.le_refl _) (fun _ _ _ _ => rfl) (fun _ _ => ⟨rfl, rfl, rfl, rfl⟩), a5, a6⟩
theorem HOk.n0 {N : Nat → Nat} {G : Nat → Nat → Nat} {J : Nat → Nat → Int32} {X : Nat → Nat → Nat} {Y : Nat → Nat → Nat → Int32} (h : HOk N G J X Y) (v : Nat) : HOk (up1 N 0 v) G J X Y := h.cg rfl rfl rfl rfl rfl rfl rfl rfl rfl rfl rfl rfl rfl rfl rfl rfl rfl
theorem WI.limits {N : Nat → Nat} {G : Nat → Nat → Nat} {J : Nat → Nat → Int32} (h : WI N G J) (v w : Nat) : WI (up1 (up1 N 42 v) 43 w) G J := by
  obtain ⟨a1, a2, a3, a4, a5, a6⟩ := h
  exact ⟨a1.n a1.2.1 (Nat.le_refl _), a2.cg rfl rfl rfl, a3, a4.cg (Nat.le_refl _) (fun _ _ _ _ => rfl) (fun _ _ => ⟨rfl, rfl, rfl, rfl⟩), a5, a6⟩
theorem HOk.limits {N : Nat → Nat} {G : Nat → Nat → Nat} {J : Nat → Nat → Int32} {X : Nat → Nat → Nat} {Y : Nat → Nat → Nat → Int32} (h : HOk N G J X Y) (v w : Nat) : HOk (up1 (up1 N 42 v) 43 w) G J X Y := h.cg rfl rfl rfl rfl rfl rfl rfl rfl rfl rfl rfl rfl rfl rfl rfl rfl rfl
theorem WI.clear {N : Nat → Nat} {G : Nat → Nat → Nat} {J : Nat → Nat → Int32} (h : WI N G J) : WI (up1 N 44 0) G J := by
  obtain ⟨a1, a2, a3, a4, a5, a6⟩ := h
  have hb := a1.2.1
  refine ⟨a1.n ?_ (Nat.le_refl _), a2.cg rfl rfl rfl, a3, a4.cg (Nat.le_refl _) (fun _ _ _ _ => rfl) (fun _ _ => ⟨rfl, rfl, rfl, rfl⟩), a5, a6⟩
  show N 1 ≤ 20 ∧ N 3 ≤ 10 ∧ N 14 ≤ 600 ∧ N 19 ≤ 100 ∧ N 23 ≤ 10 ∧ N 33 ≤ 300 ∧ N 40 ≤ 60 ∧ 0 ≤ 6
  omega
theorem HOk.n44 {N : Nat → Nat} {G : Nat → Nat → Nat} {J : Nat → Nat → Int32} {X : Nat → Nat → Nat} {Y : Nat → Nat → Nat → Int32} (h : HOk N G J X Y) (v : Nat) : HOk (up1 N 44 v) G J X Y := h.cg rfl rfl rfl rfl rfl rfl rfl rfl rfl rfl rfl rfl rfl rfl rfl rfl rfl
theorem WI.order {N : Nat → Nat} {G : Nat → Nat → Nat} {J : Nat → Nat → Int32} (h : WI N G J) {g a b q : Int32} (hB : orderB N g a b q = true) : WI (up1 N 44 (N 44 + 1)) (orderG G (N 44) (tn g) (tn a) (tn b) (tn q)) J := by
  obtain ⟨a1, a2, a3, a4, a5, a6⟩ := h
  have hb := a1.2.1
  unfold orderB at hB
  simp only [Bool.and_eq_true] at hB
  obtain ⟨b1, b2, b3, b4, b5⟩ := hB
  have b1 : N 44 ≠ 6 := by simpa using b1
  obtain ⟨x, x1, x2, rfl⟩ := wi_nat (a := 1) (b := 100000) (by decide) (by decide) b2
  obtain ⟨y, y1, y2, rfl⟩ := wi_nat (a := 0) (b := 1000) (by decide) (by decide) b3
  obtain ⟨z, z1, z2, rfl⟩ := wi_nat (a := y) (b := 1000) (by omega) (by decide) b4
  obtain ⟨t, t1, t2, rfl⟩ := wi_nat (a := 0) (b := 10000) (by decide) (by decide) b5
  rw [tn_nI (by omega), tn_nI (by omega), tn_nI (by omega), tn_nI (by omega)]
  refine ⟨((((a1.cold (k := 45) rfl (by omega)).cold (k := 46) rfl (by omega)).cold (k := 47) rfl (by omega)).cold (k := 48) rfl (by omega)).n ?_ (Nat.le_refl _), a2.cg rfl rfl rfl, a3.cg rfl rfl, a4.cg (Nat.le_refl _) (fun _ _ _ _ => rfl) (fun _ _ => ⟨rfl, rfl, rfl, rfl⟩), fun i => ?_, a6⟩
  · show N 1 ≤ 20 ∧ N 3 ≤ 10 ∧ N 14 ≤ 600 ∧ N 19 ≤ 100 ∧ N 23 ≤ 10 ∧ N 33 ≤ 300 ∧ N 40 ≤ 60 ∧ N 44 + 1 ≤ 6
    omega
  · show up2 _ 48 (N 44) t 48 i ≤ 10000
    by_cases e : i = N 44
    · rw [e, up2_s]; exact t2
    · rw [up2_n e]; exact a5 i
theorem HOk.order {N : Nat → Nat} {G : Nat → Nat → Nat} {J : Nat → Nat → Int32} {X : Nat → Nat → Nat} {Y : Nat → Nat → Nat → Int32} (h : HOk N G J X Y) (v n g a b q : Nat) : HOk (up1 N 44 v) (orderG G n g a b q) J X Y := h.cg rfl rfl rfl rfl rfl rfl rfl rfl rfl rfl rfl rfl rfl rfl rfl rfl rfl
/-! plans -/
theorem plG_o {N : Nat → Nat} {G : Nat → Nat → Nat} {J : Nat → Nat → Int32} {a : Nat} (h : a ≠ 49) : plG N G J a = G a := plR_o h
theorem WI.plan {N : Nat → Nat} {G : Nat → Nat → Nat} {J : Nat → Nat → Int32} (h : WI N G J) (x : TrT) : WI N (plG N G J) (trJ J x) := by
  obtain ⟨a1, a2, a3, a4, a5, a6⟩ := h
  have hj : ∀ a, a ≠ 50 → a ≠ 51 → trJ J x a = J a := fun a h0 h1 => by unfold trJ; rw [if_neg h0, if_neg h1]
  refine ⟨?_, a2.cg rfl (plG_o (by decide)) (plG_o (by decide)), a3.cg (plG_o (by decide)) (plG_o (by decide)), a4.cg (Nat.le_refl _) (fun _ _ _ _ => by rw [plG_o (by decide)]) (fun c _ => ⟨by rw [plG_o (by decide)], by rw [plG_o (by decide)], by rw [hj 10 (by decide) (by decide)], by rw [hj 11 (by decide) (by decide)]⟩), a5.cg (plG_o (by decide)), a6.1, a6.2.cg (plG_o (by decide)) (plG_o (by decide))⟩
  obtain ⟨c1, c2, c3, c4, c5, c6⟩ := a1
  refine ⟨fun a b => ?_, c2, fun c => ?_, fun c => ?_, fun c hc => ?_, fun r hr => ?_⟩
  · unfold plG plR
    split
    · unfold bN; split <;> decide
    · exact c1 a b
  · rw [plG_o (a := 5) (by decide), plG_o (a := 7) (by decide), plG_o (a := 8) (by decide)]; exact c3 c
  · rw [plG_o (a := 18) (by decide), plG_o (a := 27) (by decide)]; exact c4 c
  · rw [plG_o (a := 17) (by decide)] at hc; rw [hj 16 (by decide) (by decide)]; exact c5 c hc
  · rw [plG_o (a := 25) (by decide), plG_o (a := 28) (by decide), plG_o (a := 29) (by decide)]; exact c6 r hr
theorem phY_o {N : Nat → Nat} {G : Nat → Nat → Nat} {J : Nat → Nat → Int32} {Y : Nat → Nat → Nat → Int32} {a : Nat} (h : a < 5) : phY N G J Y a = Y a := by
  funext i j
  unfold phY trY pfY sy pmY
  rw [if_neg (by omega), if_neg (by omega), if_neg (by omega), if_neg (by omega), if_neg (by omega), if_neg (by omega)]
theorem HOk.plan {N : Nat → Nat} {G : Nat → Nat → Nat} {J : Nat → Nat → Int32} {X : Nat → Nat → Nat} {Y : Nat → Nat → Nat → Int32} (h : HOk N G J X Y) (x : TrT) : HOk N (plG N G J) (trJ J x) X (phY N G J Y) :=
  h.cg rfl rfl rfl rfl rfl (plG_o (by decide)) (plG_o (by decide)) (plG_o (by decide)) (plG_o (by decide)) (plG_o (by decide)) (plG_o (by decide)) (plG_o (by decide)) (plG_o (by decide)) (by unfold trJ; rw [if_neg (by decide), if_neg (by decide)]) (phY_o (by decide)) (phY_o (by decide)) (phY_o (by decide))
/-! jars -/
theorem WI.jar {N : Nat → Nat} {G : Nat → Nat → Nat} {J : Nat → Nat → Int32} (h : WI N G J) {c g : Int32} (hB : jarB N G c g = true) : WI (up1 N 40 (N 40 + 1)) (jarG N G (tn c) (tn g)) J := by
  obtain ⟨a1, a2, a3, a4, a5, a6⟩ := h
  have hb := a1.2.1
  unfold jarB at hB
  simp only [Bool.and_eq_true] at hB
  obtain ⟨b1, b2, b3, b4⟩ := hB
  have b4 : N 40 ≠ 60 := by simpa using b4
  obtain ⟨j, j1, rfl, -⟩ := lvI_nat (by omega) b1
  obtain ⟨x, x1, x2, rfl⟩ := nI_ge1 (g := g) (by simpa using b2)
  rw [tn_nI (by omega)] at b3 ⊢
  rw [tn_nI (by omega)]
  have hgr := a2.gr (c := j) (by omega)
  have b3 : ¬ nI (gr G j) < nI x := by simpa using b3
  have b5 : x ≤ gr G j := Nat.not_lt.mp (fun q => b3 ((nI_ltI (by omega) x2).mpr q))
  have hsum : sumTo (conS G j) 20 = gr G j := rfl
  have hsh : ∀ l, shS (conS G j) x (gr G j) l ≤ conS G j l := fun l => shS_le (by omega) hsum b5
  have e4 : ∀ k l, l < 20 → jarG N G j x 4 (20 * k + l) ≤ G 4 (20 * k + l) ∧ (k ≠ j → jarG N G j x 4 (20 * k + l) = G 4 (20 * k + l)) := by
    intro k l hl
    unfold jarG
    by_cases e : k = j
    · subst e
      rw [sg_in hl]
      exact ⟨Nat.sub_le _ _, fun q => absurd rfl q⟩
    · rw [sg_out (by omega)]
      unfold ptG
      rw [sg_o (by decide)]
      exact ⟨Nat.le_refl _, fun _ => rfl⟩
  have eo : ∀ a, a ≠ 4 → a ≠ 41 → jarG N G j x a = G a := by
    intro a h4 h41
    unfold jarG ptG
    rw [sg_o h4, sg_o h41]
  refine ⟨?_, fun l hl => ?_, a3.cg (eo 26 (by decide) (by decide)) (eo 30 (by decide) (by decide)), a4.cg (Nat.le_refl _) (fun c l hc hl => (e4 c l hl).2 (by have : N 3 ≤ c := hc; omega)) (fun c _ => ⟨by rw [eo 6 (by decide) (by decide)], by rw [eo 8 (by decide) (by decide)], rfl, rfl⟩), a5.cg (eo 48 (by decide) (by decide)), a6.1, a6.2.cg (eo 28 (by decide) (by decide)) (eo 29 (by decide) (by decide))⟩
  · obtain ⟨c1, c2, c3, c4, c5, c6⟩ := a1
    refine ⟨?_, ?_, fun c => ?_, fun c => ?_, fun c hc => ?_, fun r hr => ?_⟩
    · unfold jarG ptG
      refine sg_B (sg_B c1 (fun l _ => Nat.lt_of_le_of_lt (hsh l) (c1 _ _))) (fun l _ => Nat.lt_of_le_of_lt (Nat.sub_le _ _) (c1 _ _))
    · show N 1 ≤ 20 ∧ N 3 ≤ 10 ∧ N 14 ≤ 600 ∧ N 19 ≤ 100 ∧ N 23 ≤ 10 ∧ N 33 ≤ 300 ∧ N 40 + 1 ≤ 60 ∧ N 44 ≤ 6
      omega
    · rw [eo 5 (by decide) (by decide), eo 7 (by decide) (by decide), eo 8 (by decide) (by decide)]; exact c3 c
    · rw [eo 18 (by decide) (by decide), eo 27 (by decide) (by decide)]; exact c4 c
    · rw [eo 17 (by decide) (by decide)] at hc; exact c5 c hc
    · rw [eo 25 (by decide) (by decide), eo 28 (by decide) (by decide), eo 29 (by decide) (by decide)]; exact c6 r hr
  · obtain ⟨c1, c2⟩ := a2 l hl
    have hs := sumTo_mono2 (f := fun c => G 4 (20 * c + l)) (h := fun c => jarG N G j x 4 (20 * c + l)) (n := 10) (fun c _ => (e4 c l hl).1)
    unfold tot at c1 c2 ⊢
    rw [eo 2 (by decide) (by decide)]
    exact ⟨by omega, fun q => by have := c2 q; omega⟩
/-! pouring -/
theorem pourT_row {G : Nat → Nat → Nat} {a b : Nat} (hab : a ≠ b) : ∀ n, n ≤ 20 → ∀ l, l < 20 → (pourT G a b n 4 (20 * b + l) = if l < n then G 4 (20 * b + l) + G 4 (20 * a + l) else G 4 (20 * b + l)) ∧ (pourT G a b n 4 (20 * a + l) = if l < n then 0 else G 4 (20 * a + l)) ∧ ∀ c, c ≠ a → c ≠ b → pourT G a b n 4 (20 * c + l) = G 4 (20 * c + l) := by
  intro n
  induction n with
  | zero => intro _ l hl; exact ⟨rfl, rfl, fun _ _ _ => rfl⟩
  | succ n ih =>
    intro hn l hl
    obtain ⟨i1, i2, i3⟩ := ih (by omega) l hl
    obtain ⟨m1, m2, -⟩ := ih (by omega) n (by omega)
    rw [if_neg (Nat.lt_irrefl n)] at m1 m2
    rw [pourT, m1, m2]
    refine ⟨?_, ?_, fun c hca hcb => ?_⟩
    · rw [up2_n (by omega)]
      by_cases e : l = n
      · subst e
        rw [up2_s, if_pos (by omega)]
      · rw [up2_n (by omega), i1]
        by_cases e2 : l < n
        · rw [if_pos e2, if_pos (by omega)]
        · rw [if_neg e2, if_neg (by omega)]
    · by_cases e : l = n
      · subst e
        rw [up2_s, if_pos (by omega)]
      · rw [up2_n (by omega), up2_n (by omega), i2]
        by_cases e2 : l < n
        · rw [if_pos e2, if_pos (by omega)]
        · rw [if_neg e2, if_neg (by omega)]
    · rw [up2_n (by omega), up2_n (by omega)]
      exact i3 c hca hcb
theorem pour_at {N : Nat → Nat} {G : Nat → Nat → Nat} (hN : N 3 ≤ 10) (hC : CsOk N G) {a b : Int32} (hB : pourB N G a b = true) : ∃ i j : Nat, i < N 3 ∧ j < N 3 ∧ i ≠ j ∧ a = nI i ∧ b = nI j ∧ G 6 i ≤ 1 ∧ G 6 j ≤ 1 ∧ 0 < gr G i ∧ 0 < gr G j := by
  unfold pourB at hB
  simp only [Bool.and_eq_true] at hB
  obtain ⟨b1, b2, b3, b4, b5⟩ := hB
  obtain ⟨i, i1, rfl, i2⟩ := lvI_nat (by omega) b1
  obtain ⟨j, j1, rfl, j2⟩ := lvI_nat (by omega) b2
  rw [tn_nI (by omega)] at b4 b5
  have hij : i ≠ j := fun e => by rw [e] at b3; simp at b3
  exact ⟨i, j, i1, j1, hij, rfl, rfl, i2, j2, nI_n0 (by simpa using b4), nI_n0 (by simpa using b5)⟩
theorem pourG_o {N : Nat → Nat} {G : Nat → Nat → Nat} {a b k : Nat} (h4 : k ≠ 4) (h6 : k ≠ 6) (h7 : k ≠ 7) (h8 : k ≠ 8) (h9 : k ≠ 9) : pourG N G a b k = G k := by
  unfold pourG
  rw [up2_o h6, up2_o h6, up2_o h8, up2_o h9, pourT_o h4, up2_o h7]
theorem pourG_4 {N : Nat → Nat} {G : Nat → Nat → Nat} {a b : Nat} : pourG N G a b 4 = pourT (up2 G 7 b ((gr G a * G 7 a + gr G b * G 7 b) / (gr G a + gr G b))) a b 20 4 := by
  unfold pourG
  rw [up2_o (by decide), up2_o (by decide), up2_o (by decide), up2_o (by decide)]
theorem pourG_6 {N : Nat → Nat} {G : Nat → Nat → Nat} {a b : Nat} (c : Nat) : pourG N G a b 6 c = if c = a then 4 else if c = b then 0 else G 6 c := by
  unfold pourG
  by_cases e : c = a
  · rw [if_pos e, e, up2_s]
  · rw [if_neg e, up2_n e]
    by_cases e2 : c = b
    · rw [if_pos e2, e2, up2_s]
    · rw [if_neg e2, up2_n e2, up2_o (by decide), up2_o (by decide), pourT_o (by decide), up2_o (by decide)]
theorem pourG_7 {N : Nat → Nat} {G : Nat → Nat → Nat} {a b : Nat} (c : Nat) : pourG N G a b 7 c = if c = b then (gr G a * G 7 a + gr G b * G 7 b) / (gr G a + gr G b) else G 7 c := by
  unfold pourG
  rw [up2_o (by decide), up2_o (by decide), up2_o (by decide), up2_o (by decide), pourT_o (by decide)]
  by_cases e : c = b
  · rw [if_pos e, e, up2_s]
  · rw [if_neg e, up2_n e]
theorem pourG_8 {N : Nat → Nat} {G : Nat → Nat → Nat} {a b : Nat} (c : Nat) : pourG N G a b 8 c = if c = b then (if G 8 b < G 8 a then G 8 a else G 8 b) else G 8 c := by
  unfold pourG
  rw [up2_o (by decide), up2_o (by decide)]
  by_cases e : c = b
  · rw [if_pos e, e, up2_s]
  · rw [if_neg e, up2_n e, up2_o (by decide), pourT_o (by decide), up2_o (by decide)]
theorem pourG_9 {N : Nat → Nat} {G : Nat → Nat → Nat} {a b : Nat} (c : Nat) : pourG N G a b 9 c = if c = b then N 14 else G 9 c := by
  unfold pourG
  rw [up2_o (by decide), up2_o (by decide), up2_o (by decide)]
  by_cases e : c = b
  · rw [if_pos e, e, up2_s]
  · rw [if_neg e, up2_n e, pourT_o (by decide), up2_o (by decide)]
theorem WI.pour {N : Nat → Nat} {G : Nat → Nat → Nat} {J : Nat → Nat → Int32} (h : WI N G J) {a b : Int32} (hB : pourB N G a b = true) : WI N (pourG N G (tn a) (tn b)) (pourJ N G J (tn a) (tn b)) := by
  obtain ⟨a1, a2, a3, a4, a5, a6⟩ := h
  have hb := a1.2.1
  obtain ⟨i, j, i1, j1, hij, rfl, rfl, i2, j2, g1, g2⟩ := pour_at (by omega) a2 hB
  rw [tn_nI (by omega), tn_nI (by omega)]
  obtain ⟨c1, c2, c3, c4, c5, c6⟩ := a1
  have e4 : ∀ c l, l < 20 → pourG N G i j 4 (20 * c + l) = if c = j then G 4 (20 * j + l) + G 4 (20 * i + l) else if c = i then 0 else G 4 (20 * c + l) := by
    intro c l hl
    rw [pourG_4]
    obtain ⟨r1, r2, r3⟩ := pourT_row (G := up2 G 7 j ((gr G i * G 7 i + gr G j * G 7 j) / (gr G i + gr G j))) hij 20 (Nat.le_refl _) l hl
    by_cases e : c = j
    · subst e
      rw [if_pos rfl, r1, if_pos hl, up2_o (by decide)]
    · rw [if_neg e]
      by_cases e2 : c = i
      · subst e2
        rw [if_pos rfl, r2, if_pos hl]
      · rw [if_neg e2, r3 c e2 e, up2_o (by decide)]
  have e7 : ∀ c, pourG N G i j 7 c ≤ 60 := by
    intro c
    rw [pourG_7]
    split
    · exact mix_le (c3 i).2.1 (c3 j).2.1 (by omega)
    · exact (c3 c).2.1
  have e8 : ∀ c, pourG N G i j 8 c ≤ 100 ∧ (c ≠ j → pourG N G i j 8 c = G 8 c) := by
    intro c
    rw [pourG_8]
    refine ⟨?_, fun q => by rw [if_neg q]⟩
    split
    · split
      · exact (c3 i).2.2
      · exact (c3 j).2.2
    · exact (c3 c).2.2
  have e6 : ∀ c, c ≠ i → c ≠ j → pourG N G i j 6 c = G 6 c := by
    intro c h1 h2
    rw [pourG_6, if_neg h1, if_neg h2]
  refine ⟨⟨fun x y => ?_, c2, fun c => ⟨?_, e7 c, (e8 c).1⟩, fun c => ?_, fun c hc => ?_, fun r hr => ?_⟩, fun l hl => ?_, a3.cg (pourG_o (by decide) (by decide) (by decide) (by decide) (by decide)) (pourG_o (by decide) (by decide) (by decide) (by decide) (by decide)), a4.cg (Nat.le_refl _) (fun c l hc hl => ?_) (fun c hc => ⟨e6 c (by omega) (by omega), (e8 c).2 (by omega), ?_, ?_⟩), a5.cg (pourG_o (by decide) (by decide) (by decide) (by decide) (by decide)), a6.1, a6.2.cg (pourG_o (by decide) (by decide) (by decide) (by decide) (by decide)) (pourG_o (by decide) (by decide) (by decide) (by decide) (by decide))⟩
  · by_cases x4 : x = 4
    · subst x4
      by_cases hy : y < 200
      · rw [show y = 20 * (y / 20) + y % 20 by omega, e4 _ _ (by omega)]
        split
        · have q1 := a2.one (c := j) (l := y % 20) (by omega) (by omega)
          have q2 := a2.one (c := i) (l := y % 20) (by omega) (by omega)
          omega
        · split
          · decide
          · exact c1 _ _
      · rw [show y = 20 * (y / 20) + y % 20 by omega, e4 _ _ (by omega), if_neg (by omega), if_neg (by omega)]
        exact c1 _ _
    · by_cases x7 : x = 7
      · subst x7; have := e7 y; omega
      · by_cases x8 : x = 8
        · subst x8; have := (e8 y).1; omega
        · by_cases x6 : x = 6
          · subst x6
            rw [pourG_6]
            split
            · decide
            · split
              · decide
              · exact c1 _ _
          · by_cases x9 : x = 9
            · subst x9
              rw [pourG_9]
              split
              · omega
              · exact c1 _ _
            · rw [pourG_o x4 x6 x7 x8 x9]; exact c1 _ _
  · rw [pourG_o (by decide) (by decide) (by decide) (by decide) (by decide)]; exact (c3 c).1
  · rw [pourG_o (k := 18) (by decide) (by decide) (by decide) (by decide) (by decide), pourG_o (k := 27) (by decide) (by decide) (by decide) (by decide) (by decide)]; exact c4 c
  · rw [pourG_o (k := 17) (by decide) (by decide) (by decide) (by decide) (by decide)] at hc; exact c5 c hc
  · rw [pourG_o (k := 25) (by decide) (by decide) (by decide) (by decide) (by decide), pourG_o (k := 28) (by decide) (by decide) (by decide) (by decide) (by decide), pourG_o (k := 29) (by decide) (by decide) (by decide) (by decide) (by decide)]; exact c6 r hr
  · have q := a2 l hl
    unfold tot at q ⊢
    rw [pourG_o (k := 2) (by decide) (by decide) (by decide) (by decide) (by decide), sumTo_move (f := fun c => G 4 (20 * c + l)) (h := fun c => pourG N G i j 4 (20 * c + l)) (a := i) (b := j) (n := 10) (by omega) (by omega) hij (by show pourG N G i j 4 _ = _; rw [e4 _ _ hl, if_pos rfl]) (by show pourG N G i j 4 _ = _; rw [e4 _ _ hl, if_neg hij, if_pos rfl]) (fun c h1 h2 => by show pourG N G i j 4 _ = _; rw [e4 _ _ hl, if_neg h2, if_neg h1])]
    exact q
  · rw [e4 c l hl, if_neg (by omega), if_neg (by omega)]
  · unfold pourJ
    rw [up2_o (by decide), up2_n (by omega)]
  · unfold pourJ
    rw [up2_n (by omega), up2_o (by decide)]
theorem HOk.pour {N : Nat → Nat} {G : Nat → Nat → Nat} {J : Nat → Nat → Int32} {X : Nat → Nat → Nat} {Y : Nat → Nat → Nat → Int32} (h : HOk N G J X Y) (hN : N 3 ≤ 10) (hC : CsOk N G) {a b : Int32} (hB : pourB N G a b = true) : HOk N (pourG N G (tn a) (tn b)) (pourJ N G J (tn a) (tn b)) X (up3 Y 0 (tn a) 0 (-1)) := by
  obtain ⟨i, j, i1, j1, hij, rfl, rfl, i2, j2, g1, g2⟩ := pour_at hN hC hB
  rw [tn_nI (by omega), tn_nI (by omega)]
  obtain ⟨a1, a2, a3, a4, a5⟩ := h
  have e5 : pourG N G i j 5 = G 5 := pourG_o (by decide) (by decide) (by decide) (by decide) (by decide)
  have e12 : pourG N G i j 12 = G 12 := pourG_o (by decide) (by decide) (by decide) (by decide) (by decide)
  have e17 : pourG N G i j 17 = G 17 := pourG_o (by decide) (by decide) (by decide) (by decide) (by decide)
  have e20 : pourG N G i j 20 = G 20 := pourG_o (by decide) (by decide) (by decide) (by decide) (by decide)
  have e25 : pourG N G i j 25 = G 25 := pourG_o (by decide) (by decide) (by decide) (by decide) (by decide)
  have e28 : pourG N G i j 28 = G 28 := pourG_o (by decide) (by decide) (by decide) (by decide) (by decide)
  have e9 : ∀ c, pourG N G i j 9 c = if c = j then N 14 else G 9 c := pourG_9
  have e6 : ∀ c, c ≠ i → lv (pourG N G i j) c = true → lv G c = true := by
    intro c h1 h2
    by_cases h3 : c = j
    · rw [h3]; exact decide_eq_true j2
    · unfold lv at h2 ⊢
      rw [pourG_6, if_neg h1, if_neg h3] at h2
      exact h2
  have e6i : lv (pourG N G i j) i = true → False := by
    intro h1
    have h1 := of_decide_eq_true h1
    rw [pourG_6, if_pos rfl] at h1
    omega
  refine ⟨⟨a1.1, fun r hr => by rw [e25]; exact a1.2.1 r hr, fun k h1 h2 => by rw [e28]; rw [e25] at h2; exact a1.2.2 k h1 h2⟩, fun c hc hl => ?_, fun c hc hl q hq1 hq2 => ?_, fun z hz => ?_, fun k hk => ?_⟩
  · by_cases e : c = i
    · rw [e] at hl; exact (e6i hl).elim
    · rw [e5, ← a2 c hc (e6 c e hl)]
      show (if (0 : Nat) = 0 then (if c = i then (if (0 : Nat) = 0 then _ else _) else _) else _) = _
      rw [if_pos rfl, if_neg e]
  · by_cases e : c = i
    · rw [e] at hl; exact (e6i hl).elim
    · rw [e9] at hq1
      by_cases e2 : c = j
      · rw [if_pos e2] at hq1; omega
      · rw [if_neg e2] at hq1
        rw [e12]
        exact a3 c hc (e6 c e hl) q hq1 hq2
  · rw [e17, show pourJ N G J i j 16 = J 16 by unfold pourJ; rw [up2_o (by decide), up2_o (by decide)]]; exact a4 z hz
  · rw [e20]; exact a5 k hk
/-! hours -/
def Ev (m : Nat) (N : Nat → Nat) (G : Nat → Nat → Nat) (J : Nat → Nat → Int32) (N1 : Nat → Nat) (G1 : Nat → Nat → Nat) (J1 : Nat → Nat → Int32) : Prop := (∀ k, k ≠ 14 → k ≠ 15 → N1 k = N k) ∧ KeepG G G1 ∧ (∀ i, G1 4 i ≤ G 4 i) ∧ (∀ c, m ≤ c → G1 6 c = G 6 c ∧ G1 8 c = G 8 c) ∧ ∀ a, a ≠ 13 → J1 a = J a
theorem Ev.rf {m : Nat} {N : Nat → Nat} {G : Nat → Nat → Nat} {J : Nat → Nat → Int32} : Ev m N G J N G J := ⟨fun _ _ _ => rfl, KeepG.rf, fun _ => Nat.le_refl _, fun _ _ => ⟨rfl, rfl⟩, fun _ _ => rfl⟩
theorem Ev.tr {m : Nat} {N N1 N2 : Nat → Nat} {G G1 G2 : Nat → Nat → Nat} {J J1 J2 : Nat → Nat → Int32} (h : Ev m N G J N1 G1 J1) (q : Ev m N1 G1 J1 N2 G2 J2) : Ev m N G J N2 G2 J2 :=
  ⟨fun k a b => (q.1 k a b).trans (h.1 k a b), h.2.1.tr q.2.1, fun i => Nat.le_trans (q.2.2.1 i) (h.2.2.1 i), fun c hc => ⟨(q.2.2.2.1 c hc).1.trans (h.2.2.2.1 c hc).1, (q.2.2.2.1 c hc).2.trans (h.2.2.2.1 c hc).2⟩, fun a ha => (q.2.2.2.2 a ha).trans (h.2.2.2.2 a ha)⟩
theorem Ev.n15 {m : Nat} {N : Nat → Nat} {G : Nat → Nat → Nat} {J : Nat → Nat → Int32} (v : Nat) : Ev m N G J (up1 N 15 v) G J := ⟨fun k _ h => up1_o h, KeepG.rf, fun _ => Nat.le_refl _, fun _ _ => ⟨rfl, rfl⟩, fun _ _ => rfl⟩
theorem Ev.n14 {m : Nat} {N : Nat → Nat} {G : Nat → Nat → Nat} {J : Nat → Nat → Int32} (v : Nat) : Ev m N G J (up1 N 14 v) G J := ⟨fun k h _ => up1_o h, KeepG.rf, fun _ => Nat.le_refl _, fun _ _ => ⟨rfl, rfl⟩, fun _ _ => rfl⟩
theorem Ev.j13 {m : Nat} {N : Nat → Nat} {G : Nat → Nat → Nat} {J : Nat → Nat → Int32} (i : Nat) (v : Int32) : Ev m N G J N G (up2 J 13 i v) := ⟨fun _ _ _ => rfl, KeepG.rf, fun _ => Nat.le_refl _, fun _ _ => ⟨rfl, rfl⟩, fun _ h => up2_o h⟩
theorem Ev.up {m : Nat} {N : Nat → Nat} {G : Nat → Nat → Nat} {J : Nat → Nat → Int32} {k i v : Nat} (hk : hotK k = true) (h4 : k = 4 → v = 0) (hi : k = 6 ∨ k = 8 → i < m) : Ev m N G J N (up2 G k i v) J := by
  refine ⟨fun _ _ _ => rfl, KeepG.rf.up hk, fun q => ?_, fun c hc => ⟨?_, ?_⟩, fun _ _ => rfl⟩
  · by_cases e : k = 4
    · rw [h4 e, e]
      by_cases e2 : q = i
      · rw [e2, up2_s]; omega
      · rw [up2_n e2]; omega
    · rw [up2_o (fun q => e q.symm)]; omega
  · by_cases e : k = 6
    · have := hi (Or.inl e); rw [e, up2_n (by omega)]
    · rw [up2_o (fun q => e q.symm)]
  · by_cases e : k = 8
    · have := hi (Or.inr e); rw [e, up2_n (by omega)]
    · rw [up2_o (fun q => e q.symm)]
theorem Ev.zero {m : Nat} {N : Nat → Nat} {G : Nat → Nat → Nat} {J : Nat → Nat → Int32} (c : Nat) : ∀ n, Ev m N G J N (zeroG G c n) J := by
  intro n
  induction n with
  | zero => exact Ev.rf
  | succ n ih => exact ih.tr (Ev.up rfl (fun _ => rfl) (fun q => by omega))
theorem Ev.goes {m : Nat} {N : Nat → Nat} {G : Nat → Nat → Nat} {J : Nat → Nat → Int32} {c s : Nat} (hc : c < m) : Ev m N G J N (goesG G c s) J := (Ev.zero c 20).tr (Ev.up rfl (fun e => by cases e) (fun _ => hc))
theorem Ev.mv {m : Nat} {N : Nat → Nat} {G : Nat → Nat → Nat} {J : Nat → Nat → Int32} (n c lo k : Nat) : Ev m N G J N (mvG G n c lo k) J := by
  unfold mvG
  split
  · exact Ev.rf
  · exact Ev.up rfl (fun e => by cases e) (fun q => by omega)
theorem Ev.act {m : Nat} {N : Nat → Nat} {G : Nat → Nat → Nat} {J : Nat → Nat → Int32} {c : Nat} (hc : c < m) (r : Nat) : Ev m N G J (actN N G c r) (actG N G c r) J := by
  have h1 : Ev m N G J N (actG N G c r) J := by
    unfold actG
    split
    · exact Ev.up rfl (fun e => by cases e) (fun _ => hc)
    · split
      · exact Ev.goes hc
      · split
        · exact Ev.up rfl (fun e => by cases e) (fun _ => hc)
        · split
          · split
            · exact Ev.mv _ _ _ _
            · exact Ev.rf
          · split
            · split
              · exact Ev.mv _ _ _ _
              · exact Ev.rf
            · exact Ev.up rfl (fun e => by cases e) (fun _ => hc)
  refine h1.tr ?_
  unfold actN
  split
  · exact Ev.n15 _
  · exact Ev.rf
theorem Ev.ru {m : Nat} {N : Nat → Nat} {G : Nat → Nat → Nat} {J : Nat → Nat → Int32} {c b : Nat} (hc : c < m) : ∀ q, Ev m N G J (ruS J c b N G q).1 (ruS J c b N G q).2 J := by
  intro q
  induction q with
  | zero => exact Ev.rf
  | succ q ih =>
    rw [ruS]
    split
    · exact ih.tr (Ev.act hc _)
    · exact ih
theorem Ev.tk {m : Nat} {N : Nat → Nat} {G : Nat → Nat → Nat} {J : Nat → Nat → Int32} {c : Nat} (hc : c < m) : Ev m N G J (tkS N G J c).1 (tkS N G J c).2.1 (tkS N G J c).2.2 := by
  unfold tkS
  split
  · exact (Ev.up (k := 12) rfl (fun e => by cases e) (fun q => by omega)).tr ((Ev.up (k := 8) rfl (fun e => by cases e) (fun _ => hc)).tr ((Ev.goes hc).tr ((Ev.n15 _).tr (Ev.j13 _ _))))
  · exact (Ev.up (k := 12) rfl (fun e => by cases e) (fun q => by omega)).tr ((Ev.up (k := 8) rfl (fun e => by cases e) (fun _ => hc)).tr (Ev.j13 _ _))
theorem Ev.ch {m : Nat} {N : Nat → Nat} {G : Nat → Nat → Nat} {J : Nat → Nat → Int32} {c : Nat} (hc : c < m) (rc : Option Nat) : Ev m N G J (chS rc N G J c).1 (chS rc N G J c).2.1 (chS rc N G J c).2.2 := by
  have h1 : Ev m N G J (ruA rc J c N G).1 (ruA rc J c N G).2 J := by
    unfold ruA
    split
    · exact Ev.rf
    · exact Ev.ru hc _
  unfold chS
  split
  · exact h1.tr (Ev.tk hc)
  · exact h1
theorem Ev.cr {m : Nat} {N : Nat → Nat} {G : Nat → Nat → Nat} {J : Nat → Nat → Int32} (rc : Option Nat) : ∀ c, c ≤ m → Ev m N G J (crT rc N G J c).1 (crT rc N G J c).2.1 (crT rc N G J c).2.2 := by
  intro c
  induction c with
  | zero => intro _; exact Ev.rf
  | succ c ih => intro hc; rw [crT]; exact (ih (by omega)).tr (Ev.ch (by omega) rc)
theorem Ev.ho {N : Nat → Nat} {G : Nat → Nat → Nat} {J : Nat → Nat → Int32} : ∀ n, Ev (N 3) N G J (hoT N G J n).1 (hoT N G J n).2.1 (hoT N G J n).2.2 := by
  intro n
  induction n with
  | zero => exact Ev.rf
  | succ n ih =>
    rw [hoT]
    have e3 : (hoT N G J n).1 3 = N 3 := ih.1 3 (by decide) (by decide)
    unfold hrS
    refine ih.tr (Ev.tr ?_ (Ev.n14 _))
    rw [e3]
    exact Ev.cr _ _ (Nat.le_refl _)
theorem WI.ev {N N1 : Nat → Nat} {G G1 : Nat → Nat → Nat} {J J1 : Nat → Nat → Int32} (h : WI N G J) (e : Ev (N 3) N G J N1 G1 J1) (ho : OkS N1 G1 J1) (hr : R2Ok G1) : WI N1 G1 J1 := by
  obtain ⟨a1, a2, a3, a4, a5, a6⟩ := h
  obtain ⟨e1, e2, e3, e4, e5⟩ := e
  refine ⟨ho, fun l hl => ?_, hr, fun c hc => ?_, a5.cg (e2 48 rfl), by rw [e1 39 (by decide) (by decide)]; exact a6.1, a6.2.cg (e2 28 rfl) (e2 29 rfl)⟩
  · obtain ⟨c1, c2⟩ := a2 l hl
    have hs := sumTo_mono2 (f := fun c => G 4 (20 * c + l)) (h := fun c => G1 4 (20 * c + l)) (n := 10) (fun c _ => e3 _)
    unfold tot at c1 c2 ⊢
    rw [e2 2 rfl, e1 1 (by decide) (by decide)]
    exact ⟨by omega, fun q => by have := c2 q; omega⟩
  · rw [e1 3 (by decide) (by decide)] at hc
    obtain ⟨b1, b2, b3, b4, b5⟩ := a4 c hc
    refine ⟨fun l hl => ?_, by rw [(e4 c hc).1]; exact b2, by rw [(e4 c hc).2]; exact b3, by rw [e5 10 (by decide)]; exact b4, by rw [e5 11 (by decide)]; exact b5⟩
    have := e3 (20 * c + l)
    have := b1 l hl
    omega
/-! recipes -/
def RvG (G G1 : Nat → Nat → Nat) : Prop := (∀ a, a < 25 ∨ 31 < a → G1 a = G a) ∧ (∀ r, r ≠ 10 → G1 25 r = G 25 r) ∧ (∀ a i, a = 26 ∨ a = 27 ∨ a = 28 → i < 100 → G1 a i = G a i) ∧ ∀ a i, a = 29 ∨ a = 30 ∨ a = 31 → i < 300 → G1 a i = G a i
theorem RvG.rf {G : Nat → Nat → Nat} : RvG G G := ⟨fun _ _ => rfl, fun _ _ => rfl, fun _ _ _ _ => rfl, fun _ _ _ _ => rfl⟩
theorem RvG.tr {G G1 G2 : Nat → Nat → Nat} (h : RvG G G1) (q : RvG G1 G2) : RvG G G2 := ⟨fun a ha => (q.1 a ha).trans (h.1 a ha), fun r hr => (q.2.1 r hr).trans (h.2.1 r hr), fun a i ha hi => (q.2.2.1 a i ha hi).trans (h.2.2.1 a i ha hi), fun a i ha hi => (q.2.2.2 a i ha hi).trans (h.2.2.2 a i ha hi)⟩
theorem up2_e {G : Nat → Nat → Nat} {k i v a j : Nat} (h : ¬ (a = k ∧ j = i)) : up2 G k i v a j = G a j := by
  by_cases e : a = k
  · rw [e, up2_n (fun q => h ⟨e, q⟩)]
  · rw [up2_o e]
theorem RvG.up {G : Nat → Nat → Nat} {k i v : Nat} (h : (k = 25 ∧ i = 10) ∨ ((k = 26 ∨ k = 27 ∨ k = 28) ∧ 100 ≤ i) ∨ ((k = 29 ∨ k = 30 ∨ k = 31) ∧ 300 ≤ i)) : RvG G (up2 G k i v) := by
  refine ⟨fun a ha => up2_o (by omega), fun r hr => up2_e (by omega), fun a j ha hj => up2_e (by omega), fun a j ha hj => up2_e (by omega)⟩
def SpV (G : Nat → Nat → Nat) : Prop := ∀ i, G 26 i ≤ 5 ∧ G 27 i ≤ 9999 ∧ G 28 i ≤ 3 ∧ G 29 i ≤ 7 ∧ G 30 i ≤ 2
theorem up2_le {G : Nat → Nat → Nat} {k i v a b : Nat} (h : ∀ j, G a j ≤ b) (hv : k = a → v ≤ b) : ∀ j, up2 G k i v a j ≤ b := by
  intro j
  by_cases e : a = k
  · by_cases e2 : j = i
    · rw [e2]; rw [e]; rw [up2_s]; exact hv e.symm
    · rw [e, up2_n e2, ← e]; exact h j
  · rw [up2_o e]; exact h j
theorem SpV.up {G : Nat → Nat → Nat} (h : SpV G) {k i v : Nat} (h6 : k = 26 → v ≤ 5) (h7 : k = 27 → v ≤ 9999) (h8 : k = 28 → v ≤ 3) (h9 : k = 29 → v ≤ 7) (h0 : k = 30 → v ≤ 2) : SpV (up2 G k i v) :=
  fun j => ⟨up2_le (fun j => (h j).1) h6 j, up2_le (fun j => (h j).2.1) h7 j, up2_le (fun j => (h j).2.2.1) h8 j, up2_le (fun j => (h j).2.2.2.1) h9 j, up2_le (fun j => (h j).2.2.2.2) h0 j⟩
def SpR (G G1 : Nat → Nat → Nat) : Prop := RvG G G1 ∧ (SpV G → SpV G1)
theorem SpR.rf {G : Nat → Nat → Nat} : SpR G G := ⟨RvG.rf, id⟩
theorem SpR.tr {G G1 G2 : Nat → Nat → Nat} (h : SpR G G1) (q : SpR G1 G2) : SpR G G2 := ⟨h.1.tr q.1, fun s => q.2 (h.2 s)⟩
theorem SpR.up {G : Nat → Nat → Nat} {k i v : Nat} (h : (k = 25 ∧ i = 10) ∨ ((k = 26 ∨ k = 27 ∨ k = 28) ∧ 100 ≤ i) ∨ ((k = 29 ∨ k = 30 ∨ k = 31) ∧ 300 ≤ i)) (h6 : k = 26 → v ≤ 5) (h7 : k = 27 → v ≤ 9999) (h8 : k = 28 → v ≤ 3) (h9 : k = 29 → v ≤ 7) (h0 : k = 30 → v ≤ 2) : SpR G (up2 G k i v) := ⟨RvG.up h, fun s => s.up h6 h7 h8 h9 h0⟩
theorem SpR.co {N : Nat → Nat} {I : Nat → Int32} {G : Nat → Nat → Nat} {J : Nat → Nat → Int32} {r : Nat} (h : PsOk N) (h3 : G 28 r ≤ 3) (hr : 100 ≤ r) : SpR G (coT N I G J r).2.2.2 := by
  unfold coT
  split
  · exact SpR.rf
  · rename_i f hf
    have hf := whQ14 hf
    split
    · exact SpR.rf
    · split
      · have hv := nuV_le ((h.tok (J := J)).tok (J := J))
        have hl := relS_le (tokN N J) J
        exact (SpR.up (k := 29) (by omega) (by omega) (by omega) (by omega) (fun _ => hf) (by omega)).tr ((SpR.up (k := 30) (by omega) (by omega) (by omega) (by omega) (by omega) (fun _ => hl)).tr ((SpR.up (k := 31) (by omega) (by omega) (by omega) (by omega) (by omega) (by omega)).tr (SpR.up (k := 28) (by omega) (by omega) (by omega) (fun _ => by omega) (by omega) (by omega))))
      · exact SpR.up (k := 29) (by omega) (by omega) (by omega) (by omega) (fun _ => hf) (by omega)
theorem SpR.cl {J : Nat → Nat → Int32} {r : Nat} (hr : 100 ≤ r) : ∀ {n : Nat} {N : Nat → Nat} {I : Nat → Int32} {G : Nat → Nat → Nat}, PsOk N → (∀ a b, G a b < 2 ^ 31) → G 28 r ≤ 3 → SpR G (clT J r n N I G).2.2.2 := by
  intro n
  induction n with
  | zero => intro N I G _ _ _; exact SpR.rf
  | succ n ih =>
    intro N I G h hG h3
    have h1 := SpR.co (I := I) (J := J) (h.tok (J := J)) h3 hr
    obtain ⟨k1, k2, k3, -, -⟩ := coT_ok (I := I) (J := J) (r := r) (h.tok (J := J)) hG h3
    rw [clT]
    split
    · exact h1
    · split
      · exact h1.tr (ih k1 k2 k3)
      · exact h1
theorem SpR.en {N : Nat → Nat} {I : Nat → Int32} {G : Nat → Nat → Nat} {J : Nat → Nat → Int32} {r a : Nat} (h : PsOk N) (hr : 100 ≤ r) (ha : a ≤ 5) : SpR G (enT N I G J r a).2.2.2 := by
  have hv := (mo3_ok (I := I) (J := J) (a := a) h).2
  have h1 : SpR G (up2 (up2 G 26 r a) 27 r (mo3 N I J a).1) := (SpR.up (k := 26) (by omega) (fun _ => ha) (by omega) (by omega) (by omega) (by omega)).tr (SpR.up (k := 27) (by omega) (by omega) (fun _ => hv) (by omega) (by omega) (by omega))
  unfold enT
  show SpR G (if _ then _ else _)
  split
  · exact h1.tr (SpR.up (k := 25) (by omega) (by omega) (by omega) (by omega) (by omega) (by omega))
  · exact h1
theorem SpR.ac {N : Nat → Nat} {I : Nat → Int32} {G : Nat → Nat → Nat} {J : Nat → Nat → Int32} {r : Nat} (h : PsOk N) (hr : 100 ≤ r) : SpR G (acT N I G J r).2.2.2 := by
  unfold acT
  split
  · exact SpR.rf
  · rename_i a hw
    exact SpR.en h hr (whQ13 hw)
theorem SpR.ru {N : Nat → Nat} {I : Nat → Int32} {G : Nat → Nat → Nat} {J : Nat → Nat → Int32} (h : PsOk N) (hG : GrOk G) : SpR G (ruT N I G J).2.2.2 := by
  unfold ruT
  split
  · exact SpR.rf
  · split
    · exact SpR.rf
    · have h0 : SpR G (up2 G 28 (100 + G 25 10) 0) := SpR.up (k := 28) (by omega) (by omega) (by omega) (by omega) (by omega) (by omega)
      have hB : ∀ a b, up2 G 28 (100 + G 25 10) 0 a b < 2 ^ 31 := up2_B hG.1 (by decide)
      split
      · have h1 := SpR.cl (J := J) (r := 100 + G 25 10) (by omega) (n := 4) (I := I) h hB (by rw [up2_s]; omega)
        have k1 := (clT_ok (J := J) (r := 100 + G 25 10) (n := 4) (I := I) h hB (by rw [up2_s]; omega)).1
        unfold coA
        split
        · exact h0.tr h1
        · split
          · exact h0.tr h1
          · exact h0.tr (h1.tr (SpR.ac k1.mu (by omega)))
      · exact h0.tr (SpR.ac h (by omega))
theorem rl_all {J : Nat → Nat → Int32} : ∀ {n : Nat} {N : Nat → Nat} {I : Nat → Int32} {G : Nat → Nat → Nat}, PsOk N → GrOk G → PsOk (rlT J n N I G).2.1 ∧ GrOk (rlT J n N I G).2.2.2 ∧ SpR G (rlT J n N I G).2.2.2 := by
  intro n
  induction n with
  | zero => intro N I G h hG; exact ⟨h, hG, SpR.rf⟩
  | succ n ih =>
    intro N I G h hG
    obtain ⟨k1, k2, -⟩ := ruT_ok (I := I) (J := J) h hG
    have k3 := SpR.ru (I := I) (J := J) h hG
    rw [rlT]
    split
    · exact ⟨h, hG, SpR.rf⟩
    · split
      · obtain ⟨j1, j2, j3⟩ := ih (I := (ruT N I G J).2.2.1) k1 k2
        exact ⟨j1, j2, k3.tr j3⟩
      · exact ⟨k1, k2, k3⟩
theorem re_all {N : Nat → Nat} {I : Nat → Int32} {G : Nat → Nat → Nat} {J : Nat → Nat → Int32} (hN : N 33 ≤ 300) (h39 : N 39 ≤ 9999) (hB : ∀ a b, G a b < 2 ^ 31) : PsOk (reT N I G J).2.1 ∧ GrOk (reT N I G J).2.2.2 ∧ SpR G (reT N I G J).2.2.2 := by
  have h1 : PsOk (reN N J) := PsOk.tok0 hN (Nat.zero_le _) (Nat.zero_le _) h39
  obtain ⟨k1, k2, k3⟩ := rl_all (J := J) (n := 11) (I := up1 I 35 (-1)) h1 (G := up2 G 25 10 0) ⟨up2_B hB (by decide), by rw [up2_s]; omega⟩
  exact ⟨k1, k2, (SpR.up (by omega) (by omega) (by omega) (by omega) (by omega) (by omega)).tr k3⟩
theorem WI.rv {N N1 : Nat → Nat} {G G1 : Nat → Nat → Nat} {J : Nat → Nat → Int32} (h : WI N G J) (hG : RvG G G1) (hS : SpV G1) (hB : ∀ a b, G1 a b < 2 ^ 31) (h39 : N1 39 ≤ 9999) (hN : ∀ k, k = 1 ∨ k = 3 ∨ k = 14 ∨ k = 19 ∨ k = 40 ∨ k = 44 ∨ k = 23 → N1 k = N k) (h33 : N1 33 ≤ 300) : WI N1 G1 J := by
  obtain ⟨a1, a2, a3, a4, a5, a6⟩ := h
  obtain ⟨c1, c2, c3, c4, c5, c6⟩ := a1
  have n1 := hN 1 (by omega)
  have n3 := hN 3 (by omega)
  have n14 := hN 14 (by omega)
  have n19 := hN 19 (by omega)
  have n23 := hN 23 (by omega)
  have n40 := hN 40 (by omega)
  have n44 := hN 44 (by omega)
  refine ⟨⟨hB, by omega, fun c => ?_, fun c => ?_, fun c hc => ?_, fun r hr => ?_⟩, a2.cg n1 (hG.1 2 (by omega)) (hG.1 4 (by omega)), fun i => ⟨(hS i).1, (hS i).2.2.2.2⟩, a4.cg (by omega) (fun _ _ _ _ => by rw [hG.1 4 (by omega)]) (fun c _ => ⟨by rw [hG.1 6 (by omega)], by rw [hG.1 8 (by omega)], rfl, rfl⟩), a5.cg (hG.1 48 (by omega)), h39, fun i => ⟨(hS i).2.2.1, (hS i).2.2.2.1⟩⟩
  · rw [hG.1 5 (by omega), hG.1 7 (by omega), hG.1 8 (by omega)]; exact c3 c
  · rw [hG.1 18 (by omega)]; exact ⟨(c4 c).1, (hS c).2.1⟩
  · rw [hG.1 17 (by omega)] at hc; exact c5 c hc
  · rw [hG.2.1 r (by omega)]
    exact ⟨(c6 r (by omega)).1, fun k _ => ⟨(hS _).2.2.1, fun j _ => (hS _).2.2.2.1⟩⟩
theorem WI.sp {N : Nat → Nat} {G : Nat → Nat → Nat} {J : Nat → Nat → Int32} (h : WI N G J) : SpV G := fun i => ⟨(h.2.2.1 i).1, (h.1.2.2.2.1 i).2, (h.2.2.2.2.2.2 i).1, (h.2.2.2.2.2.2 i).2, (h.2.2.1 i).2⟩
theorem WI.rec0 {N : Nat → Nat} {I : Nat → Int32} {G : Nat → Nat → Nat} {J : Nat → Nat → Int32} (h : WI N G J) : WI (up1 (reT N I G J).2.1 33 0) (reT N I G J).2.2.2 J := by
  obtain ⟨k1, k2, k3⟩ := re_all (I := I) (J := J) h.1.2.1.2.2.2.2.2.1 h.2.2.2.2.2.1 h.1.1
  refine h.rv k3.1 (k3.2 h.sp) k2.1 k1.2.2.2.2.2 (fun k hk => ?_) (Nat.zero_le _)
  rw [up1_o (by omega), re_keep N I G J (by omega) (by omega) (by omega) (by omega) (by omega) (by omega)]
theorem SpV.cq {G : Nat → Nat → Nat} (h : SpV G) (rc k1 k3 : Nat) : SpV (cq2 G rc k1 k3) := by
  intro i
  refine ⟨?_, ?_, ?_, ?_, ?_⟩ <;> unfold cq2
  · split
    · exact (h _).1
    · rw [if_neg (by omega)]; exact (h _).1
  · split
    · exact (h _).2.1
    · rw [if_neg (by omega)]; exact (h _).2.1
  · split
    · exact (h _).2.2.1
    · rw [if_neg (by omega)]; exact (h _).2.2.1
  · rw [if_neg (by omega)]
    split
    · exact (h _).2.2.2.1
    · exact (h _).2.2.2.1
  · rw [if_neg (by omega)]
    split
    · exact (h _).2.2.2.2
    · exact (h _).2.2.2.2
theorem WI.rec1 {N N1 : Nat → Nat} {G : Nat → Nat → Nat} {J : Nat → Nat → Int32} (h : WI N1 G J) (hn : N1 23 = N 23) (h10 : G 25 10 ≤ 10) {d : Int32} (hB : recB N d = true) : WI (up1 N1 23 (N 23 + 1)) (reG N G (tn d)) J := by
  have hS := h.sp
  obtain ⟨a1, a2, a3, a4, a5, a6⟩ := h
  obtain ⟨c1, c2, c3, c4, c5, c6⟩ := a1
  unfold recB at hB
  rw [Bool.and_eq_true] at hB
  obtain ⟨b1, b2⟩ := hB
  have b2 : N 23 ≠ 10 := by simpa using b2
  have hd : tn d < 2 ^ 31 := by
    have h1 : tn d = d.toInt.toNat := rfl
    have h2 := Int32.toInt_lt d
    omega
  have eo : ∀ a, a < 24 ∨ 31 < a → reG N G (tn d) a = G a := by
    intro a ha
    unfold reG
    rw [cq2_o (by omega), up2_o (by omega), up2_o (by omega)]
  have hS1 : SpV (reG N G (tn d)) := by
    unfold reG
    exact ((hS.up (k := 24) (by omega) (by omega) (by omega) (by omega) (by omega)).up (k := 25) (by omega) (by omega) (by omega) (by omega) (by omega)).cq _ _ _
  refine ⟨⟨fun a b => ?_, ?_, fun c => ?_, fun c => ?_, fun c hc => ?_, fun r hr => ?_⟩, a2.cg rfl (eo 2 (by omega)) (eo 4 (by omega)), fun i => ⟨(hS1 i).1, (hS1 i).2.2.2.2⟩, a4.cg (Nat.le_refl _) (fun _ _ _ _ => by rw [eo 4 (by omega)]) (fun c _ => ⟨by rw [eo 6 (by omega)], by rw [eo 8 (by omega)], rfl, rfl⟩), a5.cg (eo 48 (by omega)), a6.1, fun i => ⟨(hS1 i).2.2.1, (hS1 i).2.2.2.1⟩⟩
  · have hq := up2_B (up2_B c1 (k := 24) (i := N 23) hd) (k := 25) (i := N 23) (v := G 25 10) (c1 _ _)
    unfold reG cq2
    split
    · exact hq _ _
    · split
      · exact hq _ _
      · exact hq _ _
  · show N1 1 ≤ 20 ∧ N1 3 ≤ 10 ∧ N1 14 ≤ 600 ∧ N1 19 ≤ 100 ∧ N 23 + 1 ≤ 10 ∧ N1 33 ≤ 300 ∧ N1 40 ≤ 60 ∧ N1 44 ≤ 6
    omega
  · rw [eo 5 (by omega), eo 7 (by omega), eo 8 (by omega)]; exact c3 c
  · rw [eo 18 (by omega)]; exact ⟨(c4 c).1, (hS1 c).2.1⟩
  · rw [eo 17 (by omega)] at hc; exact c5 c hc
  · have hr : r < N 23 + 1 := hr
    refine ⟨?_, fun k _ => ⟨(hS1 _).2.2.1, fun j _ => (hS1 _).2.2.2.1⟩⟩
    unfold reG
    rw [cq2_o (by omega)]
    by_cases e : r = N 23
    · rw [e, up2_s]; exact h10
    · rw [up2_n e, up2_o (by decide)]; exact (c6 r (by omega)).1
/-! the start -/
theorem stL_le : ∀ i, stL.getD i 0 ≤ 12 := by
  intro i
  by_cases h : i < 24
  · have : ∀ i, i < 24 → stL.getD i 0 ≤ 12 := by decide
    exact this i h
  · rw [List.getD_eq_getElem?_getD, List.getElem?_eq_none (by show 24 ≤ i; omega)]
    exact Nat.zero_le _
theorem G00_o {k : Nat} (h : k ≠ 18) : G00 k = fun _ => 0 := by
  funext i
  unfold G00
  rw [if_neg h]
theorem WI.start : WI N00 G00 J00 := by
  refine ⟨⟨fun a b => ?_, by decide, fun c => ?_, fun c => ⟨stL_le c, ?_⟩, fun c hc => ?_, fun r hr => ?_⟩, fun l hl => ?_, fun i => ?_, fun c hc => ?_, fun i => ?_, by decide, fun i => ?_⟩
  · unfold G00
    split
    · have := stL_le b; omega
    · decide
  · exact ⟨(by decide : (0 : Nat) < 12), Nat.zero_le _, Nat.zero_le _⟩
  · exact Nat.zero_le _
  · exact absurd rfl hc
  · exact absurd hr (Nat.not_lt_zero r)
  · have : tot G00 l = 0 := by
      unfold tot
      rw [G00_o (k := 2) (by decide), G00_o (k := 4) (by decide)]
      rfl
    rw [this]
    exact ⟨Nat.zero_le _, fun _ => rfl⟩
  · exact ⟨Nat.zero_le _, Nat.zero_le _⟩
  · exact ⟨fun _ _ => rfl, rfl, rfl, rfl, rfl⟩
  · exact Nat.zero_le _
  · exact ⟨Nat.zero_le _, Nat.zero_le _⟩
theorem HOk.start {X : Nat → Nat → Nat} {Y : Nat → Nat → Nat → Int32} (hX : ∀ l, l < 4 → X 0 l < 2 ^ 31) (h1 : ∀ z, z < 3 → X 1 z ≠ 1) : HOk N00 G00 J00 X Y := by
  refine ⟨⟨fun l hl => ⟨?_, hX l hl⟩, fun r hr => absurd hr (Nat.not_lt_zero r), fun i hi => absurd hi (Nat.not_lt_zero _)⟩, fun c hc => absurd hc (Nat.not_lt_zero c), fun c hc => absurd hc (Nat.not_lt_zero c), fun z hz => Or.inr ⟨h1 z hz, fun _ _ => rfl⟩, fun k hk => absurd hk (Nat.not_lt_zero k)⟩
  have : szH N00 l = 0 := by
    unfold szH N00
    split <;> rfl
  rw [this]
  exact Nat.zero_le _
