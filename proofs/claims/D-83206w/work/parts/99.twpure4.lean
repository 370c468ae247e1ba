set_option maxRecDepth 100000
/-! conditions and acts, in both -/
theorem tok_33 (N : Nat → Nat) (J : Nat → Nat → Int32) : tokN N J 33 = N 33 := rfl
theorem tok_34 (N : Nat → Nat) (J : Nat → Nat → Int32) : tokN N J 34 = N 34 := rfl
theorem nx_tk (t : Nat) (b : Nat → Nat) (x : Nat × Nat × Nat × Nat) : TkP b (nx t b x) := nxT_tk t b x.2.2.1 x.2.2.2
/-- the reference stands where the reader does, and nothing is wrong yet -/
def Al (N : Nat → Nat) (J : Nat → Nat → Int32) (x : Nat × Nat × Nat × Nat) : Prop := RdM N x ∧ N 34 = 0 ∧ RdOk (N 33) (byS (N 33) (J 32)) x ∧ TkP (byS (N 33) (J 32)) x
theorem Al.tok {N : Nat → Nat} {J : Nat → Nat → Int32} {x : Nat × Nat × Nat × Nat} (h : Al N J x) : Al (tokN N J) J (nx (N 33) (byS (N 33) (J 32)) x) :=
  ⟨tok_nx h.1, h.2.1, h.2.2.1.nx (byS_lt _ _), nx_tk _ _ _⟩
theorem wh14_none {N : Nat → Nat} {J : Nat → Nat → Int32} {x : Nat × Nat × Nat × Nat} (h : Al N J x) (h1 : ¬ (x.1 = 1 ∧ (ixW 5 (byS (N 33) (J 32)) x).isSome = true)) : whQ N J 14 = none := by
  cases hh : whQ N J 14 with
  | none => rfl
  | some f =>
    exfalso
    obtain ⟨w, hw, e, hs⟩ := (whQ_sl h.1 h.2.1 uni14).mp hh
    have h2 := hs.1
    obtain ⟨p, hp, -⟩ := (whQ_fld h.1 h.2.1 h.2.2.1 h2).mp hh
    exact h1 ⟨h2, by rw [hp]; rfl⟩
theorem sg15 {N : Nat → Nat} {J : Nat → Nat → Int32} {x : Nat × Nat × Nat × Nat} (h : Al N J x) : (isQ N J 15 = true ↔ x.1 = 3 ∧ x.2.2.2 = 60) ∧ (isQ N J 16 = true ↔ x.1 = 3 ∧ x.2.2.2 = 61) ∧ (isQ N J 17 = true ↔ x.1 = 3 ∧ x.2.2.2 = 62) ∧ (isQ N J 19 = true ↔ x.1 = 3 ∧ x.2.2.2 = 58) ∧ (isQ N J 20 = true ↔ x.1 = 3 ∧ x.2.2.2 = 59) :=
  ⟨isQ_S h.1 h.2.1 h.2.2.2 (by decide), isQ_S h.1 h.2.1 h.2.2.2 (by decide), isQ_S h.1 h.2.1 h.2.2.2 (by decide), isQ_S h.1 h.2.1 h.2.2.2 (by decide), isQ_S h.1 h.2.1 h.2.2.2 (by decide)⟩
theorem wd12 {N : Nat → Nat} {J : Nat → Nat → Int32} {x : Nat × Nat × Nat × Nat} (h : Al N J x) : (isQ N J 12 = true ↔ IsK (byS (N 33) (J 32)) x 2) ∧ (isQ N J 18 = true ↔ IsK (byS (N 33) (J 32)) x 6) :=
  ⟨isQ_K h.1 h.2.1 h.2.2.2 (by decide) (by decide), isQ_K h.1 h.2.1 h.2.2.2 (by decide) (by decide)⟩
/-- a condition that is read -/
theorem co_yes {N : Nat → Nat} {I : Nat → Int32} {G : Nat → Nat → Nat} {J : Nat → Nat → Int32} {x : Nat × Nat × Nat × Nat} {r : Nat} (h : Al N J x) (hc : CoOk (N 33) (byS (N 33) (J 32)) x) (h3 : G 28 r ≠ 3) : coT N I G J r = (true, tokN (tokN (tokN N J) J) J, I, up2 (up2 (up2 (up2 G 29 (3 * r + G 28 r) (csp (kch 5) ((ixW 5 (byS (N 33) (J 32)) x).getD 0))) 30 (3 * r + G 28 r) ((nx (N 33) (byS (N 33) (J 32)) x).2.2.2 - 60)) 31 (3 * r + G 28 r) (nx (N 33) (byS (N 33) (J 32)) (nx (N 33) (byS (N 33) (J 32)) x)).2.2.2) 28 r (G 28 r + 1)) ∧ Al (tokN (tokN (tokN N J) J) J) J (co3 (N 33) (byS (N 33) (J 32)) x) := by
  obtain ⟨c1, c2, c3, c4⟩ := hc
  obtain ⟨p, hp⟩ := Option.isSome_iff_exists.mp c2
  have hw : whQ N J 14 = some (csp (kch 5) p) := (whQ_fld h.1 h.2.1 h.2.2.1 c1).mpr ⟨p, hp, rfl⟩
  have a1 := h.tok
  have a2 := a1.tok
  have a3 := a2.tok
  refine ⟨?_, a3⟩
  obtain ⟨s1, s2, s3, -, -⟩ := sg15 a1
  have hsg : isQ (tokN N J) J 15 = true ∨ isQ (tokN N J) J 16 = true ∨ isQ (tokN N J) J 17 = true := by
    rw [s1, s2, s3]
    omega
  have hrel : relS (tokN N J) J = (nx (N 33) (byS (N 33) (J 32)) x).2.2.2 - 60 := by
    unfold relS
    by_cases e1 : isQ (tokN N J) J 15 = true
    · rw [if_pos e1]; have := s1.mp e1; omega
    · rw [if_neg e1]
      by_cases e2 : isQ (tokN N J) J 16 = true
      · rw [if_pos e2]; have := s2.mp e2; omega
      · rw [if_neg e2]; have := s3.mp ((hsg.resolve_left e1).resolve_left e2); omega
  have hk : tokN (tokN N J) J 36 = 2 := a2.1.1.trans c4
  have hv : tokN (tokN N J) J 39 = (nx (N 33) (byS (N 33) (J 32)) (nx (N 33) (byS (N 33) (J 32)) x)).2.2.2 := a2.1.2.2.2 c4
  unfold coT
  rw [hw]
  show (if G 28 r = 3 then _ else _) = _
  rw [if_neg h3, if_pos hsg, hrel, hp]
  unfold nuN nuI nuV
  rw [if_pos hk, if_pos hk, if_pos hk, hv]
  have h34 : tokN (tokN (tokN N J) J) J 34 = 0 := h.2.1
  rw [h34]
  rfl
theorem wr_at {N : Nat → Nat} {I : Nat → Int32} {J : Nat → Nat → Int32} {x : Nat × Nat × Nat × Nat} {k : Nat} (h : Al N J x) : wrN N k 34 = k ∧ wrI N I 35 = nI x.2.1 := by
  unfold wrN wrI
  rw [if_pos h.2.1, if_pos h.2.1, up1_s, up1_s, h.1.2.1]
  exact ⟨rfl, rfl⟩
/-- .. that isn't -/
theorem co_no {N : Nat → Nat} {I : Nat → Int32} {G : Nat → Nat → Nat} {J : Nat → Nat → Int32} {x : Nat × Nat × Nat × Nat} {r : Nat} (h : Al N J x) (h3 : G 28 r ≤ 3) (hn : ¬ (CoOk (N 33) (byS (N 33) (J 32)) x ∧ G 28 r ≠ 3)) : ∃ kd pl, (coT N I G J r).1 = false ∧ (coT N I G J r).2.1 34 = kd ∧ (coT N I G J r).2.2.1 35 = nI pl ∧ CoF (N 33) (byS (N 33) (J 32)) x (G 28 r) kd pl := by
  by_cases hA : x.1 = 1 ∧ (ixW 5 (byS (N 33) (J 32)) x).isSome = true
  · obtain ⟨c1, c2⟩ := hA
    obtain ⟨p, hp⟩ := Option.isSome_iff_exists.mp c2
    have hw : whQ N J 14 = some (csp (kch 5) p) := (whQ_fld h.1 h.2.1 h.2.2.1 c1).mpr ⟨p, hp, rfl⟩
    have a1 := h.tok
    have a2 := a1.tok
    obtain ⟨s1, s2, s3, -, -⟩ := sg15 a1
    have eC : coT N I G J r = if G 28 r = 3 then (false, wrN N 2, wrI N I, G) else if isQ (tokN N J) J 15 = true ∨ isQ (tokN N J) J 16 = true ∨ isQ (tokN N J) J 17 = true then (decide (nuN (tokN (tokN N J) J) J 34 = 0), nuN (tokN (tokN N J) J) J, nuI (tokN (tokN N J) J) I, up2 (up2 (up2 (up2 G 29 (3 * r + G 28 r) (csp (kch 5) p)) 30 (3 * r + G 28 r) (relS (tokN N J) J)) 31 (3 * r + G 28 r) (nuV (tokN (tokN N J) J))) 28 r (G 28 r + 1)) else (false, wrN (tokN N J) 1, wrI (tokN N J) I, up2 G 29 (3 * r + G 28 r) (csp (kch 5) p)) := by
      unfold coT
      rw [hw]
    by_cases hB : G 28 r = 3
    · rw [eC, if_pos hB]
      exact ⟨2, x.2.1, rfl, (wr_at (I := I) (k := 2) h).1, (wr_at (I := I) (k := 2) h).2, Or.inr ⟨c1, Or.inr (Or.inl ⟨c2, hB, rfl, rfl⟩)⟩⟩
    · rw [eC, if_neg hB]
      by_cases hC : isQ (tokN N J) J 15 = true ∨ isQ (tokN N J) J 16 = true ∨ isQ (tokN N J) J 17 = true
      · rw [if_pos hC]
        have hsg : (nx (N 33) (byS (N 33) (J 32)) x).1 = 3 ∧ 60 ≤ (nx (N 33) (byS (N 33) (J 32)) x).2.2.2 ∧ (nx (N 33) (byS (N 33) (J 32)) x).2.2.2 ≤ 62 := by
          rw [s1, s2, s3] at hC
          omega
        have hk : (nx (N 33) (byS (N 33) (J 32)) (nx (N 33) (byS (N 33) (J 32)) x)).1 ≠ 2 := fun e => hn ⟨⟨c1, c2, hsg, e⟩, hB⟩
        have hk2 : ¬ tokN (tokN N J) J 36 = 2 := fun e => hk (a2.1.1.symm.trans e)
        have hw1 := wr_at (I := I) (k := 1) a2
        unfold nuN nuI
        rw [if_neg hk2, if_neg hk2]
        refine ⟨1, (nx (N 33) (byS (N 33) (J 32)) (nx (N 33) (byS (N 33) (J 32)) x)).2.1, ?_, hw1.1, hw1.2, Or.inr ⟨c1, Or.inr (Or.inr (Or.inr ⟨c2, ⟨hB, by omega⟩, hsg, hk, rfl, rfl⟩))⟩⟩
        show decide (wrN (tokN (tokN N J) J) 1 34 = 0) = false
        rw [hw1.1]
        rfl
      · rw [if_neg hC]
        have hw1 := wr_at (I := I) (k := 1) a1
        refine ⟨1, (nx (N 33) (byS (N 33) (J 32)) x).2.1, rfl, hw1.1, hw1.2, Or.inr ⟨c1, Or.inr (Or.inr (Or.inl ⟨c2, ⟨hB, by omega⟩, fun q => hC ?_, rfl, rfl⟩))⟩⟩
        rw [s1, s2, s3]
        omega
  · have hw := wh14_none h hA
    unfold coT
    rw [hw]
    refine ⟨1, x.2.1, rfl, (wr_at (I := I) (k := 1) h).1, (wr_at (I := I) (k := 1) h).2, ?_⟩
    by_cases c1 : x.1 = 1
    · refine Or.inr ⟨c1, Or.inl ⟨?_, rfl, rfl⟩⟩
      cases hh : (ixW 5 (byS (N 33) (J 32)) x).isSome with
      | false => rfl
      | true => exact absurd ⟨c1, hh⟩ hA
    · exact Or.inl ⟨c1, rfl, rfl⟩
/-- no act at hand -/
theorem wh13_none {N : Nat → Nat} {J : Nat → Nat → Int32} {x : Nat × Nat × Nat × Nat} (h : Al N J x) : whQ N J 13 = none ↔ ¬ ∃ a, a < 6 ∧ IsAct (byS (N 33) (J 32)) x a := by
  constructor
  · intro e ⟨a, ha⟩
    rw [(whQ_act h.1 h.2.1).mpr ha] at e
    cases e
  · intro e
    cases hh : whQ N J 13 with
    | none => rfl
    | some a => exact absurd ⟨a, (whQ_act h.1 h.2.1).mp hh⟩ e
theorem mo_ok {N : Nat → Nat} {I : Nat → Int32} {J : Nat → Nat → Int32} {x : Nat × Nat × Nat × Nat} {a : Nat} (h : Al N J x) (ha : a = 5 → (nx (N 33) (byS (N 33) (J 32)) x).1 = 2) : (mo3 N I J a).1 = (if a = 5 then (nx (N 33) (byS (N 33) (J 32)) x).2.2.2 else 0) ∧ Al (mo3 N I J a).2.1 J (actS (N 33) (byS (N 33) (J 32)) a x) ∧ (mo3 N I J a).2.2 = I ∧ (mo3 N I J a).2.1 33 = N 33 := by
  have a1 := h.tok
  unfold mo3 actS
  by_cases e : a = 5
  · rw [if_pos e, if_pos e, if_pos e]
    have hk : tokN N J 36 = 2 := a1.1.1.trans (ha e)
    unfold nuV nuN nuI
    rw [if_pos hk, if_pos hk, if_pos hk]
    exact ⟨a1.1.2.2.2 (ha e), a1.tok, rfl, rfl⟩
  · rw [if_neg e, if_neg e, if_neg e]
    exact ⟨rfl, a1, rfl, rfl⟩
theorem ac_at {N : Nat → Nat} {I : Nat → Int32} {G : Nat → Nat → Nat} {J : Nat → Nat → Int32} {x : Nat × Nat × Nat × Nat} {r a : Nat} (h : Al N J x) (ha : a < 6) (hi : IsAct (byS (N 33) (J 32)) x a) : acT N I G J r = enT N I G J r a := by
  unfold acT
  rw [(whQ_act h.1 h.2.1).mpr ⟨ha, hi⟩]
/-- an act that is read -/
theorem ac_yes {N : Nat → Nat} {I : Nat → Int32} {G : Nat → Nat → Nat} {J : Nat → Nat → Int32} {x : Nat × Nat × Nat × Nat} {r a : Nat} (h : Al N J x) (ha : a < 6) (hi : IsAct (byS (N 33) (J 32)) x a) (h5 : a = 5 → (nx (N 33) (byS (N 33) (J 32)) x).1 = 2) (he : (actS (N 33) (byS (N 33) (J 32)) a x).1 = 3 ∧ (actS (N 33) (byS (N 33) (J 32)) a x).2.2.2 = 59) : acT N I G J r = (true, tokN (mo3 N I J a).2.1 J, I, up2 (up2 (up2 G 26 r a) 27 r (if a = 5 then (nx (N 33) (byS (N 33) (J 32)) x).2.2.2 else 0)) 25 10 (G 25 10 + 1)) ∧ Al (tokN (mo3 N I J a).2.1 J) J (nx (N 33) (byS (N 33) (J 32)) (actS (N 33) (byS (N 33) (J 32)) a x)) := by
  obtain ⟨m1, m2, m3, m4⟩ := mo_ok (I := I) h h5
  have hq : isQ (mo3 N I J a).2.1 J 20 = true := (sg15 m2).2.2.2.2.mpr he
  refine ⟨?_, ?_⟩
  · rw [ac_at h ha hi]
    unfold enT muN muI
    rw [hq, if_pos rfl, if_pos rfl, if_pos rfl, m1, m3]
  · have := m2.tok
    rw [m4] at this
    exact this
/-- .. that isn't -/
theorem ac_no {N : Nat → Nat} {I : Nat → Int32} {G : Nat → Nat → Nat} {J : Nat → Nat → Int32} {x : Nat × Nat × Nat × Nat} {r : Nat} (h : Al N J x) (hn : ¬ ∃ a, a < 6 ∧ IsAct (byS (N 33) (J 32)) x a ∧ (a = 5 → (nx (N 33) (byS (N 33) (J 32)) x).1 = 2) ∧ ((actS (N 33) (byS (N 33) (J 32)) a x).1 = 3 ∧ (actS (N 33) (byS (N 33) (J 32)) a x).2.2.2 = 59)) : ∃ kd pl, (acT N I G J r).1 = false ∧ (acT N I G J r).2.1 34 = kd ∧ (acT N I G J r).2.2.1 35 = nI pl ∧ (AcF (N 33) (byS (N 33) (J 32)) x kd pl ∨ EnF (N 33) (byS (N 33) (J 32)) x kd pl) := by
  by_cases hA : ∃ a, a < 6 ∧ IsAct (byS (N 33) (J 32)) x a
  · obtain ⟨a, ha, hi⟩ := hA
    rw [ac_at h ha hi]
    by_cases h5 : a = 5 → (nx (N 33) (byS (N 33) (J 32)) x).1 = 2
    · obtain ⟨m1, m2, m3, m4⟩ := mo_ok (I := I) h h5
      have hne : ¬ ((actS (N 33) (byS (N 33) (J 32)) a x).1 = 3 ∧ (actS (N 33) (byS (N 33) (J 32)) a x).2.2.2 = 59) := fun q => hn ⟨a, ha, hi, h5, q⟩
      have hq : isQ (mo3 N I J a).2.1 J 20 = false := by
        cases hh : isQ (mo3 N I J a).2.1 J 20 with
        | false => rfl
        | true => exact absurd ((sg15 m2).2.2.2.2.mp hh) hne
      have hw := wr_at (I := (mo3 N I J a).2.2) (k := 1) m2
      refine ⟨1, (actS (N 33) (byS (N 33) (J 32)) a x).2.1, ?_, ?_, ?_, Or.inr ⟨a, ha, hi, h5, hne, rfl, rfl⟩⟩
      · exact hq
      · show muN (mo3 N I J a).2.1 J (isQ (mo3 N I J a).2.1 J 20) 34 = 1
        rw [hq]
        exact hw.1
      · show muI (mo3 N I J a).2.1 (mo3 N I J a).2.2 (isQ (mo3 N I J a).2.1 J 20) 35 = _
        rw [hq]
        exact hw.2
    · have ea : a = 5 := Classical.byContradiction fun q => h5 (fun e => absurd e q)
      have hk : (nx (N 33) (byS (N 33) (J 32)) x).1 ≠ 2 := fun q => h5 (fun _ => q)
      subst ea
      have a1 := h.tok
      have hk2 : ¬ tokN N J 36 = 2 := fun e => hk (a1.1.1.symm.trans e)
      have hw := wr_at (I := I) (k := 1) a1
      have hm : mo3 N I J 5 = (0, wrN (tokN N J) 1, wrI (tokN N J) I) := by
        unfold mo3 nuV nuN nuI
        rw [if_pos rfl, if_neg hk2, if_neg hk2, if_neg hk2]
      have hq : isQ (wrN (tokN N J) 1) J 20 = false := by
        unfold isQ isT
        rw [hw.1]
        rfl
      have h1 : ¬ wrN (tokN N J) 1 34 = 0 := by rw [hw.1]; decide
      refine ⟨1, (nx (N 33) (byS (N 33) (J 32)) x).2.1, ?_, ?_, ?_, Or.inl (Or.inr ⟨hi.1, Or.inr ⟨hi, hk, rfl, rfl⟩⟩)⟩
      · show isQ (mo3 N I J 5).2.1 J 20 = false
        rw [hm]
        exact hq
      · show muN (mo3 N I J 5).2.1 J (isQ (mo3 N I J 5).2.1 J 20) 34 = 1
        rw [hm]
        show muN (wrN (tokN N J) 1) J (isQ (wrN (tokN N J) 1) J 20) 34 = 1
        rw [hq]
        show wrN (wrN (tokN N J) 1) 1 34 = 1
        rw [show wrN (wrN (tokN N J) 1) 1 = wrN (tokN N J) 1 from if_neg h1]
        exact hw.1
      · show muI (mo3 N I J 5).2.1 (mo3 N I J 5).2.2 (isQ (mo3 N I J 5).2.1 J 20) 35 = _
        rw [hm]
        show muI (wrN (tokN N J) 1) (wrI (tokN N J) I) (isQ (wrN (tokN N J) 1) J 20) 35 = _
        rw [hq]
        show wrI (wrN (tokN N J) 1) (wrI (tokN N J) I) 35 = _
        rw [show wrI (wrN (tokN N J) 1) (wrI (tokN N J) I) = wrI (tokN N J) I from if_neg h1]
        exact hw.2
  · have hw := (wh13_none h).mpr hA
    have hq := wr_at (I := I) (k := 1) h
    unfold acT
    rw [hw]
    refine ⟨1, x.2.1, rfl, hq.1, hq.2, Or.inl ?_⟩
    by_cases c1 : x.1 = 1
    · refine Or.inr ⟨c1, Or.inl ⟨?_, rfl, rfl⟩⟩
      cases hh : (ixW 3 (byS (N 33) (J 32)) x).isSome with
      | false => rfl
      | true => exact absurd ((ixW3_act h.2.2.1 c1).mp hh) hA
    · exact Or.inl ⟨c1, rfl, rfl⟩
