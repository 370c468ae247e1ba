set_option maxRecDepth 100000
theorem lw_F {own : String} {idx : Nat} {C : String} {x y : MethodName} {b : ByteArray} {L : Nat} {r : Option FieldType} (h1 : Cond.methodLink own idx x ∈ lw_all) (h2 : Cond.selects C x y ∈ lw_all) (h3 : Cond.instanceMethod y ∈ lw_all) (h4 : Cond.initialized y.cls ∈ lw_all) (h5 : Cond.code y b L r ∈ lw_all) : GoodIn lw_all (va_wsF own idx C x y (ws_ y b L r)) := by
  refine lw_app ?_ (lw_meth h5)
  intro w hw
  simp only [List.mem_cons, List.not_mem_nil, or_false] at hw
  rcases hw with e | e | e | e <;> rw [e] <;> assumption
theorem act0 {Y : Nat → Nat → Nat → Int32} {N : Nat → Nat} {G : Nat → Nat → Nat} {c r : Nat} (h : G 26 r = 0) : acY Y N G c r = Y ∧ actN N G c r = N ∧ actG N G c r = up2 G 8 c 0 := by
  refine ⟨?_, ?_, ?_⟩
  · unfold acY; rw [if_neg (by omega), if_neg (by omega), if_neg (by omega)]
  · unfold actN; rw [if_neg (by omega)]
  · unfold actG; rw [if_pos h]
theorem act1 {Y : Nat → Nat → Nat → Int32} {N : Nat → Nat} {G : Nat → Nat → Nat} {c r : Nat} (h : G 26 r = 1) : acY Y N G c r = up3 (wsY Y G c 20) 0 c 0 (-1) ∧ actN N G c r = up1 N 15 (N 15 + gr G c) ∧ actG N G c r = goesG G c 2 := by
  refine ⟨?_, ?_, ?_⟩
  · unfold acY; rw [if_pos h]
  · unfold actN; rw [if_pos h]
  · unfold actG; rw [if_neg (by omega), if_pos h]
theorem act2 {Y : Nat → Nat → Nat → Int32} {N : Nat → Nat} {G : Nat → Nat → Nat} {c r : Nat} (h : G 26 r = 2) : acY Y N G c r = Y ∧ actN N G c r = N ∧ actG N G c r = up2 G 6 c 1 := by
  refine ⟨?_, ?_, ?_⟩
  · unfold acY; rw [if_neg (by omega), if_neg (by omega), if_neg (by omega)]
  · unfold actN; rw [if_neg (by omega)]
  · unfold actG; rw [if_neg (by omega), if_neg (by omega), if_pos h]
theorem act3 {Y : Nat → Nat → Nat → Int32} {N : Nat → Nat} {G : Nat → Nat → Nat} {c r : Nat} (h : G 26 r = 3) : acY Y N G c r = (if G 5 c < 8 then mvY Y G (N 3) c 8 4 else Y) ∧ actN N G c r = N ∧ actG N G c r = (if G 5 c < 8 then mvG G (N 3) c 8 4 else G) := by
  refine ⟨?_, ?_, ?_⟩
  · unfold acY; rw [if_neg (by omega), if_pos h]
  · unfold actN; rw [if_neg (by omega)]
  · unfold actG; rw [if_neg (by omega), if_neg (by omega), if_neg (by omega), if_pos h]
theorem act4 {Y : Nat → Nat → Nat → Int32} {N : Nat → Nat} {G : Nat → Nat → Nat} {c r : Nat} (h : G 26 r = 4) : acY Y N G c r = (if 7 < G 5 c then mvY Y G (N 3) c 0 8 else Y) ∧ actN N G c r = N ∧ actG N G c r = (if 7 < G 5 c then mvG G (N 3) c 0 8 else G) := by
  refine ⟨?_, ?_, ?_⟩
  · unfold acY; rw [if_neg (by omega), if_neg (by omega), if_pos h]
  · unfold actN; rw [if_neg (by omega)]
  · unfold actG; rw [if_neg (by omega), if_neg (by omega), if_neg (by omega), if_neg (by omega), if_pos h]
theorem act5 {Y : Nat → Nat → Nat → Int32} {N : Nat → Nat} {G : Nat → Nat → Nat} {c r : Nat} (h : G 26 r = 5) : acY Y N G c r = Y ∧ actN N G c r = N ∧ actG N G c r = up2 G 7 c (if 60 < G 7 c + G 27 r then 60 else G 7 c + G 27 r) := by
  refine ⟨?_, ?_, ?_⟩
  · unfold acY; rw [if_neg (by omega), if_neg (by omega), if_neg (by omega)]
  · unfold actN; rw [if_neg (by omega)]
  · unfold actG; rw [if_neg (by omega), if_neg (by omega), if_neg (by omega), if_neg (by omega), if_neg (by omega)]
theorem min_n {a b : Nat} (ha : a < 2 ^ 31) (hb : b < 2 ^ 31) : (if nI b < nI a then nI b else nI a) = nI (if a < b then a else b) := by
  by_cases h : b < a
  · rw [if_pos ((nI_ltI hb ha).mpr h), if_neg (by omega)]
  · rw [if_neg (fun q => h ((nI_ltI hb ha).mp q))]
    by_cases h2 : a < b
    · rw [if_pos h2]
    · rw [if_neg h2, show a = b by omega]
theorem live18 {N : Nat → Nat} {G : Nat → Nat → Nat} {i q : Nat} (h : i / 10 < N 23 ∧ i % 10 < G 25 (i / 10)) (hq : q < G 28 i) (h3 : G 28 i ≤ 3) : (3 * i + q) / 30 < N 23 ∧ (3 * i + q) / 3 % 10 < G 25 ((3 * i + q) / 30) ∧ (3 * i + q) % 3 < G 28 ((3 * i + q) / 3) := by
  have e1 : (3 * i + q) / 30 = i / 10 := by omega
  have e2 : (3 * i + q) / 3 = i := by omega
  have e3 : (3 * i + q) % 3 = q := by omega
  rw [e1, e2, e3]
  exact ⟨h.1, h.2, hq⟩
theorem bI_cold {G : Nat → Nat → Nat} {c : Nat} (hl : lv G c = true) : (bI (lv G c && decide (8 ≤ G 5 c)) = nI 1 ↔ 8 ≤ G 5 c) ∧ (bI (lv G c && decide (8 ≤ G 5 c)) = nI 0 ↔ ¬ 8 ≤ G 5 c) := by
  rw [hl, Bool.true_and]
  by_cases h : 8 ≤ G 5 c
  · simp only [h, decide_true]
    exact ⟨⟨fun _ => trivial, fun _ => rfl⟩, ⟨fun q => absurd q (by decide), fun q => absurd trivial q⟩⟩
  · simp only [h, decide_false]
    exact ⟨⟨fun q => absurd q (by decide), fun q => absurd q (by simp)⟩, ⟨fun _ => by simp, fun _ => rfl⟩⟩
