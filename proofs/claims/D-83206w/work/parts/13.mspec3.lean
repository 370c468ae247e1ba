set_option maxRecDepth 100000
/-- recipes as they are kept: their rules' and conditions' numbers -/
def RcOk (N : Nat → Nat) (G : Nat → Nat → Nat) : Prop := ∀ r, r < N 23 → G 25 r ≤ 10 ∧ ∀ k, k < G 25 r → G 28 (10 * r + k) ≤ 3 ∧ ∀ j, j < 3 → G 29 (3 * (10 * r + k) + j) ≤ 7
/-- what always holds of the reference's numbers -/
def OkS (N : Nat → Nat) (G : Nat → Nat → Nat) (J : Nat → Nat → Int32) : Prop :=
  (∀ a b, G a b < 2 ^ 31) ∧ (N 1 ≤ 20 ∧ N 3 ≤ 10 ∧ N 14 ≤ 600 ∧ N 19 ≤ 100 ∧ N 23 ≤ 10 ∧ N 33 ≤ 300 ∧ N 40 ≤ 60 ∧ N 44 ≤ 6) ∧ (∀ c, G 5 c < 12 ∧ G 7 c ≤ 60 ∧ G 8 c ≤ 100) ∧ (∀ i, G 18 i ≤ 12 ∧ G 27 i ≤ 9999) ∧ WmOk G J ∧ RcOk N G
theorem up2_o {α : Type} {f : Nat → Nat → α} {k i : Nat} {v : α} {a : Nat} (h : a ≠ k) : up2 f k i v a = f a := by
  funext b
  simp [up2, h]
theorem up2_s {α : Type} {f : Nat → Nat → α} {k i : Nat} {v : α} : up2 f k i v k i = v := by simp [up2]
theorem up2_n {α : Type} {f : Nat → Nat → α} {k i j : Nat} {v : α} (h : j ≠ i) : up2 f k i v k j = f k j := by simp [up2, h]
/-- rows that an hour's acts may change -/
def hotK (a : Nat) : Bool := decide (a = 4) || decide (a = 5) || decide (a = 6) || decide (a = 7) || decide (a = 8) || decide (a = 12)
def KeepN (N N1 : Nat → Nat) : Prop := ∀ k, k ≠ 15 → N1 k = N k
def KeepG (G G1 : Nat → Nat → Nat) : Prop := ∀ a, hotK a = false → G1 a = G a
theorem KeepN.rf {N : Nat → Nat} : KeepN N N := fun _ _ => rfl
theorem KeepG.rf {G : Nat → Nat → Nat} : KeepG G G := fun _ _ => rfl
theorem KeepN.tr {N N1 N2 : Nat → Nat} (h : KeepN N N1) (h2 : KeepN N1 N2) : KeepN N N2 := fun k q => (h2 k q).trans (h k q)
theorem KeepG.tr {N N1 N2 : Nat → Nat → Nat} (h : KeepG N N1) (h2 : KeepG N1 N2) : KeepG N N2 := fun k q => (h2 k q).trans (h k q)
theorem KeepG.up {G G1 : Nat → Nat → Nat} (h : KeepG G G1) {k i v : Nat} (hk : hotK k = true) : KeepG G (up2 G1 k i v) := fun a q => (up2_o (fun e => by rw [e, hk] at q; cases q)).trans (h a q)
theorem OkS.set {N : Nat → Nat} {G : Nat → Nat → Nat} {J : Nat → Nat → Int32} (h : OkS N G J) {k i v : Nat} (hk : hotK k = true) (hv : v < 2 ^ 31) (h5 : k = 5 → v < 12) (h7 : k = 7 → v ≤ 60) (h8 : k = 8 → v ≤ 100) : OkS N (up2 G k i v) J := by
  obtain ⟨a1, a2, a3, a4, a5, a6⟩ := h
  have hot : ∀ a, hotK a = false → up2 G k i v a = G a := fun a q => up2_o (fun e => by rw [e, hk] at q; cases q)
  refine ⟨hB_up a1 hv, a2, fun c => ?_, ?_, ?_, ?_⟩
  · obtain ⟨b1, b2, b3⟩ := a3 c
    refine ⟨?_, ?_, ?_⟩
    · by_cases e : k = 5
      · subst e
        by_cases e2 : c = i
        · subst e2; rw [up2_s]; exact h5 rfl
        · rw [up2_n e2]; exact b1
      · rw [up2_o (fun q => e q.symm)]; exact b1
    · by_cases e : k = 7
      · subst e
        by_cases e2 : c = i
        · subst e2; rw [up2_s]; exact h7 rfl
        · rw [up2_n e2]; exact b2
      · rw [up2_o (fun q => e q.symm)]; exact b2
    · by_cases e : k = 8
      · subst e
        by_cases e2 : c = i
        · subst e2; rw [up2_s]; exact h8 rfl
        · rw [up2_n e2]; exact b3
      · rw [up2_o (fun q => e q.symm)]; exact b3
  · rw [hot 18 rfl, hot 27 rfl]; exact a4
  · unfold WmOk
    rw [hot 17 rfl]; exact a5
  · unfold RcOk
    rw [hot 25 rfl, hot 28 rfl, hot 29 rfl]; exact a6
theorem zeroG_keep {G G1 : Nat → Nat → Nat} (h : KeepG G G1) (c : Nat) : ∀ n, KeepG G (zeroG G1 c n) := by
  intro n
  induction n with
  | zero => exact h
  | succ n ih => exact ih.up rfl
theorem zeroG_ok {N : Nat → Nat} {G : Nat → Nat → Nat} {J : Nat → Nat → Int32} (h : OkS N G J) (c : Nat) : ∀ n, OkS N (zeroG G c n) J := by
  intro n
  induction n with
  | zero => exact h
  | succ n ih => exact ih.set rfl (by decide) (fun e => by cases e) (fun e => by cases e) (fun e => by cases e)
theorem goesG_keep {G G1 : Nat → Nat → Nat} (h : KeepG G G1) (c s : Nat) : KeepG G (goesG G1 c s) := (zeroG_keep h c 20).up rfl
theorem goesG_ok {N : Nat → Nat} {G : Nat → Nat → Nat} {J : Nat → Nat → Int32} (h : OkS N G J) (c : Nat) {s : Nat} (hs : s < 2 ^ 31) : OkS N (goesG G c s) J := (zeroG_ok h c 20).set rfl hs (fun e => by cases e) (fun e => by cases e) (fun e => by cases e)
/-- the first free place of k from lo on -/
def frP (G : Nat → Nat → Nat) (n : Nat) : Nat → Nat → Option Nat
  | _, 0 => none
  | lo, k + 1 => if frS G lo n = true then some lo else frP G n (lo + 1) k
theorem frP_in {G : Nat → Nat → Nat} {n : Nat} : ∀ {k lo p : Nat}, frP G n lo k = some p → lo ≤ p ∧ p < lo + k := by
  intro k
  induction k with
  | zero => intro lo p h; cases h
  | succ k ih =>
    intro lo p h
    unfold frP at h
    split at h
    · cases h; omega
    · have := ih h; omega
def mvG (G : Nat → Nat → Nat) (n c lo k : Nat) : Nat → Nat → Nat := match frP G n lo k with
  | none => G
  | some p => up2 G 5 c p
theorem mvG_keep {G G1 : Nat → Nat → Nat} (h : KeepG G G1) (n c lo k : Nat) : KeepG G (mvG G1 n c lo k) := by
  unfold mvG
  split
  · exact h
  · exact h.up rfl
theorem mvG_ok {N : Nat → Nat} {G : Nat → Nat → Nat} {J : Nat → Nat → Int32} (h : OkS N G J) (n c : Nat) {lo k : Nat} (hk : lo + k ≤ 12) : OkS N (mvG G n c lo k) J := by
  unfold mvG
  split
  · exact h
  · rename_i p hp
    have := frP_in hp
    exact h.set rfl (by omega) (fun _ => by omega) (fun e => by cases e) (fun e => by cases e)
/-- a condition -/
def cmpS (r : Nat) (v : Int32) (t : Nat) : Bool := if r = 0 then decide (v < nI t) else if r = 1 then decide (v = nI t) else decide (nI t < v)
/-- the first n conditions of the rule r -/
def hdS (G : Nat → Nat → Nat) (J : Nat → Nat → Int32) (c now tests r : Nat) : Nat → Bool
  | 0 => true
  | n + 1 => hdS G J c now tests r n && cmpS (G 30 (3 * r + n)) (fldS G J c now tests (G 29 (3 * r + n))) (G 31 (3 * r + n))
theorem hdS_no {G : Nat → Nat → Nat} {J : Nat → Nat → Int32} {c now tests r q : Nat} (h : hdS G J c now tests r q = false) : ∀ m, hdS G J c now tests r (q + m) = false := by
  intro m
  induction m with
  | zero => exact h
  | succ m ih => show (hdS G J c now tests r (q + m) && _) = false; rw [ih]; rfl
theorem hdS_no' {G : Nat → Nat → Nat} {J : Nat → Nat → Int32} {c now tests r q n : Nat} (h : hdS G J c now tests r q = false) (hq : q ≤ n) : hdS G J c now tests r n = false := by
  have := hdS_no h (n - q)
  rwa [show q + (n - q) = n by omega] at this
def actN (N : Nat → Nat) (G : Nat → Nat → Nat) (c r : Nat) : Nat → Nat := if G 26 r = 1 then up1 N 15 (N 15 + gr G c) else N
def actG (N : Nat → Nat) (G : Nat → Nat → Nat) (c r : Nat) : Nat → Nat → Nat :=
  if G 26 r = 0 then up2 G 8 c 0
  else if G 26 r = 1 then goesG G c 2
  else if G 26 r = 2 then up2 G 6 c 1
  else if G 26 r = 3 then (if G 5 c < 8 then mvG G (N 3) c 8 4 else G)
  else if G 26 r = 4 then (if 7 < G 5 c then mvG G (N 3) c 0 8 else G)
  else up2 G 7 c (if 60 < G 7 c + G 27 r then 60 else G 7 c + G 27 r)
theorem actN_keep (N : Nat → Nat) (G : Nat → Nat → Nat) (c r : Nat) : KeepN N (actN N G c r) := by
  intro k hk
  unfold actN
  split
  · simp [up1, hk]
  · rfl
theorem actG_keep {G G1 : Nat → Nat → Nat} (h : KeepG G G1) (N : Nat → Nat) (c r : Nat) : KeepG G (actG N G1 c r) := by
  unfold actG
  repeat' split
  all_goals first | exact h | exact h.up rfl | exact goesG_keep h _ _ | exact mvG_keep h _ _ _ _
theorem OkS.n15 {N : Nat → Nat} {G : Nat → Nat → Nat} {J : Nat → Nat → Int32} (h : OkS N G J) (v : Nat) : OkS (up1 N 15 v) G J := h
theorem actS_ok {N : Nat → Nat} {G : Nat → Nat → Nat} {J : Nat → Nat → Int32} (h : OkS N G J) (c r : Nat) : OkS (actN N G c r) (actG N G c r) J := by
  have h1 : OkS N (actG N G c r) J := by
    unfold actG
    repeat' split
    all_goals first | exact h | exact goesG_ok h c (by decide) | exact mvG_ok h _ _ (by omega) | exact h.set rfl (by omega) (fun e => by omega) (fun e => by omega) (fun e => by omega)
  unfold actN
  split
  · exact h1.n15 _
  · exact h1
/-- the rules from b on, the first q of them, tried on crock c -/
def ruS (J : Nat → Nat → Int32) (c b : Nat) (N : Nat → Nat) (G : Nat → Nat → Nat) : Nat → (Nat → Nat) × (Nat → Nat → Nat)
  | 0 => (N, G)
  | q + 1 => if lv (ruS J c b N G q).2 c = true ∧ hdS (ruS J c b N G q).2 J c ((ruS J c b N G q).1 14) ((ruS J c b N G q).1 19) (b + q) ((ruS J c b N G q).2 28 (b + q)) = true then (actN (ruS J c b N G q).1 (ruS J c b N G q).2 c (b + q), actG (ruS J c b N G q).1 (ruS J c b N G q).2 c (b + q)) else ruS J c b N G q
theorem ruS_dead {J : Nat → Nat → Int32} {c b : Nat} {N : Nat → Nat} {G : Nat → Nat → Nat} {q n : Nat} (h : lv (ruS J c b N G q).2 c = false) (hq : q ≤ n) : ruS J c b N G n = ruS J c b N G q := by
  obtain ⟨m, rfl⟩ : ∃ m, n = q + m := ⟨n - q, by omega⟩
  clear hq
  induction m with
  | zero => rfl
  | succ m ih =>
    rw [show q + (m + 1) = (q + m) + 1 from rfl, ruS, ih, if_neg (by rw [h]; intro q; cases q.1)]
theorem ruS_step {J : Nat → Nat → Int32} {c b : Nat} {N N3 : Nat → Nat} {G G3 : Nat → Nat → Nat} {q : Nat} (e : (N3, G3) = ruS J c b N G q) (hl : lv G3 c = true) : ruS J c b N G (q + 1) = if hdS G3 J c (N3 14) (N3 19) (b + q) (G3 28 (b + q)) = true then (actN N3 G3 c (b + q), actG N3 G3 c (b + q)) else (N3, G3) := by
  rw [ruS, ← e]
  simp [hl]
/-- an hour of a living crock -/
def tkS (N : Nat → Nat) (G : Nat → Nat → Nat) (J : Nat → Nat → Int32) (c : Nat) : (Nat → Nat) × (Nat → Nat → Nat) × (Nat → Nat → Int32) :=
  if 100 ≤ G 8 c + rateS G J c (N 14) / 2 + 1
  then (up1 N 15 (N 15 + gr (up2 (up2 G 12 (600 * c + N 14) (rateS G J c (N 14) + 1)) 8 c 100) c), goesG (up2 (up2 G 12 (600 * c + N 14) (rateS G J c (N 14) + 1)) 8 c 100) c 3, up2 J 13 c (nI (rateS G J c (N 14))))
  else (N, up2 (up2 G 12 (600 * c + N 14) (rateS G J c (N 14) + 1)) 8 c (G 8 c + rateS G J c (N 14) / 2 + 1), up2 J 13 c (nI (rateS G J c (N 14))))
theorem rateS_le {N : Nat → Nat} {G : Nat → Nat → Nat} {J : Nat → Nat → Int32} (h : OkS N G J) (c hr : Nat) : rateS G J c hr ≤ 12 := (h.2.2.2.1 _).1
theorem OkS.j13 {N : Nat → Nat} {G : Nat → Nat → Nat} {J : Nat → Nat → Int32} (h : OkS N G J) {i : Nat} {v : Int32} : OkS N G (up2 J 13 i v) := by
  obtain ⟨a1, a2, a3, a4, a5, a6⟩ := h
  exact ⟨a1, a2, a3, a4, fun i q => by rw [up2_o (by decide)]; exact a5 i q, a6⟩
theorem tkS_ok {N : Nat → Nat} {G : Nat → Nat → Nat} {J : Nat → Nat → Int32} (h : OkS N G J) (c : Nat) : OkS (tkS N G J c).1 (tkS N G J c).2.1 (tkS N G J c).2.2 := by
  have hr := rateS_le h c (N 14)
  unfold tkS
  split
  · refine OkS.j13 (OkS.n15 (goesG_ok (OkS.set (OkS.set h rfl (by omega) (fun e => by cases e) (fun e => by cases e) (fun e => by cases e)) rfl (by decide) (fun e => by cases e) (fun e => by cases e) (fun _ => by omega)) c (by decide)) _)
  · refine OkS.j13 (OkS.set (OkS.set h rfl (by omega) (fun e => by cases e) (fun e => by cases e) (fun e => by cases e)) rfl (by omega) (fun e => by cases e) (fun e => by cases e) (fun _ => by omega))
theorem tkS_keepN (N : Nat → Nat) (G : Nat → Nat → Nat) (J : Nat → Nat → Int32) (c : Nat) : KeepN N (tkS N G J c).1 := by
  intro k hk
  unfold tkS
  split
  · simp [up1, hk]
  · rfl
theorem tkS_keepG {G0 G : Nat → Nat → Nat} (h : KeepG G0 G) (N : Nat → Nat) (J : Nat → Nat → Int32) (c : Nat) : KeepG G0 (tkS N G J c).2.1 := by
  unfold tkS
  split
  · exact goesG_keep ((h.up rfl).up rfl) _ _
  · exact (h.up rfl).up rfl
/-- an hour of a crock, by the recipe that is in force -/
def ruA (rc : Option Nat) (J : Nat → Nat → Int32) (c : Nat) (N : Nat → Nat) (G : Nat → Nat → Nat) : (Nat → Nat) × (Nat → Nat → Nat) := match rc with
  | none => (N, G)
  | some k => ruS J c (10 * k) N G (G 25 k)
def chS (rc : Option Nat) (N : Nat → Nat) (G : Nat → Nat → Nat) (J : Nat → Nat → Int32) (c : Nat) : (Nat → Nat) × (Nat → Nat → Nat) × (Nat → Nat → Int32) :=
  if lv (ruA rc J c N G).2 c = true then tkS (ruA rc J c N G).1 (ruA rc J c N G).2 J c else ((ruA rc J c N G).1, (ruA rc J c N G).2, J)
theorem chS_at {rc : Option Nat} {N N3 : Nat → Nat} {G G3 : Nat → Nat → Nat} {J : Nat → Nat → Int32} {c : Nat} (e : (N3, G3) = ruA rc J c N G) : chS rc N G J c = if lv G3 c = true then tkS N3 G3 J c else (N3, G3, J) := by
  unfold chS
  rw [← e]
/-- an hour of the first n crocks -/
def crT (rc : Option Nat) (N : Nat → Nat) (G : Nat → Nat → Nat) (J : Nat → Nat → Int32) : Nat → (Nat → Nat) × (Nat → Nat → Nat) × (Nat → Nat → Int32)
  | 0 => (N, G, J)
  | c + 1 => chS rc (crT rc N G J c).1 (crT rc N G J c).2.1 (crT rc N G J c).2.2 c
theorem crT_s {rc : Option Nat} {N N2 : Nat → Nat} {G G2 : Nat → Nat → Nat} {J J2 : Nat → Nat → Int32} {c : Nat} (e : (N2, G2, J2) = crT rc N G J c) : crT rc N G J (c + 1) = chS rc N2 G2 J2 c := by
  rw [crT, ← e]
def hrS (N : Nat → Nat) (G : Nat → Nat → Nat) (J : Nat → Nat → Int32) : (Nat → Nat) × (Nat → Nat → Nat) × (Nat → Nat → Int32) :=
  (up1 (crT (ifS G (N 14 / 24) (N 23)) N G J (N 3)).1 14 ((crT (ifS G (N 14 / 24) (N 23)) N G J (N 3)).1 14 + 1), (crT (ifS G (N 14 / 24) (N 23)) N G J (N 3)).2.1, (crT (ifS G (N 14 / 24) (N 23)) N G J (N 3)).2.2)
theorem hrS_at {N N2 : Nat → Nat} {G G2 : Nat → Nat → Nat} {J J2 : Nat → Nat → Int32} {rc : Option Nat} (hrc : ifS G (N 14 / 24) (N 23) = rc) (e : (N2, G2, J2) = crT rc N G J (N 3)) : hrS N G J = (up1 N2 14 (N2 14 + 1), G2, J2) := by
  unfold hrS
  rw [hrc, ← e]
/-- n hours -/
def hoT (N : Nat → Nat) (G : Nat → Nat → Nat) (J : Nat → Nat → Int32) : Nat → (Nat → Nat) × (Nat → Nat → Nat) × (Nat → Nat → Int32)
  | 0 => (N, G, J)
  | n + 1 => hrS (hoT N G J n).1 (hoT N G J n).2.1 (hoT N G J n).2.2
theorem hoT_s {N N1 : Nat → Nat} {G G1 : Nat → Nat → Nat} {J J1 : Nat → Nat → Int32} {n : Nat} (e : (N1, G1, J1) = hoT N G J n) : hoT N G J (n + 1) = hrS N1 G1 J1 := by
  rw [hoT, ← e]
def hoursB (N : Nat → Nat) (n : Int32) : Bool := wi n (nI 1) (nI 100) && decide (nI (N 14) + n ≤ nI 600)
theorem lvI_lv {n j : Nat} {G : Nat → Nat → Nat} (hj : j < 2 ^ 31) (h : wi (nI j) (nI 0) (nI n - nI 1) = true) : lvI n G (nI j) = lv G j := by
  unfold lvI
  rw [h, nI_clamp hj]
  rfl
theorem OkS.now {N : Nat → Nat} {G : Nat → Nat → Nat} {J : Nat → Nat → Int32} (h : OkS N G J) (h2 : N 14 + 1 ≤ 600) : OkS (up1 N 14 (N 14 + 1)) G J := by
  obtain ⟨a1, ⟨b1, b2, b3, b4, b5, b6, b7, b8⟩, a3, a4, a5, a6⟩ := h
  exact ⟨a1, ⟨b1, b2, h2, b4, b5, b6, b7, b8⟩, a3, a4, a5, a6⟩
theorem rdG {G : Nat → Nat → Nat} {J : Nat → Nat → Int32} {k i v : Nat} (hJ : isJ k = false) : fnM (up2 G k i v) J k i = nI v := by
  rw [fnM_G hJ]; simp [upd]
theorem rdJ {G : Nat → Nat → Nat} {J : Nat → Nat → Int32} {k i : Nat} {v : Int32} (hJ : isJ k = true) : fnM G (up2 J k i v) k i = v := by
  rw [fnM_J hJ]; simp [upd]
