set_option maxRecDepth 100000
/-! A RULE THAT IS READ, with any number of conditions -/
def cz (t : Nat) (b : Nat → Nat) (x : Nat × Nat × Nat × Nat) : Nat → Nat × Nat × Nat × Nat
  | 0 => x
  | i + 1 => co3 t b (nx t b (cz t b x i))
def ruW (t : Nat) (b : Nat → Nat) (x : Nat × Nat × Nat × Nat) (c : Nat) : Nat × Nat × Nat × Nat := if c = 0 then x else nx t b (cz t b x c)
def ruE (t : Nat) (b : Nat → Nat) (x : Nat × Nat × Nat × Nat) (c a : Nat) : Nat × Nat × Nat × Nat := nx t b (actS t b a (ruW t b x c))
/-- c conditions, then act a -/
def RuR (t : Nat) (b : Nat → Nat) (x : Nat × Nat × Nat × Nat) (c a : Nat) : Prop := c ≤ 3 ∧ (0 < c → IsK b x 2 ∧ ((cz t b x c).1 = 3 ∧ (cz t b x c).2.2.2 = 58)) ∧ (∀ i, i < c → CoOk t b (nx t b (cz t b x i))) ∧ (∀ i, 0 < i → i < c → IsK b (cz t b x i) 6) ∧ IsAct b (ruW t b x c) a ∧ a < 6 ∧ (a = 5 → (nx t b (ruW t b x c)).1 = 2) ∧ ((actS t b a (ruW t b x c)).1 = 3 ∧ (actS t b a (ruW t b x c)).2.2.2 = 59)
def cmC (t : Nat) (b : Nat → Nat) (y : Nat × Nat × Nat × Nat) (q : Nat) : Nat × va_E := (q, .inr (8, [.int (nI (csp (kch 5) ((ixW 5 b y).getD 0))), .int (nI (nx t b y).2.2.2), .int (nI (nx t b (nx t b y)).2.2.2)]))
def cmL (t : Nat) (b : Nat → Nat) (x : Nat × Nat × Nat × Nat) (q : Nat → Nat) : Nat → va_W
  | 0 => []
  | i + 1 => cmL t b x q i ++ [cmC t b (nx t b (cz t b x i)) (q i)]
/-- the cells of a rule: the act, its list, the list's array, its conditions -/
def rulC (dA : Nat → ClassId) (t : Nat) (b : Nat → Nat) (x : Nat × Nat × Nat × Nat) (c a : Nat) (Q : Nat → Nat) : va_W := [(Q 0, .inr (9 + a, actFs a (Q 1) (nx t b (ruW t b x c)).2.2.2)), (Q 1, .inr (15, [.int (nI c), .ref (Q 2), .int (nI c)])), (Q 2, .inl (dA 4, if c = 3 then 3 else 2, rfA (askF c (Q 3) (Q 4) (Q 5))))] ++ cmL t b x (fun i => Q (3 + i)) c
theorem askF_0 {q1 q2 q3 : Nat} : (fun _ => none) = askF 0 q1 q2 q3 := by
  funext j
  unfold askF
  rw [if_neg (by omega), if_neg (by omega), if_neg (by omega)]
theorem Met.post {l : Launch} {y : MethodName} {ws : List Cond} {rm : Room} {Pc : Array Value → State → Prop} {Qc Qd : Array Value → State → Outcome → State → Prop} {mc ms : Nat} {free : Addr → Prop} (h : Met l y ws rm Pc Qc mc ms free) (hq : ∀ a st o t, Qc a st o t → Qd a st o t) : Met l y ws rm Pc Qd mc ms free := by
  intro p e ha hx hy s m args below hfr happ hP hK
  obtain ⟨n, o, a1, a2, a3, a4, L, a5, a6⟩ := h p e ha hx hy s m args below hfr happ hP hK
  exact ⟨n, o, a1, a2, a3, hq _ _ _ _ a4, L, a5, a6⟩
/-- a step's length -/
theorem nx_at {t : Nat} {b : Nat → Nat} {x : Nat × Nat × Nat × Nat} (hb : ∀ k, b k < 256) (h : RdOk t b x) : (nx t b x).2.2.1 = x.2.2.1 + nxL t b x.2.2.1 ∧ RdOk t b (nx t b x) := ⟨nx_L hb h, h.nx hb⟩
theorem cz_ok {t : Nat} {b : Nat → Nat} {x : Nat × Nat × Nat × Nat} (hb : ∀ k, b k < 256) (h : RdOk t b x) : ∀ i, RdOk t b (cz t b x i) := by
  intro i
  induction i with
  | zero => exact h
  | succ i ih => exact co3_ok hb (ih.nx hb)
/-- the lengths of an act's tokens -/
theorem act_L {t : Nat} {b : Nat → Nat} {w : Nat × Nat × Nat × Nat} (hb : ∀ k, b k < 256) (h : RdOk t b w) (a : Nat) : nxL t b w.2.2.1 + nxL t b (nx t b w).2.2.1 + nxL t b (actS t b a w).2.2.1 ≤ 2 * ((nx t b (actS t b a w)).2.2.1 - w.2.2.1) ∧ w.2.2.1 ≤ (nx t b (actS t b a w)).2.2.1 := by
  obtain ⟨e1, o1⟩ := nx_at hb h
  obtain ⟨e2, o2⟩ := nx_at hb o1
  obtain ⟨e3, o3⟩ := nx_at hb o2
  unfold actS
  split
  · omega
  · omega
/-- .. and of a condition's -/
theorem co_L {t : Nat} {b : Nat → Nat} {x : Nat × Nat × Nat × Nat} (hb : ∀ k, b k < 256) (h : RdOk t b x) : nxL t b x.2.2.1 + nxL t b (nx t b x).2.2.1 + nxL t b (nx t b (nx t b x)).2.2.1 + nxL t b (nx t b (nx t b (nx t b x))).2.2.1 = (co3 t b (nx t b x)).2.2.1 - x.2.2.1 ∧ x.2.2.1 ≤ (co3 t b (nx t b x)).2.2.1 := by
  obtain ⟨e1, o1⟩ := nx_at hb h
  obtain ⟨e2, o2⟩ := nx_at hb o1
  obtain ⟨e3, o3⟩ := nx_at hb o2
  obtain ⟨e4, o4⟩ := nx_at hb o3
  unfold co3
  omega
