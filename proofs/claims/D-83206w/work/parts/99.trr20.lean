set_option maxRecDepth 100000
/-- c conditions are read, then it goes wrong -/
def RuT (t : Nat) (b : Nat → Nat) (x : Nat × Nat × Nat × Nat) (c kd pl : Nat) : Prop := c ≤ 3 ∧ (c = 0 → Ru0 t b x kd pl) ∧ (0 < c → IsK b x 2 ∧ RuF t b (cz t b x c) c kd pl) ∧ (∀ i, i < c → CoOk t b (nx t b (cz t b x i))) ∧ ∀ i, 0 < i → i < c → IsK b (cz t b x i) 6
abbrev r_X7_rule_TG : Room := { frames := 9, cells := 500, slots := 3200, locals := 218 }

set_option maxHeartbeats 1000000 in
theorem c_X7_rule_TG (lh : Launch) (D : va_G) (dA : Nat → ClassId) (sz : Nat) (r : Nat) (tx : Nat) (tz : Nat) (tf : Nat → Int32) (x : Nat × Nat × Nat × Nat) (w : Nat) (wq : Nat) (K : Nat → Nat) (c : Nat) (kd : Nat) (pl : Nat) (h1 : tz ≤ 300) (h2 : RdOk tz (byS tz tf) x) (h3 : RuT tz (byS tz tf) x c kd pl) : MetT lh yX7_rule (ws_ yX7_rule cX7_rule 4 (some (.object "PickleHouse$Act"))) r_X7_rule_TG (PX (fun U H => H.size = sz ∧ va_P D CL [(r, .inr (6, [.ref tx, .int (nI tz), .int (nI x.2.2.1), .int (nI x.2.1), .int (nI 1), .int (nI x.2.2.2), .ref w])), (tx, .inl (dA 1, 300, .inl tf)), (w, .inr (16, [.ref wq, .int (nI 0), .int (nI 0), .int (nI 0)])), (wq, .inl (dA 1, (x.2.2.1 - x.2.1), .inl (bw (fun j => byS tz tf (x.2.1 + j)) (x.2.2.1 - x.2.1))))] H ∧ va_D nT [(r, .inr (6, [.ref tx, .int (nI tz), .int (nI x.2.2.1), .int (nI x.2.1), .int (nI 1), .int (nI x.2.2.2), .ref w])), (tx, .inl (dA 1, 300, .inl tf)), (w, .inr (16, [.ref wq, .int (nI 0), .int (nI 0), .int (nI 0)])), (wq, .inl (dA 1, (x.2.2.1 - x.2.1), .inl (bw (fun j => byS tz tf (x.2.1 + j)) (x.2.2.1 - x.2.1))))] ∧ GK D dA U ∧ KC (va_A [(r, .inr (6, [.ref tx, .int (nI tz), .int (nI x.2.2.1), .int (nI x.2.1), .int (nI 1), .int (nI x.2.2.2), .ref w])), (tx, .inl (dA 1, 300, .inl tf)), (w, .inr (16, [.ref wq, .int (nI 0), .int (nI 0), .int (nI 0)])), (wq, .inl (dA 1, (x.2.2.1 - x.2.1), .inl (bw (fun j => byS tz tf (x.2.1 + j)) (x.2.2.1 - x.2.1))))] sz) U H ∧ KZ K (va_A [(r, .inr (6, [.ref tx, .int (nI tz), .int (nI x.2.2.1), .int (nI x.2.1), .int (nI 1), .int (nI x.2.2.2), .ref w])), (tx, .inl (dA 1, 300, .inl tf)), (w, .inr (16, [.ref wq, .int (nI 0), .int (nI 0), .int (nI 0)])), (wq, .inl (dA 1, (x.2.2.1 - x.2.1), .inl (bw (fun j => byS tz tf (x.2.1 + j)) (x.2.2.1 - x.2.1))))] sz) U H ∧ PV U ∧ KT (va_A [(r, .inr (6, [.ref tx, .int (nI tz), .int (nI x.2.2.1), .int (nI x.2.1), .int (nI 1), .int (nI x.2.2.2), .ref w])), (tx, .inl (dA 1, 300, .inl tf)), (w, .inr (16, [.ref wq, .int (nI 0), .int (nI 0), .int (nI 0)])), (wq, .inl (dA 1, (x.2.2.1 - x.2.1), .inl (bw (fun j => byS tz tf (x.2.1 + j)) (x.2.2.1 - x.2.1))))] sz) U H ∧ KL K (va_A [(r, .inr (6, [.ref tx, .int (nI tz), .int (nI x.2.2.1), .int (nI x.2.1), .int (nI 1), .int (nI x.2.2.2), .ref w])), (tx, .inl (dA 1, 300, .inl tf)), (w, .inr (16, [.ref wq, .int (nI 0), .int (nI 0), .int (nI 0)])), (wq, .inl (dA 1, (x.2.2.1 - x.2.1), .inl (bw (fun j => byS tz tf (x.2.1 + j)) (x.2.2.1 - x.2.1))))] sz) U H) [.ref r]) (QTw D (va_A [(r, .inr (6, [.ref tx, .int (nI tz), .int (nI x.2.2.1), .int (nI x.2.1), .int (nI 1), .int (nI x.2.2.2), .ref w])), (tx, .inl (dA 1, 300, .inl tf)), (w, .inr (16, [.ref wq, .int (nI 0), .int (nI 0), .int (nI 0)])), (wq, .inl (dA 1, (x.2.2.1 - x.2.1), .inl (bw (fun j => byS tz tf (x.2.1 + j)) (x.2.2.1 - x.2.1))))] sz) kd pl) 500 3200 (va_A [(r, .inr (6, [.ref tx, .int (nI tz), .int (nI x.2.2.1), .int (nI x.2.1), .int (nI 1), .int (nI x.2.2.2), .ref w])), (tx, .inl (dA 1, 300, .inl tf)), (w, .inr (16, [.ref wq, .int (nI 0), .int (nI 0), .int (nI 0)])), (wq, .inl (dA 1, (x.2.2.1 - x.2.1), .inl (bw (fun j => byS tz tf (x.2.1 + j)) (x.2.2.1 - x.2.1))))] sz) := by
  obtain ⟨g1, g2, g3, g4, g5⟩ := h3
  have hb := byS_lt tz tf
  match c, g1 with
  | 0, _ =>
    obtain ⟨p1, q1⟩ := nx_at hb h2
    obtain ⟨p2, q2⟩ := nx_at hb q1
    obtain ⟨p3, q3⟩ := nx_at hb q2
    have q4 := q3.2.1
    exact (c_X7_rule_T0 lh D dA sz r tx tz tf x w wq K kd pl h1 h2 (g2 rfl)).room (Nat.le_of_ble_eq_true rfl) (by show 60 + _ + _ + _ ≤ 500; omega) (by show 700 + 5 * _ + 5 * _ + 5 * _ ≤ 3200; omega) (Nat.le_of_ble_eq_true rfl) (by omega) (by omega)
  | 1, _ =>
    have f0 := co_L hb h2
    have o0 : RdOk tz (byS tz tf) (co3 tz (byS tz tf) (nx tz (byS tz tf) x)) := co3_ok hb ((h2).nx hb)
    obtain ⟨p1, q1⟩ := nx_at hb o0
    obtain ⟨p2, q2⟩ := nx_at hb q1
    obtain ⟨p3, q3⟩ := nx_at hb q2
    have q4 := q3.2.1
    exact (c_X7_rule_T1 lh D dA sz r tx tz tf x w wq K kd pl h1 h2 (g3 (by decide)).1 (g4 0 (by decide)) (g3 (by decide)).2).room (Nat.le_of_ble_eq_true rfl) (by show 100 + _ + _ + _ + _ + _ + _ + _ ≤ 500; omega) (by show 1020 + 5 * _ + 5 * _ + 5 * _ + 5 * _ + 5 * _ + 5 * _ + 5 * _ ≤ 3200; omega) (Nat.le_of_ble_eq_true rfl) (by omega) (by omega)
  | 2, _ =>
    have f0 := co_L hb h2
    have o0 : RdOk tz (byS tz tf) (co3 tz (byS tz tf) (nx tz (byS tz tf) x)) := co3_ok hb ((h2).nx hb)
    have f1 := co_L hb o0
    have o1 : RdOk tz (byS tz tf) (co3 tz (byS tz tf) (nx tz (byS tz tf) (co3 tz (byS tz tf) (nx tz (byS tz tf) x)))) := co3_ok hb ((o0).nx hb)
    obtain ⟨p1, q1⟩ := nx_at hb o1
    obtain ⟨p2, q2⟩ := nx_at hb q1
    obtain ⟨p3, q3⟩ := nx_at hb q2
    have q4 := q3.2.1
    exact (c_X7_rule_T2 lh D dA sz r tx tz tf x w wq K kd pl h1 h2 (g3 (by decide)).1 (g4 0 (by decide)) (g5 1 (by decide) (by decide)) (g4 1 (by decide)) (g3 (by decide)).2).room (Nat.le_of_ble_eq_true rfl) (by show 140 + _ + _ + _ + _ + _ + _ + _ + _ + _ + _ + _ ≤ 500; omega) (by show 1340 + 5 * _ + 5 * _ + 5 * _ + 5 * _ + 5 * _ + 5 * _ + 5 * _ + 5 * _ + 5 * _ + 5 * _ + 5 * _ ≤ 3200; omega) (Nat.le_of_ble_eq_true rfl) (by omega) (by omega)
  | 3, _ =>
    have f0 := co_L hb h2
    have o0 : RdOk tz (byS tz tf) (co3 tz (byS tz tf) (nx tz (byS tz tf) x)) := co3_ok hb ((h2).nx hb)
    have f1 := co_L hb o0
    have o1 : RdOk tz (byS tz tf) (co3 tz (byS tz tf) (nx tz (byS tz tf) (co3 tz (byS tz tf) (nx tz (byS tz tf) x)))) := co3_ok hb ((o0).nx hb)
    have f2 := co_L hb o1
    have o2 : RdOk tz (byS tz tf) (co3 tz (byS tz tf) (nx tz (byS tz tf) (co3 tz (byS tz tf) (nx tz (byS tz tf) (co3 tz (byS tz tf) (nx tz (byS tz tf) x)))))) := co3_ok hb ((o1).nx hb)
    obtain ⟨p1, q1⟩ := nx_at hb o2
    obtain ⟨p2, q2⟩ := nx_at hb q1
    obtain ⟨p3, q3⟩ := nx_at hb q2
    have q4 := q3.2.1
    exact (c_X7_rule_T3 lh D dA sz r tx tz tf x w wq K kd pl h1 h2 (g3 (by decide)).1 (g4 0 (by decide)) (g5 1 (by decide) (by decide)) (g4 1 (by decide)) (g5 2 (by decide) (by decide)) (g4 2 (by decide)) (g3 (by decide)).2).room (Nat.le_of_ble_eq_true rfl) (by show 180 + _ + _ + _ + _ + _ + _ + _ + _ + _ + _ + _ + _ + _ + _ + _ ≤ 500; omega) (by show 1660 + 5 * _ + 5 * _ + 5 * _ + 5 * _ + 5 * _ + 5 * _ + 5 * _ + 5 * _ + 5 * _ + 5 * _ + 5 * _ + 5 * _ + 5 * _ + 5 * _ + 5 * _ ≤ 3200; omega) (Nat.le_of_ble_eq_true rfl) (by omega) (by omega)

theorem w_X7_rule {R : Room} {s : State} {args : Array Value} {own : String} {idx : Nat} (hts : ∀ w ∈ lw_all, w.before args s = true) (h1 : Cond.methodLink own idx yX7_rule ∈ lw_all) {rm : Room} {mc ms : Nat} (hrc : rm.cells = mc) (hrs : rm.slots = ms) (hR : rm.frames + 1 ≤ R.frames ∧ 8 + (4 + 11) + rm.locals ≤ R.locals) : CallW R s args own RX7 idx yX7_rule cX7_rule 4 (some (.object "PickleHouse$Act")) (ws_ yX7_rule cX7_rule 4 (some (.object "PickleHouse$Act"))) rm mc ms 0 := cwV 0 hts (lw_V h1 q965 qs22 q84 q966) rfl hrc hrs (by decide +kernel) hR
