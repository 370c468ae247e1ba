set_option maxRecDepth 100000
abbrev r_X7_rule_G (d : Nat) : Room := { frames := 10, cells := 160 + 2 * d, slots := 1360 + 10 * d, locals := 238 }
set_option maxHeartbeats 1000000 in
theorem c_X7_rule_G (lh : Launch) (D : va_G) (dA : Nat → ClassId) (sz : Nat) (r : Nat) (tx : Nat) (tz : Nat) (tf : Nat → Int32) (x : Nat × Nat × Nat × Nat) (w : Nat) (wq : Nat) (K : Nat → Nat) (c : Nat) (a : Nat) (h1 : tz ≤ 300) (h2 : RdOk tz (byS tz tf) x) (h3 : RuR tz (byS tz tf) x c a) : Met lh yX7_rule (ws_ yX7_rule cX7_rule 4 (some (.object "PickleHouse$Act"))) (r_X7_rule_G ((ruE tz (byS tz tf) x c a).2.2.1 - x.2.2.1)) (PX (fun U H => H.size = sz ∧ va_P D CL [(r, .inr (6, [.ref tx, .int (nI tz), .int (nI x.2.2.1), .int (nI x.2.1), .int (nI 1), .int (nI x.2.2.2), .ref w])), (tx, .inl (dA 1, 300, .inl tf)), (w, .inr (16, [.ref wq, .int (nI 0), .int (nI 0), .int (nI 0)])), (wq, .inl (dA 1, (x.2.2.1 - x.2.1), .inl (bw (fun j => byS tz tf (x.2.1 + j)) (x.2.2.1 - x.2.1))))] H ∧ va_D nT [(r, .inr (6, [.ref tx, .int (nI tz), .int (nI x.2.2.1), .int (nI x.2.1), .int (nI 1), .int (nI x.2.2.2), .ref w])), (tx, .inl (dA 1, 300, .inl tf)), (w, .inr (16, [.ref wq, .int (nI 0), .int (nI 0), .int (nI 0)])), (wq, .inl (dA 1, (x.2.2.1 - x.2.1), .inl (bw (fun j => byS tz tf (x.2.1 + j)) (x.2.2.1 - x.2.1))))] ∧ GK D dA U ∧ KC (va_A [(r, .inr (6, [.ref tx, .int (nI tz), .int (nI x.2.2.1), .int (nI x.2.1), .int (nI 1), .int (nI x.2.2.2), .ref w])), (tx, .inl (dA 1, 300, .inl tf)), (w, .inr (16, [.ref wq, .int (nI 0), .int (nI 0), .int (nI 0)])), (wq, .inl (dA 1, (x.2.2.1 - x.2.1), .inl (bw (fun j => byS tz tf (x.2.1 + j)) (x.2.2.1 - x.2.1))))] sz) U H ∧ KZ K (va_A [(r, .inr (6, [.ref tx, .int (nI tz), .int (nI x.2.2.1), .int (nI x.2.1), .int (nI 1), .int (nI x.2.2.2), .ref w])), (tx, .inl (dA 1, 300, .inl tf)), (w, .inr (16, [.ref wq, .int (nI 0), .int (nI 0), .int (nI 0)])), (wq, .inl (dA 1, (x.2.2.1 - x.2.1), .inl (bw (fun j => byS tz tf (x.2.1 + j)) (x.2.2.1 - x.2.1))))] sz) U H ∧ PV U ∧ KT (va_A [(r, .inr (6, [.ref tx, .int (nI tz), .int (nI x.2.2.1), .int (nI x.2.1), .int (nI 1), .int (nI x.2.2.2), .ref w])), (tx, .inl (dA 1, 300, .inl tf)), (w, .inr (16, [.ref wq, .int (nI 0), .int (nI 0), .int (nI 0)])), (wq, .inl (dA 1, (x.2.2.1 - x.2.1), .inl (bw (fun j => byS tz tf (x.2.1 + j)) (x.2.2.1 - x.2.1))))] sz) U H ∧ KL K (va_A [(r, .inr (6, [.ref tx, .int (nI tz), .int (nI x.2.2.1), .int (nI x.2.1), .int (nI 1), .int (nI x.2.2.2), .ref w])), (tx, .inl (dA 1, 300, .inl tf)), (w, .inr (16, [.ref wq, .int (nI 0), .int (nI 0), .int (nI 0)])), (wq, .inl (dA 1, (x.2.2.1 - x.2.1), .inl (bw (fun j => byS tz tf (x.2.1 + j)) (x.2.2.1 - x.2.1))))] sz) U H) [.ref r]) (va_Qq (fun (r : Option Nat) (u : Nat × Nat × (Nat → Nat)) => r = some (u.2.2 0)) (fun (u : Nat × Nat × (Nat → Nat)) t => va_P D CL (([rdC tx tz (ruE tz (byS tz tf) x c a) r u.1, (tx, .inl (dA 1, 300, .inl tf))] ++ rulC dA tz (byS tz tf) x c a u.2.2) ++ wdC dA (ruE tz (byS tz tf) x c a) (byS tz tf) u.1 u.2.1) t.heap ∧ va_D (va_A [(r, .inr (6, [.ref tx, .int (nI tz), .int (nI x.2.2.1), .int (nI x.2.1), .int (nI 1), .int (nI x.2.2.2), .ref w])), (tx, .inl (dA 1, 300, .inl tf)), (w, .inr (16, [.ref wq, .int (nI 0), .int (nI 0), .int (nI 0)])), (wq, .inl (dA 1, (x.2.2.1 - x.2.1), .inl (bw (fun j => byS tz tf (x.2.1 + j)) (x.2.2.1 - x.2.1))))] sz) (([rdC tx tz (ruE tz (byS tz tf) x c a) r u.1, (tx, .inl (dA 1, 300, .inl tf))] ++ rulC dA tz (byS tz tf) x c a u.2.2) ++ wdC dA (ruE tz (byS tz tf) x c a) (byS tz tf) u.1 u.2.1) ∧ GK D dA t) (va_A [(r, .inr (6, [.ref tx, .int (nI tz), .int (nI x.2.2.1), .int (nI x.2.1), .int (nI 1), .int (nI x.2.2.2), .ref w])), (tx, .inl (dA 1, 300, .inl tf)), (w, .inr (16, [.ref wq, .int (nI 0), .int (nI 0), .int (nI 0)])), (wq, .inl (dA 1, (x.2.2.1 - x.2.1), .inl (bw (fun j => byS tz tf (x.2.1 + j)) (x.2.2.1 - x.2.1))))] sz)) (160 + 2 * ((ruE tz (byS tz tf) x c a).2.2.1 - x.2.2.1)) (1360 + 10 * ((ruE tz (byS tz tf) x c a).2.2.1 - x.2.2.1)) (va_A [(r, .inr (6, [.ref tx, .int (nI tz), .int (nI x.2.2.1), .int (nI x.2.1), .int (nI 1), .int (nI x.2.2.2), .ref w])), (tx, .inl (dA 1, 300, .inl tf)), (w, .inr (16, [.ref wq, .int (nI 0), .int (nI 0), .int (nI 0)])), (wq, .inl (dA 1, (x.2.2.1 - x.2.1), .inl (bw (fun j => byS tz tf (x.2.1 + j)) (x.2.2.1 - x.2.1))))] sz) := by
  obtain ⟨g1, g2, g3, g4, g5, g6, g7, g8⟩ := h3
  have hb := byS_lt tz tf
  match c, g1 with
  | 0, _ =>
    have hE : ruE tz (byS tz tf) x 0 a = nx tz (byS tz tf) (actS tz (byS tz tf) a x) := rfl
    rw [hE]
    have fa := act_L hb h2 a
    refine ((c_X7_rule_0 lh D dA sz r tx tz tf x w wq K a h1 h2 g5 g6 g7 g8).post ?_).room (Nat.le_of_ble_eq_true rfl) (by show 30 + _ + _ + _ ≤ 160 + 2 * _; omega) (by show 300 + 5 * _ + 5 * _ + 5 * _ ≤ 1360 + 10 * _; omega) (Nat.le_of_ble_eq_true rfl) (by omega) (by omega)
    intro a9 st o t q
    obtain ⟨⟨r9, u, e1, e2, hP9, hD9, hG9⟩, hF⟩ := q
    refine ⟨⟨r9, (u.1, u.2.1, fun j => [u.2.2.1, u.2.2.2.1, u.2.2.2.2].getD j 0), e1, e2, ?_, ?_, hG9⟩, hF⟩
    · rw [askF_0 (q1 := 0) (q2 := 0) (q3 := 0)] at hP9; exact hP9
    · rw [askF_0 (q1 := 0) (q2 := 0) (q3 := 0)] at hD9; exact hD9
  | 1, _ =>
    have hE : ruE tz (byS tz tf) x 1 a = nx tz (byS tz tf) (actS tz (byS tz tf) a (nx tz (byS tz tf) (co3 tz (byS tz tf) (nx tz (byS tz tf) x)))) := rfl
    rw [hE]
    have f0 := co_L hb h2
    have o0 : RdOk tz (byS tz tf) (co3 tz (byS tz tf) (nx tz (byS tz tf) x)) := co3_ok hb ((h2).nx hb)
    obtain ⟨fw, ow⟩ := nx_at hb o0
    have fa := act_L hb ow a
    refine ((c_X7_rule_1 lh D dA sz r tx tz tf x w wq K a h1 h2 (g2 (by decide)).1 (g3 0 (by decide)) (g2 (by decide)).2 g5 g6 g7 g8).post ?_).room (Nat.le_of_ble_eq_true rfl) (by show 80 + _ + _ + _ + _ + _ + _ + _ + _ ≤ 160 + 2 * _; omega) (by show 720 + 5 * _ + 5 * _ + 5 * _ + 5 * _ + 5 * _ + 5 * _ + 5 * _ + 5 * _ ≤ 1360 + 10 * _; omega) (Nat.le_of_ble_eq_true rfl) (by omega) (by omega)
    intro a9 st o t q
    obtain ⟨⟨r9, u, e1, e2, hP9, hD9, hG9⟩, hF⟩ := q
    refine ⟨⟨r9, (u.1, u.2.1, fun j => [u.2.2.1, u.2.2.2.1, u.2.2.2.2.1, u.2.2.2.2.2].getD j 0), e1, e2, ?_, ?_, hG9⟩, hF⟩
    · exact hP9
    · exact hD9
  | 2, _ =>
    have hE : ruE tz (byS tz tf) x 2 a = nx tz (byS tz tf) (actS tz (byS tz tf) a (nx tz (byS tz tf) (co3 tz (byS tz tf) (nx tz (byS tz tf) (co3 tz (byS tz tf) (nx tz (byS tz tf) x)))))) := rfl
    rw [hE]
    have f0 := co_L hb h2
    have o0 : RdOk tz (byS tz tf) (co3 tz (byS tz tf) (nx tz (byS tz tf) x)) := co3_ok hb ((h2).nx hb)
    have f1 := co_L hb o0
    have o1 : RdOk tz (byS tz tf) (co3 tz (byS tz tf) (nx tz (byS tz tf) (co3 tz (byS tz tf) (nx tz (byS tz tf) x)))) := co3_ok hb ((o0).nx hb)
    obtain ⟨fw, ow⟩ := nx_at hb o1
    have fa := act_L hb ow a
    refine ((c_X7_rule_2 lh D dA sz r tx tz tf x w wq K a h1 h2 (g2 (by decide)).1 (g3 0 (by decide)) (g4 1 (by decide) (by decide)) (g3 1 (by decide)) (g2 (by decide)).2 g5 g6 g7 g8).post ?_).room (Nat.le_of_ble_eq_true rfl) (by show 120 + _ + _ + _ + _ + _ + _ + _ + _ + _ + _ + _ + _ ≤ 160 + 2 * _; omega) (by show 1040 + 5 * _ + 5 * _ + 5 * _ + 5 * _ + 5 * _ + 5 * _ + 5 * _ + 5 * _ + 5 * _ + 5 * _ + 5 * _ + 5 * _ ≤ 1360 + 10 * _; omega) (Nat.le_of_ble_eq_true rfl) (by omega) (by omega)
    intro a9 st o t q
    obtain ⟨⟨r9, u, e1, e2, hP9, hD9, hG9⟩, hF⟩ := q
    refine ⟨⟨r9, (u.1, u.2.1, fun j => [u.2.2.1, u.2.2.2.1, u.2.2.2.2.1, u.2.2.2.2.2.1, u.2.2.2.2.2.2].getD j 0), e1, e2, ?_, ?_, hG9⟩, hF⟩
    · exact hP9
    · exact hD9
  | 3, _ =>
    have hE : ruE tz (byS tz tf) x 3 a = nx tz (byS tz tf) (actS tz (byS tz tf) a (nx tz (byS tz tf) (co3 tz (byS tz tf) (nx tz (byS tz tf) (co3 tz (byS tz tf) (nx tz (byS tz tf) (co3 tz (byS tz tf) (nx tz (byS tz tf) x)))))))) := rfl
    rw [hE]
    have f0 := co_L hb h2
    have o0 : RdOk tz (byS tz tf) (co3 tz (byS tz tf) (nx tz (byS tz tf) x)) := co3_ok hb ((h2).nx hb)
    have f1 := co_L hb o0
    have o1 : RdOk tz (byS tz tf) (co3 tz (byS tz tf) (nx tz (byS tz tf) (co3 tz (byS tz tf) (nx tz (byS tz tf) x)))) := co3_ok hb ((o0).nx hb)
    have f2 := co_L hb o1
    have o2 : RdOk tz (byS tz tf) (co3 tz (byS tz tf) (nx tz (byS tz tf) (co3 tz (byS tz tf) (nx tz (byS tz tf) (co3 tz (byS tz tf) (nx tz (byS tz tf) x)))))) := co3_ok hb ((o1).nx hb)
    obtain ⟨fw, ow⟩ := nx_at hb o2
    have fa := act_L hb ow a
    refine ((c_X7_rule_3 lh D dA sz r tx tz tf x w wq K a h1 h2 (g2 (by decide)).1 (g3 0 (by decide)) (g4 1 (by decide) (by decide)) (g3 1 (by decide)) (g4 2 (by decide) (by decide)) (g3 2 (by decide)) (g2 (by decide)).2 g5 g6 g7 g8).post ?_).room (Nat.le_of_ble_eq_true rfl) (by show 160 + _ + _ + _ + _ + _ + _ + _ + _ + _ + _ + _ + _ + _ + _ + _ + _ ≤ 160 + 2 * _; omega) (by show 1360 + 5 * _ + 5 * _ + 5 * _ + 5 * _ + 5 * _ + 5 * _ + 5 * _ + 5 * _ + 5 * _ + 5 * _ + 5 * _ + 5 * _ + 5 * _ + 5 * _ + 5 * _ + 5 * _ ≤ 1360 + 10 * _; omega) (Nat.le_of_ble_eq_true rfl) (by omega) (by omega)
    intro a9 st o t q
    obtain ⟨⟨r9, u, e1, e2, hP9, hD9, hG9⟩, hF⟩ := q
    refine ⟨⟨r9, (u.1, u.2.1, fun j => [u.2.2.1, u.2.2.2.1, u.2.2.2.2.1, u.2.2.2.2.2.1, u.2.2.2.2.2.2.1, u.2.2.2.2.2.2.2].getD j 0), e1, e2, ?_, ?_, hG9⟩, hF⟩
    · exact hP9
    · exact hD9
