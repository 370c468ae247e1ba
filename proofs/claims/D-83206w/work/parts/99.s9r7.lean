set_option maxRecDepth 100000
set_option maxRecDepth 100000
/-- blanks behind the first place -/
def csp (f : Nat → Nat) : Nat → Nat
  | 0 => 0
  | k + 1 => csp f k + (if f (k + 1) = 32 then 1 else 0)
theorem csp_le (f : Nat → Nat) : ∀ k, csp f k ≤ k := by
  intro k
  induction k with
  | zero => exact Nat.le_refl _
  | succ k ih =>
    rw [csp]
    split <;> omega
abbrev ixW (i : Nat) (b : Nat → Nat) (x : Nat × Nat × Nat × Nat) : Option Nat := ixT (kch i) (spW (fun j => b (x.2.1 + j)) (x.2.2.1 - x.2.1)) (x.2.2.1 - x.2.1 + 2) (klen i - (x.2.2.1 - x.2.1 + 2) + 1) 0

abbrev r_X7_act_TO : Room := { frames := 5, cells := 1, slots := 8, locals := 110 }
set_option maxHeartbeats 1000000 in
theorem c_X7_act_TO (lh : Launch) (D : va_G) (dA : Nat → ClassId) (sz : Nat) (r : Nat) (tx : Nat) (tz : Nat) (tf : Nat → Int32) (x : Nat × Nat × Nat × Nat) (w : Nat) (wq : Nat) (K : Nat → Nat) (h1 : tz ≤ 300) (h2 : RdOk tz (byS tz tf) x) (h3 : x.1 ≠ 1) : MetT lh yX7_act (ws_ yX7_act cX7_act 4 (some (.object "PickleHouse$Act"))) r_X7_act_TO (PX (fun U H => H.size = sz ∧ va_P D CL [(r, .inr (6, [.ref tx, .int (nI tz), .int (nI x.2.2.1), .int (nI x.2.1), .int (nI x.1), .int (nI x.2.2.2), .ref w])), (tx, .inl (dA 1, 300, .inl tf))] H ∧ va_D nT [(r, .inr (6, [.ref tx, .int (nI tz), .int (nI x.2.2.1), .int (nI x.2.1), .int (nI x.1), .int (nI x.2.2.2), .ref w])), (tx, .inl (dA 1, 300, .inl tf))] ∧ GK D dA U ∧ KT (va_A [(r, .inr (6, [.ref tx, .int (nI tz), .int (nI x.2.2.1), .int (nI x.2.1), .int (nI x.1), .int (nI x.2.2.2), .ref w])), (tx, .inl (dA 1, 300, .inl tf))] sz) U H ∧ KZ K (va_A [(r, .inr (6, [.ref tx, .int (nI tz), .int (nI x.2.2.1), .int (nI x.2.1), .int (nI x.1), .int (nI x.2.2.2), .ref w])), (tx, .inl (dA 1, 300, .inl tf))] sz) U H) [.ref r]) (QTw D (va_A [(r, .inr (6, [.ref tx, .int (nI tz), .int (nI x.2.2.1), .int (nI x.2.1), .int (nI x.1), .int (nI x.2.2.2), .ref w])), (tx, .inl (dA 1, 300, .inl tf))] sz) 1 x.2.1) 1 8 (va_A [(r, .inr (6, [.ref tx, .int (nI tz), .int (nI x.2.2.1), .int (nI x.2.1), .int (nI x.1), .int (nI x.2.2.2), .ref w])), (tx, .inl (dA 1, 300, .inl tf))] sz) := by
  refine MetT.ofW (cc := cX7_act) (maxL := 4) (ret := (some (.object "PickleHouse$Act"))) (by decide) rfl ?_
  intro p e s m args below meth cd s₁ B hml he9 hv
  obtain ⟨hargs, hsz, hP, hD, hG, hKT, hKZ⟩ := hv
  have hx := B.exec
  have hb := B.bytes
  have hrt := B.returns
  have hts := atoms_spec (ws := (ws_ yX7_act cX7_act 4 (some (.object "PickleHouse$Act")))) B.pre
  have hts : ∀ w ∈ lw_all, w.before _ s = true := fun w h => hts w (List.mem_cons_of_mem _ h)
  have hown : s.vm.findClass RX7 = some m.cls := findClass_of_methodNamed B.named
  have hlocks := B.notSynchronized
  subst hsz
  have hD := hD.self (sz := s.heap.size)
  have hA : ∀ q : Nat, s.heap.size ≤ q → va_A [(r, .inr (6, [.ref tx, .int (nI tz), .int (nI x.2.2.1), .int (nI x.2.1), .int (nI x.1), .int (nI x.2.2.2), .ref w])), (tx, .inl (dA 1, 300, .inl tf))] s.heap.size q := fun q h => Or.inr h
  generalize va_A [(r, .inr (6, [.ref tx, .int (nI tz), .int (nI x.2.2.1), .int (nI x.2.1), .int (nI x.1), .int (nI x.2.2.2), .ref w])), (tx, .inl (dA 1, 300, .inl tf))] s.heap.size = A at hD hA hKT hKZ ⊢
  have hS : va_S A s.heap s.heap [] := va_S.rf
  have hE : entryFrame m args 4 = F0 m 0 ((lg_sl ([.ref r]) ++ List.replicate (4 - (lg_sl ([.ref r])).length) Slot.unset).toArray) [] := by rw [hargs]; exact lg_entry_eq m _ 4
  have hl := lv_entry ([.ref r]) (n := 4) (Nat.le_of_ble_eq_true rfl)
  rw [hE]
  clear hE
  generalize (lg_sl ([.ref r]) ++ List.replicate (4 - (lg_sl ([.ref r])).length) Slot.unset).toArray = ls at hl ⊢
  have hl : lv_has ls 4 [(0, .ref r)] := hl
  generalize hQ : MQT _ _ _ _ _ _ _ = Q
  refine lv_aload_n hx hb dX7_act_0 rfl (lv_at hl 0 rfl) ?_
  refine va_ldcS hx hb hown (show vk_R RX7 89 " press throw ready cool warm salt " (K 3) s from hKZ.2.2 3 (by decide)) dX7_act_1 ?_
  have hPs : va_P D CL ([(r, .inr (6, [.ref tx, .int (nI tz), .int (nI x.2.2.1), .int (nI x.2.1), .int (nI x.1), .int (nI x.2.2.2), .ref w])), (tx, .inl (dA 1, 300, .inl tf))] ++ []) s.heap := hP.sub [0, 1] rfl
  refine vp_callSi (va_Run.call (va_runV (As := [.ref (K 3)]) (rest := []) ⟨hx, hb, hml, hown, hts⟩ (c_X7_isOf_O lh D dA r tx tz tf x.2.2.1 x.2.1 x.1 x.2.2.2 w (K 3) (K (100 + 3)) (klen 3) (kch 3) (h3) (by have := h2.2.2.1; omega)) (w_X7_isOf hts q824 rfl rfl ⟨Nat.le_of_ble_eq_true rfl, Nat.le_of_ble_eq_true rfl⟩) ⟨PX.blind (Mv.and Mv.heap Mv.gk), (va_recv hG.1 hP (ci := 6) (q0 := 0) rfl rfl), PX.pre (Mv.and Mv.heap Mv.gk) ⟨(va_P_left hPs), hG⟩⟩ rfl rfl hl.1 rfl (lv_room (Nat.le_of_ble_eq_true rfl)) dX7_act_3 ⟨Nat.le_of_ble_eq_true rfl, Nat.le_of_ble_eq_true rfl⟩)) (fun rr hrr => ?_)
  subst hrr
  refine kx_int (y := nI 0) (rfl) ?_
  refine kn_zne (tgt := 14) hx hb dX7_act_6 (by decide) (by decide) (fun c => absurd c (by decide)) (fun _ => ?_)
  refine lv_aload_n hx hb dX7_act_9 rfl (lv_at hl 0 rfl) ?_
  have hPs : va_P D CL ([(r, .inr (6, [.ref tx, .int (nI tz), .int (nI x.2.2.1), .int (nI x.2.1), .int (nI x.1), .int (nI x.2.2.2), .ref w])), (tx, .inl (dA 1, 300, .inl tf))] ++ []) s.heap := hP.sub [0, 1] rfl
  have hDs : va_D A ([(r, .inr (6, [.ref tx, .int (nI tz), .int (nI x.2.2.1), .int (nI x.2.1), .int (nI x.1), .int (nI x.2.2.2), .ref w])), (tx, .inl (dA 1, 300, .inl tf))] ++ []) := hD.sub [0, 1] (by decide) rfl
  have hz9 := hS.1
  refine va_callq (va_runV (As := []) (rest := []) ⟨hx, hb, hml, hown, hts⟩ (c_X7_form lh D dA s.heap.size r tx tz tf x.2.2.1 x.2.1 x.1 x.2.2.2 w) (w_X7_form hts q890 rfl rfl ⟨Nat.le_of_ble_eq_true rfl, Nat.le_of_ble_eq_true rfl⟩) ⟨PX.blind (Mv.and Mv.heap (Mv.and Mv.heap (Mv.and Mv.heap (Mv.and Mv.gk KT.mv)))), (va_recv hG.1 hP (ci := 6) (q0 := 0) rfl rfl), PX.pre (Mv.and Mv.heap (Mv.and Mv.heap (Mv.and Mv.heap (Mv.and Mv.gk KT.mv)))) ⟨rfl, (va_P_left hPs), (va_D_left hDs), hG, (KT.at hKT hS (va_A_up hDs hA hS.1))⟩⟩ rfl rfl hl.1 rfl (lv_room (Nat.le_of_ble_eq_true rfl)) dX7_act_10 ⟨Nat.le_of_ble_eq_true rfl, Nat.le_of_ble_eq_true rfl⟩) hS (fun q _ => (va_A_up hDs hA hS.1) q) ((va_A_up hDs hA hS.1)) (fun rr u t H1 locs ht hvm hp hB hz hk hS => ?_)
  generalize u = u10 at hp hB
  obtain ⟨hP1, hD1, -⟩ := hB
  rw [ht] at hP1
  obtain ⟨hP, hD⟩ := vp_join hPs hDs hP1 hD1 hk hA hz9
  clear ht hvm hz hk hP1 hD1 hPs hDs hz9
  generalize H1 = H at hP hS ⊢
  have hP : va_P D CL [(r, .inr (6, [.ref tx, .int (nI tz), .int (nI x.2.2.1), .int (nI x.2.1), .int (nI x.1), .int (nI x.2.2.2), .ref w])), (tx, .inl (dA 1, 300, .inl tf)), (u10, .inr (7, [.null, .null, .null, .null, .null, .int (nI 0), .int (nI 1), .int (nI x.2.1)]))] H := hP
  have hD : va_D A [(r, .inr (6, [.ref tx, .int (nI tz), .int (nI x.2.2.1), .int (nI x.2.1), .int (nI x.1), .int (nI x.2.2.2), .ref w])), (tx, .inl (dA 1, 300, .inl tf)), (u10, .inr (7, [.null, .null, .null, .null, .null, .int (nI 0), .int (nI 1), .int (nI x.2.1)]))] := hD
  have hrr := hp
  try dsimp only at hrr
  subst hrr
  show W p lh e r_X7_act_TO s m args below meth cd _ _ _ _ Q (F0 m _ ls (.ref u10 :: _))
  refine W.widen (k := 1) (n := 8) (by first | decide | omega) (by first | decide | omega) ?_
  subst hQ
  exact W.thr hx hb he9 (fun t ht _ => ⟨u10, rfl, hD.2 2 _ rfl, by rw [ht]; exact hP 2 _ rfl, by rw [ht]; exact hS.1, fun q9 hq9 hA9 => by rw [ht]; exact hS.2.1 q9 hq9 hA9⟩) hS.2.2 dX7_act_13 hlocks

abbrev r_X7_act_TW : Room := { frames := 7, cells := 5, slots := 42, locals := 172 }
set_option maxHeartbeats 1000000 in
theorem c_X7_act_TW (lh : Launch) (D : va_G) (dA : Nat → ClassId) (sz : Nat) (r : Nat) (tx : Nat) (tz : Nat) (tf : Nat → Int32) (x : Nat × Nat × Nat × Nat) (w : Nat) (wq : Nat) (K : Nat → Nat) (h1 : tz ≤ 300) (h2 : RdOk tz (byS tz tf) x) (h3 : x.1 = 1) (h4 : (ixW 3 (byS tz tf) x).isSome = false) : MetT lh yX7_act (ws_ yX7_act cX7_act 4 (some (.object "PickleHouse$Act"))) r_X7_act_TW (PX (fun U H => H.size = sz ∧ va_P D CL [(r, .inr (6, [.ref tx, .int (nI tz), .int (nI x.2.2.1), .int (nI x.2.1), .int (nI 1), .int (nI x.2.2.2), .ref w])), (tx, .inl (dA 1, 300, .inl tf)), (w, .inr (16, [.ref wq, .int (nI 0), .int (nI 0), .int (nI 0)])), (wq, .inl (dA 1, (x.2.2.1 - x.2.1), .inl (bw (fun j => byS tz tf (x.2.1 + j)) (x.2.2.1 - x.2.1))))] H ∧ va_D nT [(r, .inr (6, [.ref tx, .int (nI tz), .int (nI x.2.2.1), .int (nI x.2.1), .int (nI 1), .int (nI x.2.2.2), .ref w])), (tx, .inl (dA 1, 300, .inl tf)), (w, .inr (16, [.ref wq, .int (nI 0), .int (nI 0), .int (nI 0)])), (wq, .inl (dA 1, (x.2.2.1 - x.2.1), .inl (bw (fun j => byS tz tf (x.2.1 + j)) (x.2.2.1 - x.2.1))))] ∧ GK D dA U ∧ KC (va_A [(r, .inr (6, [.ref tx, .int (nI tz), .int (nI x.2.2.1), .int (nI x.2.1), .int (nI 1), .int (nI x.2.2.2), .ref w])), (tx, .inl (dA 1, 300, .inl tf)), (w, .inr (16, [.ref wq, .int (nI 0), .int (nI 0), .int (nI 0)])), (wq, .inl (dA 1, (x.2.2.1 - x.2.1), .inl (bw (fun j => byS tz tf (x.2.1 + j)) (x.2.2.1 - x.2.1))))] sz) U H ∧ KZ K (va_A [(r, .inr (6, [.ref tx, .int (nI tz), .int (nI x.2.2.1), .int (nI x.2.1), .int (nI 1), .int (nI x.2.2.2), .ref w])), (tx, .inl (dA 1, 300, .inl tf)), (w, .inr (16, [.ref wq, .int (nI 0), .int (nI 0), .int (nI 0)])), (wq, .inl (dA 1, (x.2.2.1 - x.2.1), .inl (bw (fun j => byS tz tf (x.2.1 + j)) (x.2.2.1 - x.2.1))))] sz) U H ∧ PV U ∧ KT (va_A [(r, .inr (6, [.ref tx, .int (nI tz), .int (nI x.2.2.1), .int (nI x.2.1), .int (nI 1), .int (nI x.2.2.2), .ref w])), (tx, .inl (dA 1, 300, .inl tf)), (w, .inr (16, [.ref wq, .int (nI 0), .int (nI 0), .int (nI 0)])), (wq, .inl (dA 1, (x.2.2.1 - x.2.1), .inl (bw (fun j => byS tz tf (x.2.1 + j)) (x.2.2.1 - x.2.1))))] sz) U H) [.ref r]) (QTw D (va_A [(r, .inr (6, [.ref tx, .int (nI tz), .int (nI x.2.2.1), .int (nI x.2.1), .int (nI 1), .int (nI x.2.2.2), .ref w])), (tx, .inl (dA 1, 300, .inl tf)), (w, .inr (16, [.ref wq, .int (nI 0), .int (nI 0), .int (nI 0)])), (wq, .inl (dA 1, (x.2.2.1 - x.2.1), .inl (bw (fun j => byS tz tf (x.2.1 + j)) (x.2.2.1 - x.2.1))))] sz) 1 x.2.1) 5 42 (va_A [(r, .inr (6, [.ref tx, .int (nI tz), .int (nI x.2.2.1), .int (nI x.2.1), .int (nI 1), .int (nI x.2.2.2), .ref w])), (tx, .inl (dA 1, 300, .inl tf)), (w, .inr (16, [.ref wq, .int (nI 0), .int (nI 0), .int (nI 0)])), (wq, .inl (dA 1, (x.2.2.1 - x.2.1), .inl (bw (fun j => byS tz tf (x.2.1 + j)) (x.2.2.1 - x.2.1))))] sz) := by
  refine MetT.ofW (cc := cX7_act) (maxL := 4) (ret := (some (.object "PickleHouse$Act"))) (by decide) rfl ?_
  intro p e s m args below meth cd s₁ B hml he9 hv
  obtain ⟨hargs, hsz, hP, hD, hG, hKC, hKZ, hPV, hKT⟩ := hv
  have hx := B.exec
  have hb := B.bytes
  have hrt := B.returns
  have hts := atoms_spec (ws := (ws_ yX7_act cX7_act 4 (some (.object "PickleHouse$Act")))) B.pre
  have hts : ∀ w ∈ lw_all, w.before _ s = true := fun w h => hts w (List.mem_cons_of_mem _ h)
  have hown : s.vm.findClass RX7 = some m.cls := findClass_of_methodNamed B.named
  have hlocks := B.notSynchronized
  subst hsz
  have hD := hD.self (sz := s.heap.size)
  have hA : ∀ q : Nat, s.heap.size ≤ q → va_A [(r, .inr (6, [.ref tx, .int (nI tz), .int (nI x.2.2.1), .int (nI x.2.1), .int (nI 1), .int (nI x.2.2.2), .ref w])), (tx, .inl (dA 1, 300, .inl tf)), (w, .inr (16, [.ref wq, .int (nI 0), .int (nI 0), .int (nI 0)])), (wq, .inl (dA 1, (x.2.2.1 - x.2.1), .inl (bw (fun j => byS tz tf (x.2.1 + j)) (x.2.2.1 - x.2.1))))] s.heap.size q := fun q h => Or.inr h
  generalize va_A [(r, .inr (6, [.ref tx, .int (nI tz), .int (nI x.2.2.1), .int (nI x.2.1), .int (nI 1), .int (nI x.2.2.2), .ref w])), (tx, .inl (dA 1, 300, .inl tf)), (w, .inr (16, [.ref wq, .int (nI 0), .int (nI 0), .int (nI 0)])), (wq, .inl (dA 1, (x.2.2.1 - x.2.1), .inl (bw (fun j => byS tz tf (x.2.1 + j)) (x.2.2.1 - x.2.1))))] s.heap.size = A at hD hA hKC hKZ hKT ⊢
  have hS : va_S A s.heap s.heap [] := va_S.rf
  have hE : entryFrame m args 4 = F0 m 0 ((lg_sl ([.ref r]) ++ List.replicate (4 - (lg_sl ([.ref r])).length) Slot.unset).toArray) [] := by rw [hargs]; exact lg_entry_eq m _ 4
  have hl := lv_entry ([.ref r]) (n := 4) (Nat.le_of_ble_eq_true rfl)
  rw [hE]
  clear hE
  generalize (lg_sl ([.ref r]) ++ List.replicate (4 - (lg_sl ([.ref r])).length) Slot.unset).toArray = ls at hl ⊢
  have hl : lv_has ls 4 [(0, .ref r)] := hl
  generalize hQ : MQT _ _ _ _ _ _ _ = Q
  have hk3 : klen 3 = 34 := rfl
  have hk5 : klen 5 = 40 := rfl
  have hw9 := h2.2.2.2.2 h3
  have hlt : ∀ j, j < (x.2.2.1 - x.2.1) → byS tz tf (x.2.1 + j) < 128 := fun j hj => by have := hw9.2.2 j hj; omega
  refine lv_aload_n hx hb dX7_act_0 rfl (lv_at hl 0 rfl) ?_
  refine va_ldcS hx hb hown (show vk_R RX7 89 " press throw ready cool warm salt " (K 3) s from hKZ.2.2 3 (by decide)) dX7_act_1 ?_
  have hPs : va_P D CL ([(r, .inr (6, [.ref tx, .int (nI tz), .int (nI x.2.2.1), .int (nI x.2.1), .int (nI 1), .int (nI x.2.2.2), .ref w])), (tx, .inl (dA 1, 300, .inl tf)), (w, .inr (16, [.ref wq, .int (nI 0), .int (nI 0), .int (nI 0)])), (wq, .inl (dA 1, (x.2.2.1 - x.2.1), .inl (bw (fun j => byS tz tf (x.2.1 + j)) (x.2.2.1 - x.2.1))))] ++ []) s.heap := hP.sub [0, 1, 2, 3] rfl
  have hDs : va_D A ([(r, .inr (6, [.ref tx, .int (nI tz), .int (nI x.2.2.1), .int (nI x.2.1), .int (nI 1), .int (nI x.2.2.2), .ref w])), (tx, .inl (dA 1, 300, .inl tf)), (w, .inr (16, [.ref wq, .int (nI 0), .int (nI 0), .int (nI 0)])), (wq, .inl (dA 1, (x.2.2.1 - x.2.1), .inl (bw (fun j => byS tz tf (x.2.1 + j)) (x.2.2.1 - x.2.1))))] ++ []) := hD.sub [0, 1, 2, 3] (by decide) rfl
  have hz9 := hS.1
  refine va_calli (va_runV (As := [.ref (K 3)]) (rest := []) ⟨hx, hb, hml, hown, hts⟩ (c_X7_isOf_W lh D dA s.heap.size r tx tz tf x.2.2.1 x.2.1 x.2.2.2 w wq (x.2.2.1 - x.2.1) (fun j => byS tz tf (x.2.1 + j)) K (K 3) (K (100 + 3)) (klen 3) (kch 3) (by omega) (by omega) (by omega) (by decide) (hlt)) (w_X7_isOf hts q824 rfl rfl ⟨Nat.le_of_ble_eq_true rfl, Nat.le_of_ble_eq_true rfl⟩) ⟨PX.blind (Mv.and Mv.heap (Mv.and Mv.heap (Mv.and Mv.heap (Mv.and Mv.gk (Mv.and KC.mv (Mv.and KZ.mv (Mv.and SA.mv PV.mv))))))), (va_recv hG.1 hP (ci := 6) (q0 := 0) rfl rfl), PX.pre (Mv.and Mv.heap (Mv.and Mv.heap (Mv.and Mv.heap (Mv.and Mv.gk (Mv.and KC.mv (Mv.and KZ.mv (Mv.and SA.mv PV.mv))))))) ⟨rfl, (va_P_left hPs), (va_D_left hDs), hG, (KC.at hKC hS (va_A_up hDs hA hS.1)), (KZ.at hKZ hS (va_A_up hDs hA hS.1)), ((KZ.at hKZ hS (va_A_up hDs hA hS.1)).2.1 3 (by decide)), hPV⟩⟩ rfl rfl hl.1 rfl (lv_room (Nat.le_of_ble_eq_true rfl)) dX7_act_3 ⟨Nat.le_of_ble_eq_true rfl, by show 0 + _ ≤ 42; omega⟩) hS (fun q _ => (va_A_up hDs hA hS.1) q) ((va_A_up hDs hA hS.1)) (fun rr u t H1 locs ht hvm hp hB hz hk hS => ?_)
  obtain ⟨hP1, hD1, -⟩ := hB
  rw [ht] at hP1
  obtain ⟨hP, hD⟩ := vp_join hPs hDs hP1 hD1 hk hA hz9
  clear ht hvm hz hk hP1 hD1 hPs hDs hz9
  generalize H1 = H at hP hS ⊢
  have hP : va_P D CL [(r, .inr (6, [.ref tx, .int (nI tz), .int (nI x.2.2.1), .int (nI x.2.1), .int (nI 1), .int (nI x.2.2.2), .ref w])), (tx, .inl (dA 1, 300, .inl tf)), (w, .inr (16, [.ref wq, .int (nI 0), .int (nI 0), .int (nI 0)])), (wq, .inl (dA 1, (x.2.2.1 - x.2.1), .inl (bw (fun j => byS tz tf (x.2.1 + j)) (x.2.2.1 - x.2.1))))] H := hP
  have hD : va_D A [(r, .inr (6, [.ref tx, .int (nI tz), .int (nI x.2.2.1), .int (nI x.2.1), .int (nI 1), .int (nI x.2.2.2), .ref w])), (tx, .inl (dA 1, 300, .inl tf)), (w, .inr (16, [.ref wq, .int (nI 0), .int (nI 0), .int (nI 0)])), (wq, .inl (dA 1, (x.2.2.1 - x.2.1), .inl (bw (fun j => byS tz tf (x.2.1 + j)) (x.2.2.1 - x.2.1))))] := hD
  have hrr := hp
  try dsimp only at hrr
  subst hrr
  refine kb_ne (tgt := 14) hx hb dX7_act_6 (by decide) (fun c_6 => ?_) (fun c_6 => ?_)
  · exact absurd (h4.symm.trans c_6) (by decide)
  · refine lv_aload_n hx hb dX7_act_9 rfl (lv_at hl 0 rfl) ?_
    have hPs : va_P D CL ([(r, .inr (6, [.ref tx, .int (nI tz), .int (nI x.2.2.1), .int (nI x.2.1), .int (nI 1), .int (nI x.2.2.2), .ref w])), (tx, .inl (dA 1, 300, .inl tf))] ++ [(w, .inr (16, [.ref wq, .int (nI 0), .int (nI 0), .int (nI 0)])), (wq, .inl (dA 1, (x.2.2.1 - x.2.1), .inl (bw (fun j => byS tz tf (x.2.1 + j)) (x.2.2.1 - x.2.1))))]) H := hP.sub [0, 1, 2, 3] rfl
    have hDs : va_D A ([(r, .inr (6, [.ref tx, .int (nI tz), .int (nI x.2.2.1), .int (nI x.2.1), .int (nI 1), .int (nI x.2.2.2), .ref w])), (tx, .inl (dA 1, 300, .inl tf))] ++ [(w, .inr (16, [.ref wq, .int (nI 0), .int (nI 0), .int (nI 0)])), (wq, .inl (dA 1, (x.2.2.1 - x.2.1), .inl (bw (fun j => byS tz tf (x.2.1 + j)) (x.2.2.1 - x.2.1))))]) := hD.sub [0, 1, 2, 3] (by decide) rfl
    have hz9 := hS.1
    refine va_callq (va_runV (As := []) (rest := []) ⟨hx, hb, hml, hown, hts⟩ (c_X7_form lh D dA H.size r tx tz tf x.2.2.1 x.2.1 1 x.2.2.2 w) (w_X7_form hts q890 rfl rfl ⟨Nat.le_of_ble_eq_true rfl, Nat.le_of_ble_eq_true rfl⟩) ⟨PX.blind (Mv.and Mv.heap (Mv.and Mv.heap (Mv.and Mv.heap (Mv.and Mv.gk KT.mv)))), (va_recv hG.1 hP (ci := 6) (q0 := 0) rfl rfl), PX.pre (Mv.and Mv.heap (Mv.and Mv.heap (Mv.and Mv.heap (Mv.and Mv.gk KT.mv)))) ⟨rfl, (va_P_left hPs), (va_D_left hDs), hG, (KT.at hKT hS (va_A_up hDs hA hS.1))⟩⟩ rfl rfl hl.1 rfl (lv_room (Nat.le_of_ble_eq_true rfl)) dX7_act_10 ⟨Nat.le_of_ble_eq_true rfl, by show 0 + _ + _ ≤ 42; omega⟩) hS (fun q _ => (va_A_up hDs hA hS.1) q) ((va_A_up hDs hA hS.1)) (fun rr u t H1 locs ht hvm hp hB hz hk hS => ?_)
    generalize u = u10 at hp hB
    obtain ⟨hP1, hD1, -⟩ := hB
    rw [ht] at hP1
    obtain ⟨hP, hD⟩ := vp_join hPs hDs hP1 hD1 hk hA hz9
    clear ht hvm hz hk hP1 hD1 hPs hDs hz9
    generalize H1 = H at hP hS ⊢
    have hP : va_P D CL [(r, .inr (6, [.ref tx, .int (nI tz), .int (nI x.2.2.1), .int (nI x.2.1), .int (nI 1), .int (nI x.2.2.2), .ref w])), (tx, .inl (dA 1, 300, .inl tf)), (u10, .inr (7, [.null, .null, .null, .null, .null, .int (nI 0), .int (nI 1), .int (nI x.2.1)])), (w, .inr (16, [.ref wq, .int (nI 0), .int (nI 0), .int (nI 0)])), (wq, .inl (dA 1, (x.2.2.1 - x.2.1), .inl (bw (fun j => byS tz tf (x.2.1 + j)) (x.2.2.1 - x.2.1))))] H := hP
    have hD : va_D A [(r, .inr (6, [.ref tx, .int (nI tz), .int (nI x.2.2.1), .int (nI x.2.1), .int (nI 1), .int (nI x.2.2.2), .ref w])), (tx, .inl (dA 1, 300, .inl tf)), (u10, .inr (7, [.null, .null, .null, .null, .null, .int (nI 0), .int (nI 1), .int (nI x.2.1)])), (w, .inr (16, [.ref wq, .int (nI 0), .int (nI 0), .int (nI 0)])), (wq, .inl (dA 1, (x.2.2.1 - x.2.1), .inl (bw (fun j => byS tz tf (x.2.1 + j)) (x.2.2.1 - x.2.1))))] := hD
    have hrr := hp
    try dsimp only at hrr
    subst hrr
    show W p lh e r_X7_act_TW s m args below meth cd _ _ _ _ Q (F0 m _ ls (.ref u10 :: _))
    refine W.widen (k := 5) (n := 42) (by first | decide | omega) (by first | decide | omega) ?_
    subst hQ
    exact W.thr hx hb he9 (fun t ht _ => ⟨u10, rfl, hD.2 2 _ rfl, by rw [ht]; exact hP 2 _ rfl, by rw [ht]; exact hS.1, fun q9 hq9 hA9 => by rw [ht]; exact hS.2.1 q9 hq9 hA9⟩) hS.2.2 dX7_act_13 hlocks

abbrev r_X7_act_TS (L : Nat) : Room := { frames := 7, cells := (10 + L), slots := (100 + 5 * L), locals := 173 }
set_option maxHeartbeats 1000000 in
theorem c_X7_act_TS (lh : Launch) (D : va_G) (dA : Nat → ClassId) (sz : Nat) (r : Nat) (tx : Nat) (tz : Nat) (tf : Nat → Int32) (x : Nat × Nat × Nat × Nat) (w : Nat) (wq : Nat) (K : Nat → Nat) (h1 : tz ≤ 300) (h2 : RdOk tz (byS tz tf) x) (h3 : IsAct (byS tz tf) x 5) (h4 : (nx tz (byS tz tf) x).1 ≠ 2) : MetT lh yX7_act (ws_ yX7_act cX7_act 4 (some (.object "PickleHouse$Act"))) (r_X7_act_TS (nxL tz (byS tz tf) x.2.2.1)) (PX (fun U H => H.size = sz ∧ va_P D CL [(r, .inr (6, [.ref tx, .int (nI tz), .int (nI x.2.2.1), .int (nI x.2.1), .int (nI 1), .int (nI x.2.2.2), .ref w])), (tx, .inl (dA 1, 300, .inl tf)), (w, .inr (16, [.ref wq, .int (nI 0), .int (nI 0), .int (nI 0)])), (wq, .inl (dA 1, (x.2.2.1 - x.2.1), .inl (bw (fun j => byS tz tf (x.2.1 + j)) (x.2.2.1 - x.2.1))))] H ∧ va_D nT [(r, .inr (6, [.ref tx, .int (nI tz), .int (nI x.2.2.1), .int (nI x.2.1), .int (nI 1), .int (nI x.2.2.2), .ref w])), (tx, .inl (dA 1, 300, .inl tf)), (w, .inr (16, [.ref wq, .int (nI 0), .int (nI 0), .int (nI 0)])), (wq, .inl (dA 1, (x.2.2.1 - x.2.1), .inl (bw (fun j => byS tz tf (x.2.1 + j)) (x.2.2.1 - x.2.1))))] ∧ GK D dA U ∧ KC (va_A [(r, .inr (6, [.ref tx, .int (nI tz), .int (nI x.2.2.1), .int (nI x.2.1), .int (nI 1), .int (nI x.2.2.2), .ref w])), (tx, .inl (dA 1, 300, .inl tf)), (w, .inr (16, [.ref wq, .int (nI 0), .int (nI 0), .int (nI 0)])), (wq, .inl (dA 1, (x.2.2.1 - x.2.1), .inl (bw (fun j => byS tz tf (x.2.1 + j)) (x.2.2.1 - x.2.1))))] sz) U H ∧ KZ K (va_A [(r, .inr (6, [.ref tx, .int (nI tz), .int (nI x.2.2.1), .int (nI x.2.1), .int (nI 1), .int (nI x.2.2.2), .ref w])), (tx, .inl (dA 1, 300, .inl tf)), (w, .inr (16, [.ref wq, .int (nI 0), .int (nI 0), .int (nI 0)])), (wq, .inl (dA 1, (x.2.2.1 - x.2.1), .inl (bw (fun j => byS tz tf (x.2.1 + j)) (x.2.2.1 - x.2.1))))] sz) U H ∧ PV U ∧ KT (va_A [(r, .inr (6, [.ref tx, .int (nI tz), .int (nI x.2.2.1), .int (nI x.2.1), .int (nI 1), .int (nI x.2.2.2), .ref w])), (tx, .inl (dA 1, 300, .inl tf)), (w, .inr (16, [.ref wq, .int (nI 0), .int (nI 0), .int (nI 0)])), (wq, .inl (dA 1, (x.2.2.1 - x.2.1), .inl (bw (fun j => byS tz tf (x.2.1 + j)) (x.2.2.1 - x.2.1))))] sz) U H) [.ref r]) (QTw D (va_A [(r, .inr (6, [.ref tx, .int (nI tz), .int (nI x.2.2.1), .int (nI x.2.1), .int (nI 1), .int (nI x.2.2.2), .ref w])), (tx, .inl (dA 1, 300, .inl tf)), (w, .inr (16, [.ref wq, .int (nI 0), .int (nI 0), .int (nI 0)])), (wq, .inl (dA 1, (x.2.2.1 - x.2.1), .inl (bw (fun j => byS tz tf (x.2.1 + j)) (x.2.2.1 - x.2.1))))] sz) 1 ((nx tz (byS tz tf) x).2.1)) (10 + (nxL tz (byS tz tf) x.2.2.1)) (100 + 5 * (nxL tz (byS tz tf) x.2.2.1)) (va_A [(r, .inr (6, [.ref tx, .int (nI tz), .int (nI x.2.2.1), .int (nI x.2.1), .int (nI 1), .int (nI x.2.2.2), .ref w])), (tx, .inl (dA 1, 300, .inl tf)), (w, .inr (16, [.ref wq, .int (nI 0), .int (nI 0), .int (nI 0)])), (wq, .inl (dA 1, (x.2.2.1 - x.2.1), .inl (bw (fun j => byS tz tf (x.2.1 + j)) (x.2.2.1 - x.2.1))))] sz) := by
  refine MetT.ofW (cc := cX7_act) (maxL := 4) (ret := (some (.object "PickleHouse$Act"))) (by decide) rfl ?_
  intro p e s m args below meth cd s₁ B hml he9 hv
  obtain ⟨hargs, hsz, hP, hD, hG, hKC, hKZ, hPV, hKT⟩ := hv
  have hx := B.exec
  have hb := B.bytes
  have hrt := B.returns
  have hts := atoms_spec (ws := (ws_ yX7_act cX7_act 4 (some (.object "PickleHouse$Act")))) B.pre
  have hts : ∀ w ∈ lw_all, w.before _ s = true := fun w h => hts w (List.mem_cons_of_mem _ h)
  have hown : s.vm.findClass RX7 = some m.cls := findClass_of_methodNamed B.named
  have hlocks := B.notSynchronized
  subst hsz
  have hD := hD.self (sz := s.heap.size)
  have hA : ∀ q : Nat, s.heap.size ≤ q → va_A [(r, .inr (6, [.ref tx, .int (nI tz), .int (nI x.2.2.1), .int (nI x.2.1), .int (nI 1), .int (nI x.2.2.2), .ref w])), (tx, .inl (dA 1, 300, .inl tf)), (w, .inr (16, [.ref wq, .int (nI 0), .int (nI 0), .int (nI 0)])), (wq, .inl (dA 1, (x.2.2.1 - x.2.1), .inl (bw (fun j => byS tz tf (x.2.1 + j)) (x.2.2.1 - x.2.1))))] s.heap.size q := fun q h => Or.inr h
  generalize va_A [(r, .inr (6, [.ref tx, .int (nI tz), .int (nI x.2.2.1), .int (nI x.2.1), .int (nI 1), .int (nI x.2.2.2), .ref w])), (tx, .inl (dA 1, 300, .inl tf)), (w, .inr (16, [.ref wq, .int (nI 0), .int (nI 0), .int (nI 0)])), (wq, .inl (dA 1, (x.2.2.1 - x.2.1), .inl (bw (fun j => byS tz tf (x.2.1 + j)) (x.2.2.1 - x.2.1))))] s.heap.size = A at hD hA hKC hKZ hKT ⊢
  have hS : va_S A s.heap s.heap [] := va_S.rf
  have hE : entryFrame m args 4 = F0 m 0 ((lg_sl ([.ref r]) ++ List.replicate (4 - (lg_sl ([.ref r])).length) Slot.unset).toArray) [] := by rw [hargs]; exact lg_entry_eq m _ 4
  have hl := lv_entry ([.ref r]) (n := 4) (Nat.le_of_ble_eq_true rfl)
  rw [hE]
  clear hE
  generalize (lg_sl ([.ref r]) ++ List.replicate (4 - (lg_sl ([.ref r])).length) Slot.unset).toArray = ls at hl ⊢
  have hl : lv_has ls 4 [(0, .ref r)] := hl
  generalize hQ : MQT _ _ _ _ _ _ _ = Q
  have hn9 := h3.2.1
  have hl9 := act_len 5 (by decide)
  have hlt : ∀ j, j < (x.2.2.1 - x.2.1) → byS tz tf (x.2.1 + j) < 128 := fun j hj => by rw [h3.2.2 j hj]; exact act_lt 5 (by decide) j (by omega)
  refine lv_aload_n hx hb dX7_act_0 rfl (lv_at hl 0 rfl) ?_
  refine va_ldcS hx hb hown (show vk_R RX7 89 " press throw ready cool warm salt " (K 3) s from hKZ.2.2 3 (by decide)) dX7_act_1 ?_
  have hPs : va_P D CL ([(r, .inr (6, [.ref tx, .int (nI tz), .int (nI x.2.2.1), .int (nI x.2.1), .int (nI 1), .int (nI x.2.2.2), .ref w])), (tx, .inl (dA 1, 300, .inl tf)), (w, .inr (16, [.ref wq, .int (nI 0), .int (nI 0), .int (nI 0)])), (wq, .inl (dA 1, (x.2.2.1 - x.2.1), .inl (bw (fun j => byS tz tf (x.2.1 + j)) (x.2.2.1 - x.2.1))))] ++ []) s.heap := hP.sub [0, 1, 2, 3] rfl
  have hDs : va_D A ([(r, .inr (6, [.ref tx, .int (nI tz), .int (nI x.2.2.1), .int (nI x.2.1), .int (nI 1), .int (nI x.2.2.2), .ref w])), (tx, .inl (dA 1, 300, .inl tf)), (w, .inr (16, [.ref wq, .int (nI 0), .int (nI 0), .int (nI 0)])), (wq, .inl (dA 1, (x.2.2.1 - x.2.1), .inl (bw (fun j => byS tz tf (x.2.1 + j)) (x.2.2.1 - x.2.1))))] ++ []) := hD.sub [0, 1, 2, 3] (by decide) rfl
  have hz9 := hS.1
  refine va_calli (va_runV (As := [.ref (K 3)]) (rest := []) ⟨hx, hb, hml, hown, hts⟩ (c_X7_isOf_W lh D dA s.heap.size r tx tz tf x.2.2.1 x.2.1 x.2.2.2 w wq (x.2.2.1 - x.2.1) (fun j => byS tz tf (x.2.1 + j)) K (K 3) (K (100 + 3)) (klen 3) (kch 3) (by omega) (by omega) (by show (x.2.2.1 - x.2.1) + 2 ≤ 34; omega) (by decide) (hlt)) (w_X7_isOf hts q824 rfl rfl ⟨Nat.le_of_ble_eq_true rfl, Nat.le_of_ble_eq_true rfl⟩) ⟨PX.blind (Mv.and Mv.heap (Mv.and Mv.heap (Mv.and Mv.heap (Mv.and Mv.gk (Mv.and KC.mv (Mv.and KZ.mv (Mv.and SA.mv PV.mv))))))), (va_recv hG.1 hP (ci := 6) (q0 := 0) rfl rfl), PX.pre (Mv.and Mv.heap (Mv.and Mv.heap (Mv.and Mv.heap (Mv.and Mv.gk (Mv.and KC.mv (Mv.and KZ.mv (Mv.and SA.mv PV.mv))))))) ⟨rfl, (va_P_left hPs), (va_D_left hDs), hG, (KC.at hKC hS (va_A_up hDs hA hS.1)), (KZ.at hKZ hS (va_A_up hDs hA hS.1)), ((KZ.at hKZ hS (va_A_up hDs hA hS.1)).2.1 3 (by decide)), hPV⟩⟩ rfl rfl hl.1 rfl (lv_room (Nat.le_of_ble_eq_true rfl)) dX7_act_3 ⟨by show _ ≤ (10 + (nxL tz (byS tz tf) x.2.2.1)); omega, by show _ ≤ (100 + 5 * (nxL tz (byS tz tf) x.2.2.1)); omega⟩) hS (fun q _ => (va_A_up hDs hA hS.1) q) ((va_A_up hDs hA hS.1)) (fun rr u t H1 locs ht hvm hp hB hz hk hS => ?_)
  obtain ⟨hP1, hD1, -⟩ := hB
  rw [ht] at hP1
  obtain ⟨hP, hD⟩ := vp_join hPs hDs hP1 hD1 hk hA hz9
  clear ht hvm hz hk hP1 hD1 hPs hDs hz9
  generalize H1 = H at hP hS ⊢
  have hP : va_P D CL [(r, .inr (6, [.ref tx, .int (nI tz), .int (nI x.2.2.1), .int (nI x.2.1), .int (nI 1), .int (nI x.2.2.2), .ref w])), (tx, .inl (dA 1, 300, .inl tf)), (w, .inr (16, [.ref wq, .int (nI 0), .int (nI 0), .int (nI 0)])), (wq, .inl (dA 1, (x.2.2.1 - x.2.1), .inl (bw (fun j => byS tz tf (x.2.1 + j)) (x.2.2.1 - x.2.1))))] H := hP
  have hD : va_D A [(r, .inr (6, [.ref tx, .int (nI tz), .int (nI x.2.2.1), .int (nI x.2.1), .int (nI 1), .int (nI x.2.2.2), .ref w])), (tx, .inl (dA 1, 300, .inl tf)), (w, .inr (16, [.ref wq, .int (nI 0), .int (nI 0), .int (nI 0)])), (wq, .inl (dA 1, (x.2.2.1 - x.2.1), .inl (bw (fun j => byS tz tf (x.2.1 + j)) (x.2.2.1 - x.2.1))))] := hD
  have hrr := hp
  try dsimp only at hrr
  subst hrr
  refine kb_ne (tgt := 14) hx hb dX7_act_6 (by decide) (fun c_6 => ?_) (fun c_6 => ?_)
  · refine lv_aload_n hx hb dX7_act_14 rfl (lv_at hl 0 rfl) ?_
    refine va_get (D := D) (ci := 6) (v := .ref w) (C := RX7) (T := TX7) (N := 7) hx hb hts in_X7 hown hG.1 hP 0 rfl rfl 6 (by decide) (hts _ q784) (fun _ h => h) rfl dX7_act_15 ?_
    refine lv_astore_n (lv' := [(1, .ref w), (0, .ref r)]) hx hb dX7_act_18 rfl hl (by decide) rfl (fun ls hl => ?_)
    refine lv_aload_n hx hb dX7_act_19 rfl (lv_at hl 1 rfl) ?_
    have hPs : va_P D CL ([(r, .inr (6, [.ref tx, .int (nI tz), .int (nI x.2.2.1), .int (nI x.2.1), .int (nI 1), .int (nI x.2.2.2), .ref w])), (tx, .inl (dA 1, 300, .inl tf))] ++ [(w, .inr (16, [.ref wq, .int (nI 0), .int (nI 0), .int (nI 0)])), (wq, .inl (dA 1, (x.2.2.1 - x.2.1), .inl (bw (fun j => byS tz tf (x.2.1 + j)) (x.2.2.1 - x.2.1))))]) H := hP.sub [0, 1, 2, 3] rfl
    have hDs : va_D A ([(r, .inr (6, [.ref tx, .int (nI tz), .int (nI x.2.2.1), .int (nI x.2.1), .int (nI 1), .int (nI x.2.2.2), .ref w])), (tx, .inl (dA 1, 300, .inl tf))] ++ [(w, .inr (16, [.ref wq, .int (nI 0), .int (nI 0), .int (nI 0)])), (wq, .inl (dA 1, (x.2.2.1 - x.2.1), .inl (bw (fun j => byS tz tf (x.2.1 + j)) (x.2.2.1 - x.2.1))))]) := hD.sub [0, 1, 2, 3] (by decide) rfl
    have hz9 := hS.1
    refine va_callv (va_runV (As := []) (rest := []) ⟨hx, hb, hml, hown, hts⟩ (c_X7_next lh D dA H.size r tx tz tf x.2.2.1 x.2.1 1 x.2.2.2 w (h1) (h2.2.1) (by have := h2.2.2.2.1; omega)) (w_X7_next hts q620 rfl rfl ⟨Nat.le_of_ble_eq_true rfl, Nat.le_of_ble_eq_true rfl⟩) ⟨PX.blind (Mv.and Mv.heap (Mv.and Mv.heap (Mv.and Mv.heap (Mv.and Mv.gk (Mv.and KC.mv PV.mv))))), (va_recv hG.1 hP (ci := 6) (q0 := 0) rfl rfl), PX.pre (Mv.and Mv.heap (Mv.and Mv.heap (Mv.and Mv.heap (Mv.and Mv.gk (Mv.and KC.mv PV.mv))))) ⟨rfl, (va_P_left hPs), (va_D_left hDs), hG, (KC.at hKC hS (va_A_up hDs hA hS.1)), hPV⟩⟩ rfl rfl hl.1 rfl (lv_room (Nat.le_of_ble_eq_true rfl)) dX7_act_20 ⟨by show _ ≤ (10 + (nxL tz (byS tz tf) x.2.2.1)); omega, by show _ ≤ (100 + 5 * (nxL tz (byS tz tf) x.2.2.1)); omega⟩) hS (fun q _ => (va_A_up hDs hA hS.1) q) ((va_A_up hDs hA hS.1)) (fun u t H1 locs ht hvm hp hB hz hk hS => ?_)
    obtain ⟨u20_0, u20_1⟩ := u
    obtain ⟨hP1, hD1, -⟩ := hB
    rw [ht] at hP1
    obtain ⟨hP, hD⟩ := vp_join hPs hDs hP1 hD1 hk hA hz9
    clear ht hvm hz hk hP1 hD1 hPs hDs hz9
    generalize H1 = H at hP hS ⊢
    have hP : va_P D CL (([rdC tx tz (nx tz (byS tz tf) x) r u20_0, (tx, .inl (dA 1, 300, .inl tf))] ++ (wdC dA (nx tz (byS tz tf) x) (byS tz tf) u20_0 u20_1)) ++ [(w, .inr (16, [.ref wq, .int (nI 0), .int (nI 0), .int (nI 0)])), (wq, .inl (dA 1, (x.2.2.1 - x.2.1), .inl (bw (fun j => byS tz tf (x.2.1 + j)) (x.2.2.1 - x.2.1))))]) H := hP
    have hD : va_D A (([rdC tx tz (nx tz (byS tz tf) x) r u20_0, (tx, .inl (dA 1, 300, .inl tf))] ++ (wdC dA (nx tz (byS tz tf) x) (byS tz tf) u20_0 u20_1)) ++ [(w, .inr (16, [.ref wq, .int (nI 0), .int (nI 0), .int (nI 0)])), (wq, .inl (dA 1, (x.2.2.1 - x.2.1), .inl (bw (fun j => byS tz tf (x.2.1 + j)) (x.2.2.1 - x.2.1))))]) := hD
    have hP := hP.perm (perm_rot _ _ _)
    have hD := hD.perm (perm_rot _ _ _)
    have hr20 : RdOk tz (byS tz tf) (nx tz (byS tz tf) x) := RdOk.nx (byS_lt tz tf) h2
    have hn20 := nx_L (byS_lt tz tf) h2
    generalize hx20 : nx tz (byS tz tf) x = x20 at hP hD hr20 hn20
    have hP : va_P D CL ([(r, .inr (6, [.ref tx, .int (nI tz), .int (nI x20.2.2.1), .int (nI x20.2.1), .int (nI x20.1), .int (nI x20.2.2.2), .ref u20_0])), (tx, .inl (dA 1, 300, .inl tf)), (w, .inr (16, [.ref wq, .int (nI 0), .int (nI 0), .int (nI 0)])), (wq, .inl (dA 1, (x.2.2.1 - x.2.1), .inl (bw (fun j => byS tz tf (x.2.1 + j)) (x.2.2.1 - x.2.1))))] ++ (wdC dA x20 (byS tz tf) u20_0 u20_1)) H := hP
    have hD : va_D A ([(r, .inr (6, [.ref tx, .int (nI tz), .int (nI x20.2.2.1), .int (nI x20.2.1), .int (nI x20.1), .int (nI x20.2.2.2), .ref u20_0])), (tx, .inl (dA 1, 300, .inl tf)), (w, .inr (16, [.ref wq, .int (nI 0), .int (nI 0), .int (nI 0)])), (wq, .inl (dA 1, (x.2.2.1 - x.2.1), .inl (bw (fun j => byS tz tf (x.2.1 + j)) (x.2.2.1 - x.2.1))))] ++ (wdC dA x20 (byS tz tf) u20_0 u20_1)) := hD
    refine lv_aload_n hx hb dX7_act_23 rfl (lv_at hl 0 rfl) ?_
    refine lv_astore_n (lv' := [(2, .ref w), (1, .ref w), (0, .ref r)]) hx hb dX7_act_24 rfl hl (by decide) rfl (fun ls hl => ?_)
    refine lv_iconst (v := -1) hx hb dX7_act_25 (by decide) ?_
    refine lv_istore_n (lv' := [(3, .int (-1)), (2, .ref w), (1, .ref w), (0, .ref r)]) hx hb dX7_act_26 rfl hl (by decide) rfl (fun ls hl => ?_)
    refine lv_aload_n hx hb dX7_act_27 rfl (lv_at hl 1 rfl) ?_
    have hPs : va_P D CL ([(w, .inr (16, [.ref wq, .int (nI 0), .int (nI 0), .int (nI 0)])), (wq, .inl (dA 1, (x.2.2.1 - x.2.1), .inl (bw (fun j => byS tz tf (x.2.1 + j)) (x.2.2.1 - x.2.1))))] ++ ([(r, .inr (6, [.ref tx, .int (nI tz), .int (nI x20.2.2.1), .int (nI x20.2.1), .int (nI x20.1), .int (nI x20.2.2.2), .ref u20_0])), (tx, .inl (dA 1, 300, .inl tf))] ++ (wdC dA x20 (byS tz tf) u20_0 u20_1))) H := hP.subT (l1 := [(w, .inr (16, [.ref wq, .int (nI 0), .int (nI 0), .int (nI 0)])), (wq, .inl (dA 1, (x.2.2.1 - x.2.1), .inl (bw (fun j => byS tz tf (x.2.1 + j)) (x.2.2.1 - x.2.1)))), (r, .inr (6, [.ref tx, .int (nI tz), .int (nI x20.2.2.1), .int (nI x20.2.1), .int (nI x20.1), .int (nI x20.2.2.2), .ref u20_0])), (tx, .inl (dA 1, 300, .inl tf))]) [2, 3, 0, 1] rfl
    have hDs : va_D A ([(w, .inr (16, [.ref wq, .int (nI 0), .int (nI 0), .int (nI 0)])), (wq, .inl (dA 1, (x.2.2.1 - x.2.1), .inl (bw (fun j => byS tz tf (x.2.1 + j)) (x.2.2.1 - x.2.1))))] ++ ([(r, .inr (6, [.ref tx, .int (nI tz), .int (nI x20.2.2.1), .int (nI x20.2.1), .int (nI x20.1), .int (nI x20.2.2.2), .ref u20_0])), (tx, .inl (dA 1, 300, .inl tf))] ++ (wdC dA x20 (byS tz tf) u20_0 u20_1))) := hD.subT (l1 := [(w, .inr (16, [.ref wq, .int (nI 0), .int (nI 0), .int (nI 0)])), (wq, .inl (dA 1, (x.2.2.1 - x.2.1), .inl (bw (fun j => byS tz tf (x.2.1 + j)) (x.2.2.1 - x.2.1)))), (r, .inr (6, [.ref tx, .int (nI tz), .int (nI x20.2.2.1), .int (nI x20.2.1), .int (nI x20.1), .int (nI x20.2.2.2), .ref u20_0])), (tx, .inl (dA 1, 300, .inl tf))]) [2, 3, 0, 1] (by decide) rfl
    have hz9 := hS.1
    refine va_calli (va_runV (As := []) (rest := []) ⟨hx, hb, hml, hown, hts⟩ (c_J3_hashCode lh D dA H.size w wq (x.2.2.1 - x.2.1) (fun j => byS tz tf (x.2.1 + j)) (by omega) (by omega) (hlt) (by rw [act_hs h3]; exact act_h0 5 (by decide))) (w_J3_hashCode hts q1006 rfl rfl ⟨Nat.le_of_ble_eq_true rfl, Nat.le_of_ble_eq_true rfl⟩) ⟨PX.blind (Mv.and Mv.heap (Mv.and Mv.heap (Mv.and Mv.heap (Mv.and Mv.gk KC.mv)))), (va_recv hG.1 hP (ci := 16) (q0 := 2) rfl rfl), PX.pre (Mv.and Mv.heap (Mv.and Mv.heap (Mv.and Mv.heap (Mv.and Mv.gk KC.mv)))) ⟨rfl, (va_P_left hPs), (va_D_left hDs), hG, (KC.at hKC hS (va_A_up hDs hA hS.1))⟩⟩ rfl rfl hl.1 rfl (lv_room (Nat.le_of_ble_eq_true rfl)) dX7_act_28 ⟨by show _ ≤ (10 + (nxL tz (byS tz tf) x.2.2.1)); omega, by show _ ≤ (100 + 5 * (nxL tz (byS tz tf) x.2.2.1)); omega⟩) hS (fun q _ => (va_A_up hDs hA hS.1) q) ((va_A_up hDs hA hS.1)) (fun rr u t H1 locs ht hvm hp hB hz hk hS => ?_)
    obtain ⟨hP1, hD1, -⟩ := hB
    rw [ht] at hP1
    obtain ⟨hP, hD⟩ := vp_join hPs hDs hP1 hD1 hk hA hz9
    clear ht hvm hz hk hP1 hD1 hPs hDs hz9
    generalize H1 = H at hP hS ⊢
    have hP : va_P D CL ([(w, .inr (16, [.ref wq, .int (nI 0), .int (hsI (fun j => byS tz tf (x.2.1 + j)) (x.2.2.1 - x.2.1)), .int (nI 0)])), (wq, .inl (dA 1, (x.2.2.1 - x.2.1), .inl (bw (fun j => byS tz tf (x.2.1 + j)) (x.2.2.1 - x.2.1)))), (r, .inr (6, [.ref tx, .int (nI tz), .int (nI x20.2.2.1), .int (nI x20.2.1), .int (nI x20.1), .int (nI x20.2.2.2), .ref u20_0])), (tx, .inl (dA 1, 300, .inl tf))] ++ (wdC dA x20 (byS tz tf) u20_0 u20_1)) H := hP
    have hD : va_D A ([(w, .inr (16, [.ref wq, .int (nI 0), .int (hsI (fun j => byS tz tf (x.2.1 + j)) (x.2.2.1 - x.2.1)), .int (nI 0)])), (wq, .inl (dA 1, (x.2.2.1 - x.2.1), .inl (bw (fun j => byS tz tf (x.2.1 + j)) (x.2.2.1 - x.2.1)))), (r, .inr (6, [.ref tx, .int (nI tz), .int (nI x20.2.2.1), .int (nI x20.2.1), .int (nI x20.1), .int (nI x20.2.2.2), .ref u20_0])), (tx, .inl (dA 1, 300, .inl tf))] ++ (wdC dA x20 (byS tz tf) u20_0 u20_1)) := hD
    have hrr := hp
    try dsimp only at hrr
    subst hrr
    refine kx_int (y := nI 3522646) ((act_hs h3).trans (by decide +kernel)) ?_
    refine lv_lookup (tgt := 147) (off := 116) hx hb dX7_act_31 (by decide) (by decide) (by decide) ?_
    refine lv_iload_n hx hb dX7_act_147 rfl (lv_at hl 0 rfl) ?_
    refine lv_tableOut (tgt := 224) hx hb dX7_act_148 (by decide) (by decide) ?_
    refine va_new (D := D) (ci := 14) (C := RX17) (T := TX17) (N := 2) hx hb hts in_X17 tyX17 tyX17_ok hown (hts _ q1110) (hts _ q1111) (hts _ q97) hG.1 hP hD hS hA rfl (fs := [.null, .int (nI 0)]) (by decide) (by show _ ≤ (10 + (nxL tz (byS tz tf) x.2.2.1)); omega) (by show _ ≤ (100 + 5 * (nxL tz (byS tz tf) x.2.2.1)); omega) dX7_act_224 (fun q224 H hP hD hS => ?_)
    have hP := hP.perm (perm_rot _ _ _)
    have hD := hD.perm (perm_rot _ _ _)
    have hP : va_P D CL ([(w, .inr (16, [.ref wq, .int (nI 0), .int (hsI (fun j => byS tz tf (x.2.1 + j)) (x.2.2.1 - x.2.1)), .int (nI 0)])), (wq, .inl (dA 1, (x.2.2.1 - x.2.1), .inl (bw (fun j => byS tz tf (x.2.1 + j)) (x.2.2.1 - x.2.1)))), (r, .inr (6, [.ref tx, .int (nI tz), .int (nI x20.2.2.1), .int (nI x20.2.1), .int (nI x20.1), .int (nI x20.2.2.2), .ref u20_0])), (tx, .inl (dA 1, 300, .inl tf)), (q224, .inr (14, [.null, .int (nI 0)]))] ++ (wdC dA x20 (byS tz tf) u20_0 u20_1)) H := hP
    have hD : va_D A ([(w, .inr (16, [.ref wq, .int (nI 0), .int (hsI (fun j => byS tz tf (x.2.1 + j)) (x.2.2.1 - x.2.1)), .int (nI 0)])), (wq, .inl (dA 1, (x.2.2.1 - x.2.1), .inl (bw (fun j => byS tz tf (x.2.1 + j)) (x.2.2.1 - x.2.1)))), (r, .inr (6, [.ref tx, .int (nI tz), .int (nI x20.2.2.1), .int (nI x20.2.1), .int (nI x20.1), .int (nI x20.2.2.2), .ref u20_0])), (tx, .inl (dA 1, 300, .inl tf)), (q224, .inr (14, [.null, .int (nI 0)]))] ++ (wdC dA x20 (byS tz tf) u20_0 u20_1)) := hD
    refine lv_dup hx hb dX7_act_227 rfl ?_
    refine lv_aload_n hx hb dX7_act_228 rfl (lv_at hl 3 rfl) ?_
    have hPs : va_P D CL ([(r, .inr (6, [.ref tx, .int (nI tz), .int (nI x20.2.2.1), .int (nI x20.2.1), .int (nI x20.1), .int (nI x20.2.2.2), .ref u20_0])), (tx, .inl (dA 1, 300, .inl tf))] ++ ([(w, .inr (16, [.ref wq, .int (nI 0), .int (hsI (fun j => byS tz tf (x.2.1 + j)) (x.2.2.1 - x.2.1)), .int (nI 0)])), (wq, .inl (dA 1, (x.2.2.1 - x.2.1), .inl (bw (fun j => byS tz tf (x.2.1 + j)) (x.2.2.1 - x.2.1)))), (q224, .inr (14, [.null, .int (nI 0)]))] ++ (wdC dA x20 (byS tz tf) u20_0 u20_1))) H := hP.subT (l1 := [(r, .inr (6, [.ref tx, .int (nI tz), .int (nI x20.2.2.1), .int (nI x20.2.1), .int (nI x20.1), .int (nI x20.2.2.2), .ref u20_0])), (tx, .inl (dA 1, 300, .inl tf)), (w, .inr (16, [.ref wq, .int (nI 0), .int (hsI (fun j => byS tz tf (x.2.1 + j)) (x.2.2.1 - x.2.1)), .int (nI 0)])), (wq, .inl (dA 1, (x.2.2.1 - x.2.1), .inl (bw (fun j => byS tz tf (x.2.1 + j)) (x.2.2.1 - x.2.1)))), (q224, .inr (14, [.null, .int (nI 0)]))]) [2, 3, 0, 1, 4] rfl
    have hDs : va_D A ([(r, .inr (6, [.ref tx, .int (nI tz), .int (nI x20.2.2.1), .int (nI x20.2.1), .int (nI x20.1), .int (nI x20.2.2.2), .ref u20_0])), (tx, .inl (dA 1, 300, .inl tf))] ++ ([(w, .inr (16, [.ref wq, .int (nI 0), .int (hsI (fun j => byS tz tf (x.2.1 + j)) (x.2.2.1 - x.2.1)), .int (nI 0)])), (wq, .inl (dA 1, (x.2.2.1 - x.2.1), .inl (bw (fun j => byS tz tf (x.2.1 + j)) (x.2.2.1 - x.2.1)))), (q224, .inr (14, [.null, .int (nI 0)]))] ++ (wdC dA x20 (byS tz tf) u20_0 u20_1))) := hD.subT (l1 := [(r, .inr (6, [.ref tx, .int (nI tz), .int (nI x20.2.2.1), .int (nI x20.2.1), .int (nI x20.1), .int (nI x20.2.2.2), .ref u20_0])), (tx, .inl (dA 1, 300, .inl tf)), (w, .inr (16, [.ref wq, .int (nI 0), .int (hsI (fun j => byS tz tf (x.2.1 + j)) (x.2.2.1 - x.2.1)), .int (nI 0)])), (wq, .inl (dA 1, (x.2.2.1 - x.2.1), .inl (bw (fun j => byS tz tf (x.2.1 + j)) (x.2.2.1 - x.2.1)))), (q224, .inr (14, [.null, .int (nI 0)]))]) [2, 3, 0, 1, 4] (by decide) rfl
    rw [hx20] at hQ
    subst hQ
    exact W.callTP (As := []) (rest := [.ref q224, .ref q224]) ⟨hx, hb, hml, hown, hts⟩ (c_X7_number_T lh D dA H.size r tx tz tf x20 u20_0 u20_1 (h1) (hr20) (by rw [← hx20]; exact h4)) (w_X7_number hts q979 rfl rfl ⟨Nat.le_of_ble_eq_true rfl, Nat.le_of_ble_eq_true rfl⟩) ⟨PX.blind (Mv.and Mv.heap (Mv.and Mv.heap (Mv.and Mv.heap (Mv.and Mv.gk KT.mv)))), (va_recv hG.1 hP (ci := 6) (q0 := 2) rfl rfl), PX.pre (Mv.and Mv.heap (Mv.and Mv.heap (Mv.and Mv.heap (Mv.and Mv.gk KT.mv)))) ⟨rfl, (va_P_left hPs), (va_D_left hDs), hG, (KT.at hKT hS (va_A_up hDs hA hS.1))⟩⟩ rfl hl.1 (lv_room (Nat.le_of_ble_eq_true rfl)) dX7_act_229 ⟨by show _ ≤ (10 + (nxL tz (byS tz tf) x.2.2.1)); omega, by show _ ≤ (100 + 5 * (nxL tz (byS tz tf) x.2.2.1)); omega⟩ he9 hlocks hS (va_A_up hDs hA hS.1) (by show _ ≤ (10 + (nxL tz (byS tz tf) x.2.2.1)); omega) (by show _ ≤ (100 + 5 * (nxL tz (byS tz tf) x.2.2.1)); omega)
  · exact absurd ((congrArg Option.isSome (act_ix h3 (by decide))).trans (act_ix2 5 (by decide))) (by rw [c_6]; decide)
