set_option maxRecDepth 100000
abbrev r_X7_number_R (L : Nat) : Room := { frames := 7, cells := (4 + L), slots := (40 + 5 * L), locals := 173 }
set_option maxHeartbeats 1000000 in
theorem c_X7_number_R (lh : Launch) (D : va_G) (dA : Nat → ClassId) (sz : Nat) (r : Nat) (tx : Nat) (tz : Nat) (tf : Nat → Int32) (x : Nat × Nat × Nat × Nat) (w : Nat) (wq : Nat) (h1 : tz ≤ 300) (h2 : RdOk tz (byS tz tf) x) (h3 : x.1 = 2) : Met lh yX7_number (ws_ yX7_number cX7_number 2 (some .int)) (r_X7_number_R (nxL tz (byS tz tf) x.2.2.1)) (PX (fun U H => H.size = sz ∧ va_P D CL [(r, .inr (6, [.ref tx, .int (nI tz), .int (nI x.2.2.1), .int (nI x.2.1), .int (nI x.1), .int (nI x.2.2.2), .ref w])), (tx, .inl (dA 1, 300, .inl tf))] H ∧ va_D nT [(r, .inr (6, [.ref tx, .int (nI tz), .int (nI x.2.2.1), .int (nI x.2.1), .int (nI x.1), .int (nI x.2.2.2), .ref w])), (tx, .inl (dA 1, 300, .inl tf))] ∧ GK D dA U ∧ KC (va_A [(r, .inr (6, [.ref tx, .int (nI tz), .int (nI x.2.2.1), .int (nI x.2.1), .int (nI x.1), .int (nI x.2.2.2), .ref w])), (tx, .inl (dA 1, 300, .inl tf))] sz) U H ∧ PV U) [.ref r]) (va_Qi (fun (r : Int32) (u : Nat × Nat) => r = nI x.2.2.2) (fun (u : Nat × Nat) t => va_P D CL ([rdC tx tz (nx tz (byS tz tf) x) r u.1, (tx, .inl (dA 1, 300, .inl tf))] ++ wdC dA (nx tz (byS tz tf) x) (byS tz tf) u.1 u.2) t.heap ∧ va_D (va_A [(r, .inr (6, [.ref tx, .int (nI tz), .int (nI x.2.2.1), .int (nI x.2.1), .int (nI x.1), .int (nI x.2.2.2), .ref w])), (tx, .inl (dA 1, 300, .inl tf))] sz) ([rdC tx tz (nx tz (byS tz tf) x) r u.1, (tx, .inl (dA 1, 300, .inl tf))] ++ wdC dA (nx tz (byS tz tf) x) (byS tz tf) u.1 u.2) ∧ GK D dA t) (va_A [(r, .inr (6, [.ref tx, .int (nI tz), .int (nI x.2.2.1), .int (nI x.2.1), .int (nI x.1), .int (nI x.2.2.2), .ref w])), (tx, .inl (dA 1, 300, .inl tf))] sz)) (4 + (nxL tz (byS tz tf) x.2.2.1)) (40 + 5 * (nxL tz (byS tz tf) x.2.2.1)) (va_A [(r, .inr (6, [.ref tx, .int (nI tz), .int (nI x.2.2.1), .int (nI x.2.1), .int (nI x.1), .int (nI x.2.2.2), .ref w])), (tx, .inl (dA 1, 300, .inl tf))] sz) := by
  refine Met.ofW (cc := cX7_number) (maxL := 2) (ret := (some .int)) (by decide) rfl ?_
  intro p e s m args below meth cd s₁ B hml hv
  obtain ⟨hargs, hsz, hP, hD, hG, hKC, hPV⟩ := hv
  have hx := B.exec
  have hb := B.bytes
  have hrt := B.returns
  have hts := atoms_spec (ws := (ws_ yX7_number cX7_number 2 (some .int))) B.pre
  have hts : ∀ w ∈ lw_all, w.before _ s = true := fun w h => hts w (List.mem_cons_of_mem _ h)
  have hown : s.vm.findClass RX7 = some m.cls := findClass_of_methodNamed B.named
  have hlocks := B.notSynchronized
  subst hsz
  have hD := hD.self (sz := s.heap.size)
  have hA : ∀ q : Nat, s.heap.size ≤ q → va_A [(r, .inr (6, [.ref tx, .int (nI tz), .int (nI x.2.2.1), .int (nI x.2.1), .int (nI x.1), .int (nI x.2.2.2), .ref w])), (tx, .inl (dA 1, 300, .inl tf))] s.heap.size q := fun q h => Or.inr h
  generalize va_A [(r, .inr (6, [.ref tx, .int (nI tz), .int (nI x.2.2.1), .int (nI x.2.1), .int (nI x.1), .int (nI x.2.2.2), .ref w])), (tx, .inl (dA 1, 300, .inl tf))] s.heap.size = A at hD hA hKC ⊢
  have hS : va_S A s.heap s.heap [] := va_S.rf
  have hE : entryFrame m args 2 = F0 m 0 ((lg_sl ([.ref r]) ++ List.replicate (2 - (lg_sl ([.ref r])).length) Slot.unset).toArray) [] := by rw [hargs]; exact lg_entry_eq m _ 2
  have hl := lv_entry ([.ref r]) (n := 2) (Nat.le_of_ble_eq_true rfl)
  rw [hE]
  clear hE
  generalize (lg_sl ([.ref r]) ++ List.replicate (2 - (lg_sl ([.ref r])).length) Slot.unset).toArray = ls at hl ⊢
  have hl : lv_has ls 2 [(0, .ref r)] := hl
  generalize hQ : MQ _ _ _ _ _ _ _ = Q
  refine lv_aload_n hx hb dX7_number_0 rfl (lv_at hl 0 rfl) ?_
  refine va_get (D := D) (ci := 6) (v := .int (nI x.1)) (C := RX7) (T := TX7) (N := 7) hx hb hts in_X7 hown hG.1 hP 0 rfl rfl 4 (by decide) (hts _ q782) (fun _ h => h) rfl dX7_number_1 ?_
  refine lv_iconst (v := nI 2) hx hb dX7_number_4 (by decide) ?_
  refine kn_ceq (tgt := 13) hx hb dX7_number_5 (by decide) (by omega) (by decide) (fun c_5 => ?_) (fun c_5 => ?_)
  · refine lv_aload_n hx hb dX7_number_13 rfl (lv_at hl 0 rfl) ?_
    refine va_get (D := D) (ci := 6) (v := .int (nI x.2.2.2)) (C := RX7) (T := TX7) (N := 7) hx hb hts in_X7 hown hG.1 hP 0 rfl rfl 5 (by decide) (hts _ q783) (fun _ h => h) rfl dX7_number_14 ?_
    refine lv_istore_n (lv' := [(1, .int (nI x.2.2.2)), (0, .ref r)]) hx hb dX7_number_17 rfl hl (by decide) rfl (fun ls hl => ?_)
    refine lv_aload_n hx hb dX7_number_18 rfl (lv_at hl 1 rfl) ?_
    have hPs : va_P D CL ([(r, .inr (6, [.ref tx, .int (nI tz), .int (nI x.2.2.1), .int (nI x.2.1), .int (nI x.1), .int (nI x.2.2.2), .ref w])), (tx, .inl (dA 1, 300, .inl tf))] ++ []) s.heap := hP.sub [0, 1] rfl
    have hDs : va_D A ([(r, .inr (6, [.ref tx, .int (nI tz), .int (nI x.2.2.1), .int (nI x.2.1), .int (nI x.1), .int (nI x.2.2.2), .ref w])), (tx, .inl (dA 1, 300, .inl tf))] ++ []) := hD.sub [0, 1] (by decide) rfl
    have hz9 := hS.1
    refine va_callv (va_runV (As := []) (rest := []) ⟨hx, hb, hml, hown, hts⟩ (c_X7_next lh D dA s.heap.size r tx tz tf x.2.2.1 x.2.1 x.1 x.2.2.2 w (h1) (h2.2.1) (by have := h2.2.2.2.1; omega)) (w_X7_next hts q620 rfl rfl ⟨Nat.le_of_ble_eq_true rfl, Nat.le_of_ble_eq_true rfl⟩) ⟨PX.blind (Mv.and Mv.heap (Mv.and Mv.heap (Mv.and Mv.heap (Mv.and Mv.gk (Mv.and KC.mv PV.mv))))), (va_recv hG.1 hP (ci := 6) (q0 := 0) rfl rfl), PX.pre (Mv.and Mv.heap (Mv.and Mv.heap (Mv.and Mv.heap (Mv.and Mv.gk (Mv.and KC.mv PV.mv))))) ⟨rfl, (va_P_left hPs), (va_D_left hDs), hG, (KC.at hKC hS (va_A_up hDs hA hS.1)), hPV⟩⟩ rfl rfl hl.1 rfl (lv_room (Nat.le_of_ble_eq_true rfl)) dX7_number_19 ⟨by show 0 + _ ≤ 4 + _; omega, by show 0 + _ ≤ 40 + 5 * _; omega⟩) hS (fun q _ => (va_A_up hDs hA hS.1) q) ((va_A_up hDs hA hS.1)) (fun u t H1 locs ht hvm hp hB hz hk hS => ?_)
    obtain ⟨u19_0, u19_1⟩ := u
    obtain ⟨hP1, hD1, -⟩ := hB
    rw [ht] at hP1
    obtain ⟨hP, hD⟩ := vp_join hPs hDs hP1 hD1 hk hA hz9
    clear ht hvm hz hk hP1 hD1 hPs hDs hz9
    generalize H1 = H at hP hS ⊢
    have hP : va_P D CL (([rdC tx tz (nx tz (byS tz tf) x) r u19_0, (tx, .inl (dA 1, 300, .inl tf))] ++ (wdC dA (nx tz (byS tz tf) x) (byS tz tf) u19_0 u19_1)) ++ []) H := hP
    have hD : va_D A (([rdC tx tz (nx tz (byS tz tf) x) r u19_0, (tx, .inl (dA 1, 300, .inl tf))] ++ (wdC dA (nx tz (byS tz tf) x) (byS tz tf) u19_0 u19_1)) ++ []) := hD
    have hP := hP.perm (perm_rot _ _ _)
    have hD := hD.perm (perm_rot _ _ _)
    have hr19 : RdOk tz (byS tz tf) (nx tz (byS tz tf) x) := RdOk.nx (byS_lt tz tf) h2
    have hn19 := nx_L (byS_lt tz tf) h2
    generalize hx19 : nx tz (byS tz tf) x = x19 at hP hD hr19 hn19
    have hP : va_P D CL ([(r, .inr (6, [.ref tx, .int (nI tz), .int (nI x19.2.2.1), .int (nI x19.2.1), .int (nI x19.1), .int (nI x19.2.2.2), .ref u19_0])), (tx, .inl (dA 1, 300, .inl tf))] ++ (wdC dA x19 (byS tz tf) u19_0 u19_1)) H := hP
    have hD : va_D A ([(r, .inr (6, [.ref tx, .int (nI tz), .int (nI x19.2.2.1), .int (nI x19.2.1), .int (nI x19.1), .int (nI x19.2.2.2), .ref u19_0])), (tx, .inl (dA 1, 300, .inl tf))] ++ (wdC dA x19 (byS tz tf) u19_0 u19_1)) := hD
    refine lv_iload_n hx hb dX7_number_22 rfl (lv_at hl 0 rfl) ?_
    subst hQ
    refine W.widen (k := (4 + (nxL tz (byS tz tf) x.2.2.1))) (n := (40 + 5 * (nxL tz (byS tz tf) x.2.2.1))) (by omega) (by omega) ?_
    have e9 : (nx tz (byS tz tf) x) = x19 := hx19
    have hP9 : va_P D CL ([rdC tx tz (nx tz (byS tz tf) x) r u19_0, (tx, .inl (dA 1, 300, .inl tf))] ++ wdC dA (nx tz (byS tz tf) x) (byS tz tf) u19_0 u19_1) H := by rw [e9]; exact hP.subT (l1 := [(r, .inr (6, [.ref tx, .int (nI tz), .int (nI x19.2.2.1), .int (nI x19.2.1), .int (nI x19.1), .int (nI x19.2.2.2), .ref u19_0])), (tx, .inl (dA 1, 300, .inl tf))]) [0, 1] rfl
    have hD9 : va_D A ([rdC tx tz (nx tz (byS tz tf) x) r u19_0, (tx, .inl (dA 1, 300, .inl tf))] ++ wdC dA (nx tz (byS tz tf) x) (byS tz tf) u19_0 u19_1) := by rw [e9]; exact hD.subT (l1 := [(r, .inr (6, [.ref tx, .int (nI tz), .int (nI x19.2.2.1), .int (nI x19.2.1), .int (nI x19.1), .int (nI x19.2.2.2), .ref u19_0])), (tx, .inl (dA 1, 300, .inl tf))]) [0, 1] (by decide) rfl
    exact W.iret (v := nI x.2.2.2) hx hb hrt (fun t ht hW => ⟨⟨_, (u19_0, u19_1), rfl, (by first | rfl | exact ⟨rfl, rfl⟩), by rw [ht]; exact hP9, hD9, GK.warm hW hG⟩, hS.F ht⟩) hS.2.2 dX7_number_23
  · exact absurd h3 c_5

abbrev r_X7_number_T : Room := { frames := 5, cells := 1, slots := 8, locals := 110 }
set_option maxHeartbeats 1000000 in
theorem c_X7_number_T (lh : Launch) (D : va_G) (dA : Nat → ClassId) (sz : Nat) (r : Nat) (tx : Nat) (tz : Nat) (tf : Nat → Int32) (x : Nat × Nat × Nat × Nat) (w : Nat) (wq : Nat) (h1 : tz ≤ 300) (h2 : RdOk tz (byS tz tf) x) (h3 : x.1 ≠ 2) : MetT lh yX7_number (ws_ yX7_number cX7_number 2 (some .int)) r_X7_number_T (PX (fun U H => H.size = sz ∧ va_P D CL [(r, .inr (6, [.ref tx, .int (nI tz), .int (nI x.2.2.1), .int (nI x.2.1), .int (nI x.1), .int (nI x.2.2.2), .ref w])), (tx, .inl (dA 1, 300, .inl tf))] H ∧ va_D nT [(r, .inr (6, [.ref tx, .int (nI tz), .int (nI x.2.2.1), .int (nI x.2.1), .int (nI x.1), .int (nI x.2.2.2), .ref w])), (tx, .inl (dA 1, 300, .inl tf))] ∧ GK D dA U ∧ KT (va_A [(r, .inr (6, [.ref tx, .int (nI tz), .int (nI x.2.2.1), .int (nI x.2.1), .int (nI x.1), .int (nI x.2.2.2), .ref w])), (tx, .inl (dA 1, 300, .inl tf))] sz) U H) [.ref r]) (QTw D (va_A [(r, .inr (6, [.ref tx, .int (nI tz), .int (nI x.2.2.1), .int (nI x.2.1), .int (nI x.1), .int (nI x.2.2.2), .ref w])), (tx, .inl (dA 1, 300, .inl tf))] sz) 1 x.2.1) 1 8 (va_A [(r, .inr (6, [.ref tx, .int (nI tz), .int (nI x.2.2.1), .int (nI x.2.1), .int (nI x.1), .int (nI x.2.2.2), .ref w])), (tx, .inl (dA 1, 300, .inl tf))] sz) := by
  refine MetT.ofW (cc := cX7_number) (maxL := 2) (ret := (some .int)) (by decide) rfl ?_
  intro p e s m args below meth cd s₁ B hml he9 hv
  obtain ⟨hargs, hsz, hP, hD, hG, hKT⟩ := hv
  have hx := B.exec
  have hb := B.bytes
  have hrt := B.returns
  have hts := atoms_spec (ws := (ws_ yX7_number cX7_number 2 (some .int))) B.pre
  have hts : ∀ w ∈ lw_all, w.before _ s = true := fun w h => hts w (List.mem_cons_of_mem _ h)
  have hown : s.vm.findClass RX7 = some m.cls := findClass_of_methodNamed B.named
  have hlocks := B.notSynchronized
  subst hsz
  have hD := hD.self (sz := s.heap.size)
  have hA : ∀ q : Nat, s.heap.size ≤ q → va_A [(r, .inr (6, [.ref tx, .int (nI tz), .int (nI x.2.2.1), .int (nI x.2.1), .int (nI x.1), .int (nI x.2.2.2), .ref w])), (tx, .inl (dA 1, 300, .inl tf))] s.heap.size q := fun q h => Or.inr h
  generalize va_A [(r, .inr (6, [.ref tx, .int (nI tz), .int (nI x.2.2.1), .int (nI x.2.1), .int (nI x.1), .int (nI x.2.2.2), .ref w])), (tx, .inl (dA 1, 300, .inl tf))] s.heap.size = A at hD hA hKT ⊢
  have hS : va_S A s.heap s.heap [] := va_S.rf
  have hE : entryFrame m args 2 = F0 m 0 ((lg_sl ([.ref r]) ++ List.replicate (2 - (lg_sl ([.ref r])).length) Slot.unset).toArray) [] := by rw [hargs]; exact lg_entry_eq m _ 2
  have hl := lv_entry ([.ref r]) (n := 2) (Nat.le_of_ble_eq_true rfl)
  rw [hE]
  clear hE
  generalize (lg_sl ([.ref r]) ++ List.replicate (2 - (lg_sl ([.ref r])).length) Slot.unset).toArray = ls at hl ⊢
  have hl : lv_has ls 2 [(0, .ref r)] := hl
  generalize hQ : MQT _ _ _ _ _ _ _ = Q
  refine lv_aload_n hx hb dX7_number_0 rfl (lv_at hl 0 rfl) ?_
  refine va_get (D := D) (ci := 6) (v := .int (nI x.1)) (C := RX7) (T := TX7) (N := 7) hx hb hts in_X7 hown hG.1 hP 0 rfl rfl 4 (by decide) (hts _ q782) (fun _ h => h) rfl dX7_number_1 ?_
  refine lv_iconst (v := nI 2) hx hb dX7_number_4 (by decide) ?_
  refine kn_ceq (tgt := 13) hx hb dX7_number_5 (by decide) (by have := h2.2.2.1; omega) (by decide) (fun c_5 => ?_) (fun c_5 => ?_)
  · exact absurd c_5 h3
  · refine lv_aload_n hx hb dX7_number_8 rfl (lv_at hl 0 rfl) ?_
    have hPs : va_P D CL ([(r, .inr (6, [.ref tx, .int (nI tz), .int (nI x.2.2.1), .int (nI x.2.1), .int (nI x.1), .int (nI x.2.2.2), .ref w])), (tx, .inl (dA 1, 300, .inl tf))] ++ []) s.heap := hP.sub [0, 1] rfl
    have hDs : va_D A ([(r, .inr (6, [.ref tx, .int (nI tz), .int (nI x.2.2.1), .int (nI x.2.1), .int (nI x.1), .int (nI x.2.2.2), .ref w])), (tx, .inl (dA 1, 300, .inl tf))] ++ []) := hD.sub [0, 1] (by decide) rfl
    have hz9 := hS.1
    refine va_callq (va_runV (As := []) (rest := []) ⟨hx, hb, hml, hown, hts⟩ (c_X7_form lh D dA s.heap.size r tx tz tf x.2.2.1 x.2.1 x.1 x.2.2.2 w) (w_X7_form hts q890 rfl rfl ⟨Nat.le_of_ble_eq_true rfl, Nat.le_of_ble_eq_true rfl⟩) ⟨PX.blind (Mv.and Mv.heap (Mv.and Mv.heap (Mv.and Mv.heap (Mv.and Mv.gk KT.mv)))), (va_recv hG.1 hP (ci := 6) (q0 := 0) rfl rfl), PX.pre (Mv.and Mv.heap (Mv.and Mv.heap (Mv.and Mv.heap (Mv.and Mv.gk KT.mv)))) ⟨rfl, (va_P_left hPs), (va_D_left hDs), hG, (KT.at hKT hS (va_A_up hDs hA hS.1))⟩⟩ rfl rfl hl.1 rfl (lv_room (Nat.le_of_ble_eq_true rfl)) dX7_number_9 ⟨Nat.le_of_ble_eq_true rfl, Nat.le_of_ble_eq_true rfl⟩) hS (fun q _ => (va_A_up hDs hA hS.1) q) ((va_A_up hDs hA hS.1)) (fun rr u t H1 locs ht hvm hp hB hz hk hS => ?_)
    generalize u = u9 at hp hB
    obtain ⟨hP1, hD1, -⟩ := hB
    rw [ht] at hP1
    obtain ⟨hP, hD⟩ := vp_join hPs hDs hP1 hD1 hk hA hz9
    clear ht hvm hz hk hP1 hD1 hPs hDs hz9
    generalize H1 = H at hP hS ⊢
    have hP : va_P D CL [(r, .inr (6, [.ref tx, .int (nI tz), .int (nI x.2.2.1), .int (nI x.2.1), .int (nI x.1), .int (nI x.2.2.2), .ref w])), (tx, .inl (dA 1, 300, .inl tf)), (u9, .inr (7, [.null, .null, .null, .null, .null, .int (nI 0), .int (nI 1), .int (nI x.2.1)]))] H := hP
    have hD : va_D A [(r, .inr (6, [.ref tx, .int (nI tz), .int (nI x.2.2.1), .int (nI x.2.1), .int (nI x.1), .int (nI x.2.2.2), .ref w])), (tx, .inl (dA 1, 300, .inl tf)), (u9, .inr (7, [.null, .null, .null, .null, .null, .int (nI 0), .int (nI 1), .int (nI x.2.1)]))] := hD
    have hrr := hp
    try dsimp only at hrr
    subst hrr
    show W p lh e r_X7_number_T s m args below meth cd _ _ _ _ Q (F0 m _ ls (.ref u9 :: _))
    refine W.widen (k := 1) (n := 8) (by first | decide | omega) (by first | decide | omega) ?_
    subst hQ
    exact W.thr hx hb he9 (fun t ht _ => ⟨u9, rfl, hD.2 2 _ rfl, by rw [ht]; exact hP 2 _ rfl, by rw [ht]; exact hS.1, fun q9 hq9 hA9 => by rw [ht]; exact hS.2.1 q9 hq9 hA9⟩) hS.2.2 dX7_number_12 hlocks

theorem w_X7_number {R : Room} {s : State} {args : Array Value} {own : String} {idx : Nat} (hts : ∀ w ∈ lw_all, w.before args s = true) (h1 : Cond.methodLink own idx yX7_number ∈ lw_all) {rm : Room} {mc ms : Nat} (hrc : rm.cells = mc) (hrs : rm.slots = ms) (hR : rm.frames + 1 ≤ R.frames ∧ 8 + (2 + 11) + rm.locals ≤ R.locals) : CallW R s args own RX7 idx yX7_number cX7_number 2 (some .int) (ws_ yX7_number cX7_number 2 (some .int)) rm mc ms 0 := cwV 0 hts (lw_V h1 q981 qs25 q84 q982) rfl hrc hrs (by decide +kernel) hR
