set_option maxRecDepth 100000
abbrev r_X7_init (L : Nat) : Room := { frames := 7, cells := (4 + L), slots := (40 + 5 * L), locals := 173 }
set_option maxHeartbeats 1000000 in
theorem c_X7_init (lh : Launch) (D : va_G) (dA : Nat → ClassId) (sz : Nat) (r : Nat) (tx : Nat) (tz : Nat) (tf : Nat → Int32) (K : Nat → Nat) (h1 : tz ≤ 300) : Met lh yX7_init (ws_ yX7_init cX7_init 3 none) (r_X7_init (nxL tz (byS tz tf) 0)) (PX (fun U H => H.size = sz ∧ va_P D CL [(r, .inr (6, [.null, .int (nI 0), .int (nI 0), .int (nI 0), .int (nI 0), .int (nI 0), .null])), (tx, .inl (dA 1, 300, .inl tf))] H ∧ va_D nT [(r, .inr (6, [.null, .int (nI 0), .int (nI 0), .int (nI 0), .int (nI 0), .int (nI 0), .null])), (tx, .inl (dA 1, 300, .inl tf))] ∧ GK D dA U ∧ KC (va_A [(r, .inr (6, [.null, .int (nI 0), .int (nI 0), .int (nI 0), .int (nI 0), .int (nI 0), .null])), (tx, .inl (dA 1, 300, .inl tf))] sz) U H ∧ KZ K (va_A [(r, .inr (6, [.null, .int (nI 0), .int (nI 0), .int (nI 0), .int (nI 0), .int (nI 0), .null])), (tx, .inl (dA 1, 300, .inl tf))] sz) U H ∧ PV U) [.ref r, .ref tx, .int (nI tz)]) (va_Qv (fun u : Nat × Nat => True) (fun (u : Nat × Nat) t => va_P D CL ([rdC tx tz (nxT tz (byS tz tf) 0 0) r u.1, (tx, .inl (dA 1, 300, .inl tf))] ++ wdC dA (nxT tz (byS tz tf) 0 0) (byS tz tf) u.1 u.2) t.heap ∧ va_D (va_A [(r, .inr (6, [.null, .int (nI 0), .int (nI 0), .int (nI 0), .int (nI 0), .int (nI 0), .null])), (tx, .inl (dA 1, 300, .inl tf))] sz) ([rdC tx tz (nxT tz (byS tz tf) 0 0) r u.1, (tx, .inl (dA 1, 300, .inl tf))] ++ wdC dA (nxT tz (byS tz tf) 0 0) (byS tz tf) u.1 u.2) ∧ GK D dA t) (va_A [(r, .inr (6, [.null, .int (nI 0), .int (nI 0), .int (nI 0), .int (nI 0), .int (nI 0), .null])), (tx, .inl (dA 1, 300, .inl tf))] sz)) (4 + (nxL tz (byS tz tf) 0)) (40 + 5 * (nxL tz (byS tz tf) 0)) (va_A [(r, .inr (6, [.null, .int (nI 0), .int (nI 0), .int (nI 0), .int (nI 0), .int (nI 0), .null])), (tx, .inl (dA 1, 300, .inl tf))] sz) := by
  refine Met.ofW (cc := cX7_init) (maxL := 3) (ret := none) (by decide) rfl ?_
  intro p e s m args below meth cd s₁ B hml hv
  obtain ⟨hargs, hsz, hP, hD, hG, hKC, hKZ, hPV⟩ := hv
  have hx := B.exec
  have hb := B.bytes
  have hrt := B.returns
  have hts := atoms_spec (ws := (ws_ yX7_init cX7_init 3 none)) B.pre
  have hts : ∀ w ∈ lw_all, w.before _ s = true := fun w h => hts w (List.mem_cons_of_mem _ h)
  have hown : s.vm.findClass RX7 = some m.cls := findClass_of_methodNamed B.named
  have hlocks := B.notSynchronized
  have hin : meth.name = "<init>" := (name_of_methodNamed B.named B.method).1
  subst hsz
  have hD := hD.self (sz := s.heap.size)
  have hA : ∀ q : Nat, s.heap.size ≤ q → va_A [(r, .inr (6, [.null, .int (nI 0), .int (nI 0), .int (nI 0), .int (nI 0), .int (nI 0), .null])), (tx, .inl (dA 1, 300, .inl tf))] s.heap.size q := fun q h => Or.inr h
  generalize va_A [(r, .inr (6, [.null, .int (nI 0), .int (nI 0), .int (nI 0), .int (nI 0), .int (nI 0), .null])), (tx, .inl (dA 1, 300, .inl tf))] s.heap.size = A at hD hA hKC hKZ ⊢
  have hS : va_S A s.heap s.heap [] := va_S.rf
  have hE : entryFrame m args 3 = F0 m 0 ((lg_sl ([.ref r, .ref tx, .int (nI tz)]) ++ List.replicate (3 - (lg_sl ([.ref r, .ref tx, .int (nI tz)])).length) Slot.unset).toArray) [] := by rw [hargs]; exact lg_entry_eq m _ 3
  have hl := lv_entry ([.ref r, .ref tx, .int (nI tz)]) (n := 3) (Nat.le_of_ble_eq_true rfl)
  rw [hE]
  clear hE
  generalize (lg_sl ([.ref r, .ref tx, .int (nI tz)]) ++ List.replicate (3 - (lg_sl ([.ref r, .ref tx, .int (nI tz)])).length) Slot.unset).toArray = ls at hl ⊢
  have hl : lv_has ls 3 [(0, .ref r), (1, .ref tx), (2, .int (nI tz))] := hl
  generalize hQ : MQ _ _ _ _ _ _ _ = Q
  refine lv_aload_n hx hb dX7_init_0 rfl (lv_at hl 0 rfl) ?_
  refine W.objInit hx hb hown (hts _ q618) (hts _ q105) (hts _ q106) rfl (by rw [hml]; exact hl.1) rfl dX7_init_1 (Nat.le_of_ble_eq_true rfl) (Nat.le_of_ble_eq_true rfl) ?_
  refine W.eq (g2 := F0 m 4 ls []) rfl ?_
  refine lv_aload_n hx hb dX7_init_4 rfl (lv_at hl 0 rfl) ?_
  refine va_ldcS hx hb hown (show vk_R RX7 9 "" (K 1) s from hKZ.2.2 1 (by decide)) dX7_init_5 ?_
  refine va_put (D := D) (ci := 6) (v := .ref (K 1)) (C := RX7) (T := TX7) (N := 7) hx hb hts in_X7 tyX7 tyX7_ok nmX7 hown hG.1 hP hD hS 0 rfl rfl 6 (by decide) (hts _ q784) (fun _ h => h) rfl rfl (rfl) (rfl) (Nat.le_of_ble_eq_true rfl) dX7_init_7 (fun H locs hP hD hS => ?_)
  have hP : va_P D CL [(r, .inr (6, [.null, .int (nI 0), .int (nI 0), .int (nI 0), .int (nI 0), .int (nI 0), .ref (K 1)])), (tx, .inl (dA 1, 300, .inl tf))] H := hP
  have hD : va_D A [(r, .inr (6, [.null, .int (nI 0), .int (nI 0), .int (nI 0), .int (nI 0), .int (nI 0), .ref (K 1)])), (tx, .inl (dA 1, 300, .inl tf))] := hD
  refine lv_aload_n hx hb dX7_init_10 rfl (lv_at hl 0 rfl) ?_
  refine lv_aload_n hx hb dX7_init_11 rfl (lv_at hl 1 rfl) ?_
  refine va_putF (D := D) (ci := 6) (v := .ref tx) (C := RX7) (T := TX7) (N := 7) hx hb hts in_X7 tyX7 tyX7_ok nmX7 hown hG.1 hP hD hS 0 rfl rfl 0 (by decide) (hts _ q778) (fun _ h => h) rfl hin rfl rfl (rfl) (rfl) (Nat.le_of_ble_eq_true rfl) dX7_init_12 (fun H locs hP hD hS => ?_)
  have hP : va_P D CL [(r, .inr (6, [.ref tx, .int (nI 0), .int (nI 0), .int (nI 0), .int (nI 0), .int (nI 0), .ref (K 1)])), (tx, .inl (dA 1, 300, .inl tf))] H := hP
  have hD : va_D A [(r, .inr (6, [.ref tx, .int (nI 0), .int (nI 0), .int (nI 0), .int (nI 0), .int (nI 0), .ref (K 1)])), (tx, .inl (dA 1, 300, .inl tf))] := hD
  refine lv_aload_n hx hb dX7_init_15 rfl (lv_at hl 0 rfl) ?_
  refine lv_iload_n hx hb dX7_init_16 rfl (lv_at hl 2 rfl) ?_
  refine va_putF (D := D) (ci := 6) (v := .int (nI tz)) (C := RX7) (T := TX7) (N := 7) hx hb hts in_X7 tyX7 tyX7_ok nmX7 hown hG.1 hP hD hS 0 rfl rfl 1 (by decide) (hts _ q779) (fun _ h => h) rfl hin rfl rfl (rfl) (rfl) (Nat.le_of_ble_eq_true rfl) dX7_init_17 (fun H locs hP hD hS => ?_)
  have hP : va_P D CL [(r, .inr (6, [.ref tx, .int (nI tz), .int (nI 0), .int (nI 0), .int (nI 0), .int (nI 0), .ref (K 1)])), (tx, .inl (dA 1, 300, .inl tf))] H := hP
  have hD : va_D A [(r, .inr (6, [.ref tx, .int (nI tz), .int (nI 0), .int (nI 0), .int (nI 0), .int (nI 0), .ref (K 1)])), (tx, .inl (dA 1, 300, .inl tf))] := hD
  refine lv_aload_n hx hb dX7_init_20 rfl (lv_at hl 0 rfl) ?_
  have hPs : va_P D CL ([(r, .inr (6, [.ref tx, .int (nI tz), .int (nI 0), .int (nI 0), .int (nI 0), .int (nI 0), .ref (K 1)])), (tx, .inl (dA 1, 300, .inl tf))] ++ []) H := hP.sub [0, 1] rfl
  have hDs : va_D A ([(r, .inr (6, [.ref tx, .int (nI tz), .int (nI 0), .int (nI 0), .int (nI 0), .int (nI 0), .ref (K 1)])), (tx, .inl (dA 1, 300, .inl tf))] ++ []) := hD.sub [0, 1] (by decide) rfl
  have hz9 := hS.1
  refine va_callv (va_runV (As := []) (rest := []) ⟨hx, hb, hml, hown, hts⟩ (c_X7_next lh D dA H.size r tx tz tf 0 0 0 0 (K 1) (h1) (Nat.zero_le _) (by decide)) (w_X7_next hts q620 rfl rfl ⟨Nat.le_of_ble_eq_true rfl, Nat.le_of_ble_eq_true rfl⟩) ⟨PX.blind (Mv.and Mv.heap (Mv.and Mv.heap (Mv.and Mv.heap (Mv.and Mv.gk (Mv.and KC.mv PV.mv))))), (va_recv hG.1 hP (ci := 6) (q0 := 0) rfl rfl), PX.pre (Mv.and Mv.heap (Mv.and Mv.heap (Mv.and Mv.heap (Mv.and Mv.gk (Mv.and KC.mv PV.mv))))) ⟨rfl, (va_P_left hPs), (va_D_left hDs), hG, (KC.at hKC hS (va_A_up hDs hA hS.1)), hPV⟩⟩ rfl rfl hl.1 rfl (lv_room (Nat.le_of_ble_eq_true rfl)) dX7_init_21 ⟨by show 0 + _ ≤ 4 + _; omega, by show 0 + _ ≤ 40 + 5 * _; omega⟩) hS (fun q _ => (va_A_up hDs hA hS.1) q) ((va_A_up hDs hA hS.1)) (fun u t H1 locs ht hvm hp hB hz hk hS => ?_)
  obtain ⟨u21_0, u21_1⟩ := u
  obtain ⟨hP1, hD1, -⟩ := hB
  rw [ht] at hP1
  obtain ⟨hP, hD⟩ := vp_join hPs hDs hP1 hD1 hk hA hz9
  clear ht hvm hz hk hP1 hD1 hPs hDs hz9
  generalize H1 = H at hP hS ⊢
  have hP : va_P D CL (([rdC tx tz (nxT tz (byS tz tf) 0 0) r u21_0, (tx, .inl (dA 1, 300, .inl tf))] ++ (wdC dA (nxT tz (byS tz tf) 0 0) (byS tz tf) u21_0 u21_1)) ++ []) H := hP
  have hD : va_D A (([rdC tx tz (nxT tz (byS tz tf) 0 0) r u21_0, (tx, .inl (dA 1, 300, .inl tf))] ++ (wdC dA (nxT tz (byS tz tf) 0 0) (byS tz tf) u21_0 u21_1)) ++ []) := hD
  have hP := hP.perm (perm_rot _ _ _)
  have hD := hD.perm (perm_rot _ _ _)
  have hr21 : RdOk tz (byS tz tf) (nxT tz (byS tz tf) 0 0) := (nxT_ok (byS_lt tz tf) (Nat.zero_le _) (by decide)).1
  have hn21 : True := trivial
  generalize hx21 : nxT tz (byS tz tf) 0 0 = x21 at hP hD hr21 hn21
  have hP : va_P D CL ([(r, .inr (6, [.ref tx, .int (nI tz), .int (nI x21.2.2.1), .int (nI x21.2.1), .int (nI x21.1), .int (nI x21.2.2.2), .ref u21_0])), (tx, .inl (dA 1, 300, .inl tf))] ++ (wdC dA x21 (byS tz tf) u21_0 u21_1)) H := hP
  have hD : va_D A ([(r, .inr (6, [.ref tx, .int (nI tz), .int (nI x21.2.2.1), .int (nI x21.2.1), .int (nI x21.1), .int (nI x21.2.2.2), .ref u21_0])), (tx, .inl (dA 1, 300, .inl tf))] ++ (wdC dA x21 (byS tz tf) u21_0 u21_1)) := hD
  subst hQ
  refine W.widen (k := (4 + (nxL tz (byS tz tf) 0))) (n := (40 + 5 * (nxL tz (byS tz tf) 0))) (by omega) (by omega) ?_
  have e9 : (nxT tz (byS tz tf) 0 0) = x21 := hx21
  have hP9 : va_P D CL ([rdC tx tz (nxT tz (byS tz tf) 0 0) r u21_0, (tx, .inl (dA 1, 300, .inl tf))] ++ wdC dA (nxT tz (byS tz tf) 0 0) (byS tz tf) u21_0 u21_1) H := by rw [e9]; exact hP.subT (l1 := [(r, .inr (6, [.ref tx, .int (nI tz), .int (nI x21.2.2.1), .int (nI x21.2.1), .int (nI x21.1), .int (nI x21.2.2.2), .ref u21_0])), (tx, .inl (dA 1, 300, .inl tf))]) [0, 1] rfl
  have hD9 : va_D A ([rdC tx tz (nxT tz (byS tz tf) 0 0) r u21_0, (tx, .inl (dA 1, 300, .inl tf))] ++ wdC dA (nxT tz (byS tz tf) 0 0) (byS tz tf) u21_0 u21_1) := by rw [e9]; exact hD.subT (l1 := [(r, .inr (6, [.ref tx, .int (nI tz), .int (nI x21.2.2.1), .int (nI x21.2.1), .int (nI x21.1), .int (nI x21.2.2.2), .ref u21_0])), (tx, .inl (dA 1, 300, .inl tf))]) [0, 1] (by decide) rfl
  exact W.vret hx hb hrt (fun t ht hW => ⟨⟨(u21_0, u21_1), rfl, trivial, by rw [ht]; exact hP9, hD9, GK.warm hW hG⟩, hS.F ht⟩) hS.2.2 dX7_init_24
