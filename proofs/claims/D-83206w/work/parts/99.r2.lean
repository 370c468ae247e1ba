set_option maxRecDepth 100000
abbrev r_X10_init_X11 : Room := { frames := 4, cells := 2, slots := 5, locals := 81 }
set_option maxHeartbeats 1000000 in
theorem c_X10_init_X11 (lh : Launch) (D : va_G) (dA : Nat → ClassId) (sz : Nat) (a : Nat) : Met lh yX10_init (ws_ yX10_init cX10_init 1 none) r_X10_init_X11 (PX (fun U H => H.size = sz ∧ va_P D CL [(a, .inr (9, [.null]))] H ∧ va_D nT [(a, .inr (9, [.null]))] ∧ GK D dA U) [.ref a]) (va_Qv (fun u : Nat × Nat => True) (fun (u : Nat × Nat) t => va_P D CL [(a, .inr (9, [.ref u.1])), (u.1, .inr (15, [.int (nI 0), .ref u.2, .int (nI 0)])), (u.2, .inl (dA 4, 2, rfA (fun _ => none)))] t.heap ∧ va_D (va_A [(a, .inr (9, [.null]))] sz) [(a, .inr (9, [.ref u.1])), (u.1, .inr (15, [.int (nI 0), .ref u.2, .int (nI 0)])), (u.2, .inl (dA 4, 2, rfA (fun _ => none)))] ∧ GK D dA t) (va_A [(a, .inr (9, [.null]))] sz)) 2 5 (va_A [(a, .inr (9, [.null]))] sz) := by
  refine Met.ofW (cc := cX10_init) (maxL := 1) (ret := none) (by decide) rfl ?_
  intro p e s m args below meth cd s₁ B hml hv
  obtain ⟨hargs, hsz, hP, hD, hG⟩ := hv
  have hx := B.exec
  have hb := B.bytes
  have hrt := B.returns
  have hts := atoms_spec (ws := (ws_ yX10_init cX10_init 1 none)) B.pre
  have hts : ∀ w ∈ lw_all, w.before _ s = true := fun w h => hts w (List.mem_cons_of_mem _ h)
  have hown : s.vm.findClass RX10 = some m.cls := findClass_of_methodNamed B.named
  have hlocks := B.notSynchronized
  have hin : meth.name = "<init>" := (name_of_methodNamed B.named B.method).1
  subst hsz
  have hD := hD.self (sz := s.heap.size)
  have hA : ∀ q : Nat, s.heap.size ≤ q → va_A [(a, .inr (9, [.null]))] s.heap.size q := fun q h => Or.inr h
  generalize va_A [(a, .inr (9, [.null]))] s.heap.size = A at hD hA ⊢
  have hS : va_S A s.heap s.heap [] := va_S.rf
  have hE : entryFrame m args 1 = F0 m 0 ((lg_sl ([.ref a]) ++ List.replicate (1 - (lg_sl ([.ref a])).length) Slot.unset).toArray) [] := by rw [hargs]; exact lg_entry_eq m _ 1
  have hl := lv_entry ([.ref a]) (n := 1) (Nat.le_of_ble_eq_true rfl)
  rw [hE]
  clear hE
  generalize (lg_sl ([.ref a]) ++ List.replicate (1 - (lg_sl ([.ref a])).length) Slot.unset).toArray = ls at hl ⊢
  have hl : lv_has ls 1 [(0, .ref a)] := hl
  generalize hQ : MQ _ _ _ _ _ _ _ = Q
  refine lv_aload_n hx hb dX10_init_0 rfl (lv_at hl 0 rfl) ?_
  refine W.objInit hx hb hown (hts _ q1068) (hts _ q105) (hts _ q106) rfl (by rw [hml]; exact hl.1) rfl dX10_init_1 (Nat.le_of_ble_eq_true rfl) (Nat.le_of_ble_eq_true rfl) ?_
  refine W.eq (g2 := F0 m 4 ls []) rfl ?_
  refine lv_aload_n hx hb dX10_init_4 rfl (lv_at hl 0 rfl) ?_
  refine va_new (D := D) (ci := 15) (C := RJ2) (T := TJ2) (N := 3) hx hb hts in_J2 tyJ2 tyJ2_ok hown (hts _ q1069) (hts _ q110) (hts _ q65) hG.1 hP hD hS hA rfl (fs := [.int (nI 0), .null, .int (nI 0)]) (by decide) (Nat.le_of_ble_eq_true rfl) (Nat.le_of_ble_eq_true rfl) dX10_init_5 (fun q5 H hP hD hS => ?_)
  have hP : va_P D CL [(a, .inr (9, [.null])), (q5, .inr (15, [.int (nI 0), .null, .int (nI 0)]))] H := hP
  have hD : va_D A [(a, .inr (9, [.null])), (q5, .inr (15, [.int (nI 0), .null, .int (nI 0)]))] := hD
  refine lv_dup hx hb dX10_init_8 rfl ?_
  refine lv_iconst (v := nI 2) hx hb dX10_init_9 (by decide) ?_
  have hPs : va_P D CL ([(q5, .inr (15, [.int (nI 0), .null, .int (nI 0)]))] ++ [(a, .inr (9, [.null]))]) H := hP.sub [1, 0] rfl
  have hDs : va_D A ([(q5, .inr (15, [.int (nI 0), .null, .int (nI 0)]))] ++ [(a, .inr (9, [.null]))]) := hD.sub [1, 0] (by decide) rfl
  have hz9 := hS.1
  refine va_callv (va_runI (As := [.int (nI 2)]) (rest := [.ref q5, .ref a]) ⟨hx, hb, hml, hown, hts⟩ (c_J2_init_2 lh D dA H.size q5 2 (by decide) (by decide)) (cwI 1 hts (lw_meth q807) rfl rfl rfl (hts _ q65) (hts _ q1070) (hts _ q806) rfl (by decide +kernel) ⟨Nat.le_of_ble_eq_true rfl, Nat.le_of_ble_eq_true rfl⟩) ⟨PX.blind (Mv.and Mv.heap (Mv.and Mv.heap (Mv.and Mv.heap Mv.gk))), PX.pre (Mv.and Mv.heap (Mv.and Mv.heap (Mv.and Mv.heap Mv.gk))) ⟨rfl, (va_P_left hPs), (va_D_left hDs), hG⟩⟩ rfl rfl hl.1 rfl (lv_room (Nat.le_of_ble_eq_true rfl)) dX10_init_10 ⟨Nat.le_of_ble_eq_true rfl, by decide⟩) hS (fun q _ => (va_A_up hDs hA hS.1) q) ((va_A_up hDs hA hS.1)) (fun u t H1 locs ht hvm hp hB hz hk hS => ?_)
  generalize u = u10 at hp hB
  obtain ⟨hP1, hD1, -⟩ := hB
  rw [ht] at hP1
  obtain ⟨hP, hD⟩ := vp_join hPs hDs hP1 hD1 hk hA hz9
  clear ht hvm hz hk hP1 hD1 hPs hDs hz9
  generalize H1 = H at hP hS ⊢
  have hP : va_P D CL [(q5, .inr (15, [.int (nI 0), .ref u10, .int (nI 0)])), (u10, .inl (dA 4, 2, rfA (fun _ => none))), (a, .inr (9, [.null]))] H := hP
  have hD : va_D A [(q5, .inr (15, [.int (nI 0), .ref u10, .int (nI 0)])), (u10, .inl (dA 4, 2, rfA (fun _ => none))), (a, .inr (9, [.null]))] := hD
  refine va_putF (D := D) (ci := 9) (v := .ref q5) (C := RX11) (T := TX11) (N := 1) hx hb hts in_X11 tyX11 tyX11_ok nmX11 hown hG.1 hP hD hS 2 rfl rfl 0 (by decide) (hts _ q1071) (fun _ h => h) rfl hin rfl rfl (rfl) (rfl) (Nat.le_of_ble_eq_true rfl) dX10_init_13 (fun H locs hP hD hS => ?_)
  have hP : va_P D CL [(q5, .inr (15, [.int (nI 0), .ref u10, .int (nI 0)])), (u10, .inl (dA 4, 2, rfA (fun _ => none))), (a, .inr (9, [.ref q5]))] H := hP
  have hD : va_D A [(q5, .inr (15, [.int (nI 0), .ref u10, .int (nI 0)])), (u10, .inl (dA 4, 2, rfA (fun _ => none))), (a, .inr (9, [.ref q5]))] := hD
  subst hQ
  refine W.widen (k := 2) (n := 5) (by first | decide | omega) (by first | decide | omega) ?_
  have hP9 : va_P D CL [(a, .inr (9, [.ref q5])), (q5, .inr (15, [.int (nI 0), .ref u10, .int (nI 0)])), (u10, .inl (dA 4, 2, rfA (fun _ => none)))] H := hP.sub [2, 0, 1] rfl
  have hD9 : va_D A [(a, .inr (9, [.ref q5])), (q5, .inr (15, [.int (nI 0), .ref u10, .int (nI 0)])), (u10, .inl (dA 4, 2, rfA (fun _ => none)))] := hD.sub [2, 0, 1] (by decide) rfl
  exact W.vret hx hb hrt (fun t ht hW => ⟨⟨(q5, u10), rfl, trivial, by rw [ht]; exact hP9, hD9, GK.warm hW hG⟩, hS.F ht⟩) hS.2.2 dX10_init_16

abbrev r_X10_init_X12 : Room := { frames := 4, cells := 2, slots := 5, locals := 81 }
set_option maxHeartbeats 1000000 in
theorem c_X10_init_X12 (lh : Launch) (D : va_G) (dA : Nat → ClassId) (sz : Nat) (a : Nat) : Met lh yX10_init (ws_ yX10_init cX10_init 1 none) r_X10_init_X12 (PX (fun U H => H.size = sz ∧ va_P D CL [(a, .inr (10, [.null]))] H ∧ va_D nT [(a, .inr (10, [.null]))] ∧ GK D dA U) [.ref a]) (va_Qv (fun u : Nat × Nat => True) (fun (u : Nat × Nat) t => va_P D CL [(a, .inr (10, [.ref u.1])), (u.1, .inr (15, [.int (nI 0), .ref u.2, .int (nI 0)])), (u.2, .inl (dA 4, 2, rfA (fun _ => none)))] t.heap ∧ va_D (va_A [(a, .inr (10, [.null]))] sz) [(a, .inr (10, [.ref u.1])), (u.1, .inr (15, [.int (nI 0), .ref u.2, .int (nI 0)])), (u.2, .inl (dA 4, 2, rfA (fun _ => none)))] ∧ GK D dA t) (va_A [(a, .inr (10, [.null]))] sz)) 2 5 (va_A [(a, .inr (10, [.null]))] sz) := by
  refine Met.ofW (cc := cX10_init) (maxL := 1) (ret := none) (by decide) rfl ?_
  intro p e s m args below meth cd s₁ B hml hv
  obtain ⟨hargs, hsz, hP, hD, hG⟩ := hv
  have hx := B.exec
  have hb := B.bytes
  have hrt := B.returns
  have hts := atoms_spec (ws := (ws_ yX10_init cX10_init 1 none)) B.pre
  have hts : ∀ w ∈ lw_all, w.before _ s = true := fun w h => hts w (List.mem_cons_of_mem _ h)
  have hown : s.vm.findClass RX10 = some m.cls := findClass_of_methodNamed B.named
  have hlocks := B.notSynchronized
  have hin : meth.name = "<init>" := (name_of_methodNamed B.named B.method).1
  subst hsz
  have hD := hD.self (sz := s.heap.size)
  have hA : ∀ q : Nat, s.heap.size ≤ q → va_A [(a, .inr (10, [.null]))] s.heap.size q := fun q h => Or.inr h
  generalize va_A [(a, .inr (10, [.null]))] s.heap.size = A at hD hA ⊢
  have hS : va_S A s.heap s.heap [] := va_S.rf
  have hE : entryFrame m args 1 = F0 m 0 ((lg_sl ([.ref a]) ++ List.replicate (1 - (lg_sl ([.ref a])).length) Slot.unset).toArray) [] := by rw [hargs]; exact lg_entry_eq m _ 1
  have hl := lv_entry ([.ref a]) (n := 1) (Nat.le_of_ble_eq_true rfl)
  rw [hE]
  clear hE
  generalize (lg_sl ([.ref a]) ++ List.replicate (1 - (lg_sl ([.ref a])).length) Slot.unset).toArray = ls at hl ⊢
  have hl : lv_has ls 1 [(0, .ref a)] := hl
  generalize hQ : MQ _ _ _ _ _ _ _ = Q
  refine lv_aload_n hx hb dX10_init_0 rfl (lv_at hl 0 rfl) ?_
  refine W.objInit hx hb hown (hts _ q1068) (hts _ q105) (hts _ q106) rfl (by rw [hml]; exact hl.1) rfl dX10_init_1 (Nat.le_of_ble_eq_true rfl) (Nat.le_of_ble_eq_true rfl) ?_
  refine W.eq (g2 := F0 m 4 ls []) rfl ?_
  refine lv_aload_n hx hb dX10_init_4 rfl (lv_at hl 0 rfl) ?_
  refine va_new (D := D) (ci := 15) (C := RJ2) (T := TJ2) (N := 3) hx hb hts in_J2 tyJ2 tyJ2_ok hown (hts _ q1069) (hts _ q110) (hts _ q65) hG.1 hP hD hS hA rfl (fs := [.int (nI 0), .null, .int (nI 0)]) (by decide) (Nat.le_of_ble_eq_true rfl) (Nat.le_of_ble_eq_true rfl) dX10_init_5 (fun q5 H hP hD hS => ?_)
  have hP : va_P D CL [(a, .inr (10, [.null])), (q5, .inr (15, [.int (nI 0), .null, .int (nI 0)]))] H := hP
  have hD : va_D A [(a, .inr (10, [.null])), (q5, .inr (15, [.int (nI 0), .null, .int (nI 0)]))] := hD
  refine lv_dup hx hb dX10_init_8 rfl ?_
  refine lv_iconst (v := nI 2) hx hb dX10_init_9 (by decide) ?_
  have hPs : va_P D CL ([(q5, .inr (15, [.int (nI 0), .null, .int (nI 0)]))] ++ [(a, .inr (10, [.null]))]) H := hP.sub [1, 0] rfl
  have hDs : va_D A ([(q5, .inr (15, [.int (nI 0), .null, .int (nI 0)]))] ++ [(a, .inr (10, [.null]))]) := hD.sub [1, 0] (by decide) rfl
  have hz9 := hS.1
  refine va_callv (va_runI (As := [.int (nI 2)]) (rest := [.ref q5, .ref a]) ⟨hx, hb, hml, hown, hts⟩ (c_J2_init_2 lh D dA H.size q5 2 (by decide) (by decide)) (cwI 1 hts (lw_meth q807) rfl rfl rfl (hts _ q65) (hts _ q1070) (hts _ q806) rfl (by decide +kernel) ⟨Nat.le_of_ble_eq_true rfl, Nat.le_of_ble_eq_true rfl⟩) ⟨PX.blind (Mv.and Mv.heap (Mv.and Mv.heap (Mv.and Mv.heap Mv.gk))), PX.pre (Mv.and Mv.heap (Mv.and Mv.heap (Mv.and Mv.heap Mv.gk))) ⟨rfl, (va_P_left hPs), (va_D_left hDs), hG⟩⟩ rfl rfl hl.1 rfl (lv_room (Nat.le_of_ble_eq_true rfl)) dX10_init_10 ⟨Nat.le_of_ble_eq_true rfl, by decide⟩) hS (fun q _ => (va_A_up hDs hA hS.1) q) ((va_A_up hDs hA hS.1)) (fun u t H1 locs ht hvm hp hB hz hk hS => ?_)
  generalize u = u10 at hp hB
  obtain ⟨hP1, hD1, -⟩ := hB
  rw [ht] at hP1
  obtain ⟨hP, hD⟩ := vp_join hPs hDs hP1 hD1 hk hA hz9
  clear ht hvm hz hk hP1 hD1 hPs hDs hz9
  generalize H1 = H at hP hS ⊢
  have hP : va_P D CL [(q5, .inr (15, [.int (nI 0), .ref u10, .int (nI 0)])), (u10, .inl (dA 4, 2, rfA (fun _ => none))), (a, .inr (10, [.null]))] H := hP
  have hD : va_D A [(q5, .inr (15, [.int (nI 0), .ref u10, .int (nI 0)])), (u10, .inl (dA 4, 2, rfA (fun _ => none))), (a, .inr (10, [.null]))] := hD
  refine va_putF (D := D) (ci := 10) (v := .ref q5) (C := RX12) (T := TX12) (N := 1) hx hb hts in_X12 tyX12 tyX12_ok nmX12 hown hG.1 hP hD hS 2 rfl rfl 0 (by decide) (hts _ q1071) (fun _ h => h) rfl hin rfl rfl (rfl) (rfl) (Nat.le_of_ble_eq_true rfl) dX10_init_13 (fun H locs hP hD hS => ?_)
  have hP : va_P D CL [(q5, .inr (15, [.int (nI 0), .ref u10, .int (nI 0)])), (u10, .inl (dA 4, 2, rfA (fun _ => none))), (a, .inr (10, [.ref q5]))] H := hP
  have hD : va_D A [(q5, .inr (15, [.int (nI 0), .ref u10, .int (nI 0)])), (u10, .inl (dA 4, 2, rfA (fun _ => none))), (a, .inr (10, [.ref q5]))] := hD
  subst hQ
  refine W.widen (k := 2) (n := 5) (by first | decide | omega) (by first | decide | omega) ?_
  have hP9 : va_P D CL [(a, .inr (10, [.ref q5])), (q5, .inr (15, [.int (nI 0), .ref u10, .int (nI 0)])), (u10, .inl (dA 4, 2, rfA (fun _ => none)))] H := hP.sub [2, 0, 1] rfl
  have hD9 : va_D A [(a, .inr (10, [.ref q5])), (q5, .inr (15, [.int (nI 0), .ref u10, .int (nI 0)])), (u10, .inl (dA 4, 2, rfA (fun _ => none)))] := hD.sub [2, 0, 1] (by decide) rfl
  exact W.vret hx hb hrt (fun t ht hW => ⟨⟨(q5, u10), rfl, trivial, by rw [ht]; exact hP9, hD9, GK.warm hW hG⟩, hS.F ht⟩) hS.2.2 dX10_init_16

abbrev r_X10_init_X13 : Room := { frames := 4, cells := 2, slots := 5, locals := 81 }
set_option maxHeartbeats 1000000 in
theorem c_X10_init_X13 (lh : Launch) (D : va_G) (dA : Nat → ClassId) (sz : Nat) (a : Nat) : Met lh yX10_init (ws_ yX10_init cX10_init 1 none) r_X10_init_X13 (PX (fun U H => H.size = sz ∧ va_P D CL [(a, .inr (11, [.null]))] H ∧ va_D nT [(a, .inr (11, [.null]))] ∧ GK D dA U) [.ref a]) (va_Qv (fun u : Nat × Nat => True) (fun (u : Nat × Nat) t => va_P D CL [(a, .inr (11, [.ref u.1])), (u.1, .inr (15, [.int (nI 0), .ref u.2, .int (nI 0)])), (u.2, .inl (dA 4, 2, rfA (fun _ => none)))] t.heap ∧ va_D (va_A [(a, .inr (11, [.null]))] sz) [(a, .inr (11, [.ref u.1])), (u.1, .inr (15, [.int (nI 0), .ref u.2, .int (nI 0)])), (u.2, .inl (dA 4, 2, rfA (fun _ => none)))] ∧ GK D dA t) (va_A [(a, .inr (11, [.null]))] sz)) 2 5 (va_A [(a, .inr (11, [.null]))] sz) := by
  refine Met.ofW (cc := cX10_init) (maxL := 1) (ret := none) (by decide) rfl ?_
  intro p e s m args below meth cd s₁ B hml hv
  obtain ⟨hargs, hsz, hP, hD, hG⟩ := hv
  have hx := B.exec
  have hb := B.bytes
  have hrt := B.returns
  have hts := atoms_spec (ws := (ws_ yX10_init cX10_init 1 none)) B.pre
  have hts : ∀ w ∈ lw_all, w.before _ s = true := fun w h => hts w (List.mem_cons_of_mem _ h)
  have hown : s.vm.findClass RX10 = some m.cls := findClass_of_methodNamed B.named
  have hlocks := B.notSynchronized
  have hin : meth.name = "<init>" := (name_of_methodNamed B.named B.method).1
  subst hsz
  have hD := hD.self (sz := s.heap.size)
  have hA : ∀ q : Nat, s.heap.size ≤ q → va_A [(a, .inr (11, [.null]))] s.heap.size q := fun q h => Or.inr h
  generalize va_A [(a, .inr (11, [.null]))] s.heap.size = A at hD hA ⊢
  have hS : va_S A s.heap s.heap [] := va_S.rf
  have hE : entryFrame m args 1 = F0 m 0 ((lg_sl ([.ref a]) ++ List.replicate (1 - (lg_sl ([.ref a])).length) Slot.unset).toArray) [] := by rw [hargs]; exact lg_entry_eq m _ 1
  have hl := lv_entry ([.ref a]) (n := 1) (Nat.le_of_ble_eq_true rfl)
  rw [hE]
  clear hE
  generalize (lg_sl ([.ref a]) ++ List.replicate (1 - (lg_sl ([.ref a])).length) Slot.unset).toArray = ls at hl ⊢
  have hl : lv_has ls 1 [(0, .ref a)] := hl
  generalize hQ : MQ _ _ _ _ _ _ _ = Q
  refine lv_aload_n hx hb dX10_init_0 rfl (lv_at hl 0 rfl) ?_
  refine W.objInit hx hb hown (hts _ q1068) (hts _ q105) (hts _ q106) rfl (by rw [hml]; exact hl.1) rfl dX10_init_1 (Nat.le_of_ble_eq_true rfl) (Nat.le_of_ble_eq_true rfl) ?_
  refine W.eq (g2 := F0 m 4 ls []) rfl ?_
  refine lv_aload_n hx hb dX10_init_4 rfl (lv_at hl 0 rfl) ?_
  refine va_new (D := D) (ci := 15) (C := RJ2) (T := TJ2) (N := 3) hx hb hts in_J2 tyJ2 tyJ2_ok hown (hts _ q1069) (hts _ q110) (hts _ q65) hG.1 hP hD hS hA rfl (fs := [.int (nI 0), .null, .int (nI 0)]) (by decide) (Nat.le_of_ble_eq_true rfl) (Nat.le_of_ble_eq_true rfl) dX10_init_5 (fun q5 H hP hD hS => ?_)
  have hP : va_P D CL [(a, .inr (11, [.null])), (q5, .inr (15, [.int (nI 0), .null, .int (nI 0)]))] H := hP
  have hD : va_D A [(a, .inr (11, [.null])), (q5, .inr (15, [.int (nI 0), .null, .int (nI 0)]))] := hD
  refine lv_dup hx hb dX10_init_8 rfl ?_
  refine lv_iconst (v := nI 2) hx hb dX10_init_9 (by decide) ?_
  have hPs : va_P D CL ([(q5, .inr (15, [.int (nI 0), .null, .int (nI 0)]))] ++ [(a, .inr (11, [.null]))]) H := hP.sub [1, 0] rfl
  have hDs : va_D A ([(q5, .inr (15, [.int (nI 0), .null, .int (nI 0)]))] ++ [(a, .inr (11, [.null]))]) := hD.sub [1, 0] (by decide) rfl
  have hz9 := hS.1
  refine va_callv (va_runI (As := [.int (nI 2)]) (rest := [.ref q5, .ref a]) ⟨hx, hb, hml, hown, hts⟩ (c_J2_init_2 lh D dA H.size q5 2 (by decide) (by decide)) (cwI 1 hts (lw_meth q807) rfl rfl rfl (hts _ q65) (hts _ q1070) (hts _ q806) rfl (by decide +kernel) ⟨Nat.le_of_ble_eq_true rfl, Nat.le_of_ble_eq_true rfl⟩) ⟨PX.blind (Mv.and Mv.heap (Mv.and Mv.heap (Mv.and Mv.heap Mv.gk))), PX.pre (Mv.and Mv.heap (Mv.and Mv.heap (Mv.and Mv.heap Mv.gk))) ⟨rfl, (va_P_left hPs), (va_D_left hDs), hG⟩⟩ rfl rfl hl.1 rfl (lv_room (Nat.le_of_ble_eq_true rfl)) dX10_init_10 ⟨Nat.le_of_ble_eq_true rfl, by decide⟩) hS (fun q _ => (va_A_up hDs hA hS.1) q) ((va_A_up hDs hA hS.1)) (fun u t H1 locs ht hvm hp hB hz hk hS => ?_)
  generalize u = u10 at hp hB
  obtain ⟨hP1, hD1, -⟩ := hB
  rw [ht] at hP1
  obtain ⟨hP, hD⟩ := vp_join hPs hDs hP1 hD1 hk hA hz9
  clear ht hvm hz hk hP1 hD1 hPs hDs hz9
  generalize H1 = H at hP hS ⊢
  have hP : va_P D CL [(q5, .inr (15, [.int (nI 0), .ref u10, .int (nI 0)])), (u10, .inl (dA 4, 2, rfA (fun _ => none))), (a, .inr (11, [.null]))] H := hP
  have hD : va_D A [(q5, .inr (15, [.int (nI 0), .ref u10, .int (nI 0)])), (u10, .inl (dA 4, 2, rfA (fun _ => none))), (a, .inr (11, [.null]))] := hD
  refine va_putF (D := D) (ci := 11) (v := .ref q5) (C := RX13) (T := TX13) (N := 1) hx hb hts in_X13 tyX13 tyX13_ok nmX13 hown hG.1 hP hD hS 2 rfl rfl 0 (by decide) (hts _ q1071) (fun _ h => h) rfl hin rfl rfl (rfl) (rfl) (Nat.le_of_ble_eq_true rfl) dX10_init_13 (fun H locs hP hD hS => ?_)
  have hP : va_P D CL [(q5, .inr (15, [.int (nI 0), .ref u10, .int (nI 0)])), (u10, .inl (dA 4, 2, rfA (fun _ => none))), (a, .inr (11, [.ref q5]))] H := hP
  have hD : va_D A [(q5, .inr (15, [.int (nI 0), .ref u10, .int (nI 0)])), (u10, .inl (dA 4, 2, rfA (fun _ => none))), (a, .inr (11, [.ref q5]))] := hD
  subst hQ
  refine W.widen (k := 2) (n := 5) (by first | decide | omega) (by first | decide | omega) ?_
  have hP9 : va_P D CL [(a, .inr (11, [.ref q5])), (q5, .inr (15, [.int (nI 0), .ref u10, .int (nI 0)])), (u10, .inl (dA 4, 2, rfA (fun _ => none)))] H := hP.sub [2, 0, 1] rfl
  have hD9 : va_D A [(a, .inr (11, [.ref q5])), (q5, .inr (15, [.int (nI 0), .ref u10, .int (nI 0)])), (u10, .inl (dA 4, 2, rfA (fun _ => none)))] := hD.sub [2, 0, 1] (by decide) rfl
  exact W.vret hx hb hrt (fun t ht hW => ⟨⟨(q5, u10), rfl, trivial, by rw [ht]; exact hP9, hD9, GK.warm hW hG⟩, hS.F ht⟩) hS.2.2 dX10_init_16

abbrev r_X10_init_X15 : Room := { frames := 4, cells := 2, slots := 5, locals := 81 }
set_option maxHeartbeats 1000000 in
theorem c_X10_init_X15 (lh : Launch) (D : va_G) (dA : Nat → ClassId) (sz : Nat) (a : Nat) : Met lh yX10_init (ws_ yX10_init cX10_init 1 none) r_X10_init_X15 (PX (fun U H => H.size = sz ∧ va_P D CL [(a, .inr (12, [.null]))] H ∧ va_D nT [(a, .inr (12, [.null]))] ∧ GK D dA U) [.ref a]) (va_Qv (fun u : Nat × Nat => True) (fun (u : Nat × Nat) t => va_P D CL [(a, .inr (12, [.ref u.1])), (u.1, .inr (15, [.int (nI 0), .ref u.2, .int (nI 0)])), (u.2, .inl (dA 4, 2, rfA (fun _ => none)))] t.heap ∧ va_D (va_A [(a, .inr (12, [.null]))] sz) [(a, .inr (12, [.ref u.1])), (u.1, .inr (15, [.int (nI 0), .ref u.2, .int (nI 0)])), (u.2, .inl (dA 4, 2, rfA (fun _ => none)))] ∧ GK D dA t) (va_A [(a, .inr (12, [.null]))] sz)) 2 5 (va_A [(a, .inr (12, [.null]))] sz) := by
  refine Met.ofW (cc := cX10_init) (maxL := 1) (ret := none) (by decide) rfl ?_
  intro p e s m args below meth cd s₁ B hml hv
  obtain ⟨hargs, hsz, hP, hD, hG⟩ := hv
  have hx := B.exec
  have hb := B.bytes
  have hrt := B.returns
  have hts := atoms_spec (ws := (ws_ yX10_init cX10_init 1 none)) B.pre
  have hts : ∀ w ∈ lw_all, w.before _ s = true := fun w h => hts w (List.mem_cons_of_mem _ h)
  have hown : s.vm.findClass RX10 = some m.cls := findClass_of_methodNamed B.named
  have hlocks := B.notSynchronized
  have hin : meth.name = "<init>" := (name_of_methodNamed B.named B.method).1
  subst hsz
  have hD := hD.self (sz := s.heap.size)
  have hA : ∀ q : Nat, s.heap.size ≤ q → va_A [(a, .inr (12, [.null]))] s.heap.size q := fun q h => Or.inr h
  generalize va_A [(a, .inr (12, [.null]))] s.heap.size = A at hD hA ⊢
  have hS : va_S A s.heap s.heap [] := va_S.rf
  have hE : entryFrame m args 1 = F0 m 0 ((lg_sl ([.ref a]) ++ List.replicate (1 - (lg_sl ([.ref a])).length) Slot.unset).toArray) [] := by rw [hargs]; exact lg_entry_eq m _ 1
  have hl := lv_entry ([.ref a]) (n := 1) (Nat.le_of_ble_eq_true rfl)
  rw [hE]
  clear hE
  generalize (lg_sl ([.ref a]) ++ List.replicate (1 - (lg_sl ([.ref a])).length) Slot.unset).toArray = ls at hl ⊢
  have hl : lv_has ls 1 [(0, .ref a)] := hl
  generalize hQ : MQ _ _ _ _ _ _ _ = Q
  refine lv_aload_n hx hb dX10_init_0 rfl (lv_at hl 0 rfl) ?_
  refine W.objInit hx hb hown (hts _ q1068) (hts _ q105) (hts _ q106) rfl (by rw [hml]; exact hl.1) rfl dX10_init_1 (Nat.le_of_ble_eq_true rfl) (Nat.le_of_ble_eq_true rfl) ?_
  refine W.eq (g2 := F0 m 4 ls []) rfl ?_
  refine lv_aload_n hx hb dX10_init_4 rfl (lv_at hl 0 rfl) ?_
  refine va_new (D := D) (ci := 15) (C := RJ2) (T := TJ2) (N := 3) hx hb hts in_J2 tyJ2 tyJ2_ok hown (hts _ q1069) (hts _ q110) (hts _ q65) hG.1 hP hD hS hA rfl (fs := [.int (nI 0), .null, .int (nI 0)]) (by decide) (Nat.le_of_ble_eq_true rfl) (Nat.le_of_ble_eq_true rfl) dX10_init_5 (fun q5 H hP hD hS => ?_)
  have hP : va_P D CL [(a, .inr (12, [.null])), (q5, .inr (15, [.int (nI 0), .null, .int (nI 0)]))] H := hP
  have hD : va_D A [(a, .inr (12, [.null])), (q5, .inr (15, [.int (nI 0), .null, .int (nI 0)]))] := hD
  refine lv_dup hx hb dX10_init_8 rfl ?_
  refine lv_iconst (v := nI 2) hx hb dX10_init_9 (by decide) ?_
  have hPs : va_P D CL ([(q5, .inr (15, [.int (nI 0), .null, .int (nI 0)]))] ++ [(a, .inr (12, [.null]))]) H := hP.sub [1, 0] rfl
  have hDs : va_D A ([(q5, .inr (15, [.int (nI 0), .null, .int (nI 0)]))] ++ [(a, .inr (12, [.null]))]) := hD.sub [1, 0] (by decide) rfl
  have hz9 := hS.1
  refine va_callv (va_runI (As := [.int (nI 2)]) (rest := [.ref q5, .ref a]) ⟨hx, hb, hml, hown, hts⟩ (c_J2_init_2 lh D dA H.size q5 2 (by decide) (by decide)) (cwI 1 hts (lw_meth q807) rfl rfl rfl (hts _ q65) (hts _ q1070) (hts _ q806) rfl (by decide +kernel) ⟨Nat.le_of_ble_eq_true rfl, Nat.le_of_ble_eq_true rfl⟩) ⟨PX.blind (Mv.and Mv.heap (Mv.and Mv.heap (Mv.and Mv.heap Mv.gk))), PX.pre (Mv.and Mv.heap (Mv.and Mv.heap (Mv.and Mv.heap Mv.gk))) ⟨rfl, (va_P_left hPs), (va_D_left hDs), hG⟩⟩ rfl rfl hl.1 rfl (lv_room (Nat.le_of_ble_eq_true rfl)) dX10_init_10 ⟨Nat.le_of_ble_eq_true rfl, by decide⟩) hS (fun q _ => (va_A_up hDs hA hS.1) q) ((va_A_up hDs hA hS.1)) (fun u t H1 locs ht hvm hp hB hz hk hS => ?_)
  generalize u = u10 at hp hB
  obtain ⟨hP1, hD1, -⟩ := hB
  rw [ht] at hP1
  obtain ⟨hP, hD⟩ := vp_join hPs hDs hP1 hD1 hk hA hz9
  clear ht hvm hz hk hP1 hD1 hPs hDs hz9
  generalize H1 = H at hP hS ⊢
  have hP : va_P D CL [(q5, .inr (15, [.int (nI 0), .ref u10, .int (nI 0)])), (u10, .inl (dA 4, 2, rfA (fun _ => none))), (a, .inr (12, [.null]))] H := hP
  have hD : va_D A [(q5, .inr (15, [.int (nI 0), .ref u10, .int (nI 0)])), (u10, .inl (dA 4, 2, rfA (fun _ => none))), (a, .inr (12, [.null]))] := hD
  refine va_putF (D := D) (ci := 12) (v := .ref q5) (C := RX15) (T := TX15) (N := 1) hx hb hts in_X15 tyX15 tyX15_ok nmX15 hown hG.1 hP hD hS 2 rfl rfl 0 (by decide) (hts _ q1071) (fun _ h => h) rfl hin rfl rfl (rfl) (rfl) (Nat.le_of_ble_eq_true rfl) dX10_init_13 (fun H locs hP hD hS => ?_)
  have hP : va_P D CL [(q5, .inr (15, [.int (nI 0), .ref u10, .int (nI 0)])), (u10, .inl (dA 4, 2, rfA (fun _ => none))), (a, .inr (12, [.ref q5]))] H := hP
  have hD : va_D A [(q5, .inr (15, [.int (nI 0), .ref u10, .int (nI 0)])), (u10, .inl (dA 4, 2, rfA (fun _ => none))), (a, .inr (12, [.ref q5]))] := hD
  subst hQ
  refine W.widen (k := 2) (n := 5) (by first | decide | omega) (by first | decide | omega) ?_
  have hP9 : va_P D CL [(a, .inr (12, [.ref q5])), (q5, .inr (15, [.int (nI 0), .ref u10, .int (nI 0)])), (u10, .inl (dA 4, 2, rfA (fun _ => none)))] H := hP.sub [2, 0, 1] rfl
  have hD9 : va_D A [(a, .inr (12, [.ref q5])), (q5, .inr (15, [.int (nI 0), .ref u10, .int (nI 0)])), (u10, .inl (dA 4, 2, rfA (fun _ => none)))] := hD.sub [2, 0, 1] (by decide) rfl
  exact W.vret hx hb hrt (fun t ht hW => ⟨⟨(q5, u10), rfl, trivial, by rw [ht]; exact hP9, hD9, GK.warm hW hG⟩, hS.F ht⟩) hS.2.2 dX10_init_16

abbrev r_X10_init_X16 : Room := { frames := 4, cells := 2, slots := 5, locals := 81 }
set_option maxHeartbeats 1000000 in
theorem c_X10_init_X16 (lh : Launch) (D : va_G) (dA : Nat → ClassId) (sz : Nat) (a : Nat) : Met lh yX10_init (ws_ yX10_init cX10_init 1 none) r_X10_init_X16 (PX (fun U H => H.size = sz ∧ va_P D CL [(a, .inr (13, [.null]))] H ∧ va_D nT [(a, .inr (13, [.null]))] ∧ GK D dA U) [.ref a]) (va_Qv (fun u : Nat × Nat => True) (fun (u : Nat × Nat) t => va_P D CL [(a, .inr (13, [.ref u.1])), (u.1, .inr (15, [.int (nI 0), .ref u.2, .int (nI 0)])), (u.2, .inl (dA 4, 2, rfA (fun _ => none)))] t.heap ∧ va_D (va_A [(a, .inr (13, [.null]))] sz) [(a, .inr (13, [.ref u.1])), (u.1, .inr (15, [.int (nI 0), .ref u.2, .int (nI 0)])), (u.2, .inl (dA 4, 2, rfA (fun _ => none)))] ∧ GK D dA t) (va_A [(a, .inr (13, [.null]))] sz)) 2 5 (va_A [(a, .inr (13, [.null]))] sz) := by
  refine Met.ofW (cc := cX10_init) (maxL := 1) (ret := none) (by decide) rfl ?_
  intro p e s m args below meth cd s₁ B hml hv
  obtain ⟨hargs, hsz, hP, hD, hG⟩ := hv
  have hx := B.exec
  have hb := B.bytes
  have hrt := B.returns
  have hts := atoms_spec (ws := (ws_ yX10_init cX10_init 1 none)) B.pre
  have hts : ∀ w ∈ lw_all, w.before _ s = true := fun w h => hts w (List.mem_cons_of_mem _ h)
  have hown : s.vm.findClass RX10 = some m.cls := findClass_of_methodNamed B.named
  have hlocks := B.notSynchronized
  have hin : meth.name = "<init>" := (name_of_methodNamed B.named B.method).1
  subst hsz
  have hD := hD.self (sz := s.heap.size)
  have hA : ∀ q : Nat, s.heap.size ≤ q → va_A [(a, .inr (13, [.null]))] s.heap.size q := fun q h => Or.inr h
  generalize va_A [(a, .inr (13, [.null]))] s.heap.size = A at hD hA ⊢
  have hS : va_S A s.heap s.heap [] := va_S.rf
  have hE : entryFrame m args 1 = F0 m 0 ((lg_sl ([.ref a]) ++ List.replicate (1 - (lg_sl ([.ref a])).length) Slot.unset).toArray) [] := by rw [hargs]; exact lg_entry_eq m _ 1
  have hl := lv_entry ([.ref a]) (n := 1) (Nat.le_of_ble_eq_true rfl)
  rw [hE]
  clear hE
  generalize (lg_sl ([.ref a]) ++ List.replicate (1 - (lg_sl ([.ref a])).length) Slot.unset).toArray = ls at hl ⊢
  have hl : lv_has ls 1 [(0, .ref a)] := hl
  generalize hQ : MQ _ _ _ _ _ _ _ = Q
  refine lv_aload_n hx hb dX10_init_0 rfl (lv_at hl 0 rfl) ?_
  refine W.objInit hx hb hown (hts _ q1068) (hts _ q105) (hts _ q106) rfl (by rw [hml]; exact hl.1) rfl dX10_init_1 (Nat.le_of_ble_eq_true rfl) (Nat.le_of_ble_eq_true rfl) ?_
  refine W.eq (g2 := F0 m 4 ls []) rfl ?_
  refine lv_aload_n hx hb dX10_init_4 rfl (lv_at hl 0 rfl) ?_
  refine va_new (D := D) (ci := 15) (C := RJ2) (T := TJ2) (N := 3) hx hb hts in_J2 tyJ2 tyJ2_ok hown (hts _ q1069) (hts _ q110) (hts _ q65) hG.1 hP hD hS hA rfl (fs := [.int (nI 0), .null, .int (nI 0)]) (by decide) (Nat.le_of_ble_eq_true rfl) (Nat.le_of_ble_eq_true rfl) dX10_init_5 (fun q5 H hP hD hS => ?_)
  have hP : va_P D CL [(a, .inr (13, [.null])), (q5, .inr (15, [.int (nI 0), .null, .int (nI 0)]))] H := hP
  have hD : va_D A [(a, .inr (13, [.null])), (q5, .inr (15, [.int (nI 0), .null, .int (nI 0)]))] := hD
  refine lv_dup hx hb dX10_init_8 rfl ?_
  refine lv_iconst (v := nI 2) hx hb dX10_init_9 (by decide) ?_
  have hPs : va_P D CL ([(q5, .inr (15, [.int (nI 0), .null, .int (nI 0)]))] ++ [(a, .inr (13, [.null]))]) H := hP.sub [1, 0] rfl
  have hDs : va_D A ([(q5, .inr (15, [.int (nI 0), .null, .int (nI 0)]))] ++ [(a, .inr (13, [.null]))]) := hD.sub [1, 0] (by decide) rfl
  have hz9 := hS.1
  refine va_callv (va_runI (As := [.int (nI 2)]) (rest := [.ref q5, .ref a]) ⟨hx, hb, hml, hown, hts⟩ (c_J2_init_2 lh D dA H.size q5 2 (by decide) (by decide)) (cwI 1 hts (lw_meth q807) rfl rfl rfl (hts _ q65) (hts _ q1070) (hts _ q806) rfl (by decide +kernel) ⟨Nat.le_of_ble_eq_true rfl, Nat.le_of_ble_eq_true rfl⟩) ⟨PX.blind (Mv.and Mv.heap (Mv.and Mv.heap (Mv.and Mv.heap Mv.gk))), PX.pre (Mv.and Mv.heap (Mv.and Mv.heap (Mv.and Mv.heap Mv.gk))) ⟨rfl, (va_P_left hPs), (va_D_left hDs), hG⟩⟩ rfl rfl hl.1 rfl (lv_room (Nat.le_of_ble_eq_true rfl)) dX10_init_10 ⟨Nat.le_of_ble_eq_true rfl, by decide⟩) hS (fun q _ => (va_A_up hDs hA hS.1) q) ((va_A_up hDs hA hS.1)) (fun u t H1 locs ht hvm hp hB hz hk hS => ?_)
  generalize u = u10 at hp hB
  obtain ⟨hP1, hD1, -⟩ := hB
  rw [ht] at hP1
  obtain ⟨hP, hD⟩ := vp_join hPs hDs hP1 hD1 hk hA hz9
  clear ht hvm hz hk hP1 hD1 hPs hDs hz9
  generalize H1 = H at hP hS ⊢
  have hP : va_P D CL [(q5, .inr (15, [.int (nI 0), .ref u10, .int (nI 0)])), (u10, .inl (dA 4, 2, rfA (fun _ => none))), (a, .inr (13, [.null]))] H := hP
  have hD : va_D A [(q5, .inr (15, [.int (nI 0), .ref u10, .int (nI 0)])), (u10, .inl (dA 4, 2, rfA (fun _ => none))), (a, .inr (13, [.null]))] := hD
  refine va_putF (D := D) (ci := 13) (v := .ref q5) (C := RX16) (T := TX16) (N := 1) hx hb hts in_X16 tyX16 tyX16_ok nmX16 hown hG.1 hP hD hS 2 rfl rfl 0 (by decide) (hts _ q1071) (fun _ h => h) rfl hin rfl rfl (rfl) (rfl) (Nat.le_of_ble_eq_true rfl) dX10_init_13 (fun H locs hP hD hS => ?_)
  have hP : va_P D CL [(q5, .inr (15, [.int (nI 0), .ref u10, .int (nI 0)])), (u10, .inl (dA 4, 2, rfA (fun _ => none))), (a, .inr (13, [.ref q5]))] H := hP
  have hD : va_D A [(q5, .inr (15, [.int (nI 0), .ref u10, .int (nI 0)])), (u10, .inl (dA 4, 2, rfA (fun _ => none))), (a, .inr (13, [.ref q5]))] := hD
  subst hQ
  refine W.widen (k := 2) (n := 5) (by first | decide | omega) (by first | decide | omega) ?_
  have hP9 : va_P D CL [(a, .inr (13, [.ref q5])), (q5, .inr (15, [.int (nI 0), .ref u10, .int (nI 0)])), (u10, .inl (dA 4, 2, rfA (fun _ => none)))] H := hP.sub [2, 0, 1] rfl
  have hD9 : va_D A [(a, .inr (13, [.ref q5])), (q5, .inr (15, [.int (nI 0), .ref u10, .int (nI 0)])), (u10, .inl (dA 4, 2, rfA (fun _ => none)))] := hD.sub [2, 0, 1] (by decide) rfl
  exact W.vret hx hb hrt (fun t ht hW => ⟨⟨(q5, u10), rfl, trivial, by rw [ht]; exact hP9, hD9, GK.warm hW hG⟩, hS.F ht⟩) hS.2.2 dX10_init_16

abbrev r_X10_init_X17 : Room := { frames := 4, cells := 2, slots := 5, locals := 81 }
set_option maxHeartbeats 1000000 in
theorem c_X10_init_X17 (lh : Launch) (D : va_G) (dA : Nat → ClassId) (sz : Nat) (a : Nat) : Met lh yX10_init (ws_ yX10_init cX10_init 1 none) r_X10_init_X17 (PX (fun U H => H.size = sz ∧ va_P D CL [(a, .inr (14, [.null, .int (nI 0)]))] H ∧ va_D nT [(a, .inr (14, [.null, .int (nI 0)]))] ∧ GK D dA U) [.ref a]) (va_Qv (fun u : Nat × Nat => True) (fun (u : Nat × Nat) t => va_P D CL [(a, .inr (14, [.ref u.1, .int (nI 0)])), (u.1, .inr (15, [.int (nI 0), .ref u.2, .int (nI 0)])), (u.2, .inl (dA 4, 2, rfA (fun _ => none)))] t.heap ∧ va_D (va_A [(a, .inr (14, [.null, .int (nI 0)]))] sz) [(a, .inr (14, [.ref u.1, .int (nI 0)])), (u.1, .inr (15, [.int (nI 0), .ref u.2, .int (nI 0)])), (u.2, .inl (dA 4, 2, rfA (fun _ => none)))] ∧ GK D dA t) (va_A [(a, .inr (14, [.null, .int (nI 0)]))] sz)) 2 5 (va_A [(a, .inr (14, [.null, .int (nI 0)]))] sz) := by
  refine Met.ofW (cc := cX10_init) (maxL := 1) (ret := none) (by decide) rfl ?_
  intro p e s m args below meth cd s₁ B hml hv
  obtain ⟨hargs, hsz, hP, hD, hG⟩ := hv
  have hx := B.exec
  have hb := B.bytes
  have hrt := B.returns
  have hts := atoms_spec (ws := (ws_ yX10_init cX10_init 1 none)) B.pre
  have hts : ∀ w ∈ lw_all, w.before _ s = true := fun w h => hts w (List.mem_cons_of_mem _ h)
  have hown : s.vm.findClass RX10 = some m.cls := findClass_of_methodNamed B.named
  have hlocks := B.notSynchronized
  have hin : meth.name = "<init>" := (name_of_methodNamed B.named B.method).1
  subst hsz
  have hD := hD.self (sz := s.heap.size)
  have hA : ∀ q : Nat, s.heap.size ≤ q → va_A [(a, .inr (14, [.null, .int (nI 0)]))] s.heap.size q := fun q h => Or.inr h
  generalize va_A [(a, .inr (14, [.null, .int (nI 0)]))] s.heap.size = A at hD hA ⊢
  have hS : va_S A s.heap s.heap [] := va_S.rf
  have hE : entryFrame m args 1 = F0 m 0 ((lg_sl ([.ref a]) ++ List.replicate (1 - (lg_sl ([.ref a])).length) Slot.unset).toArray) [] := by rw [hargs]; exact lg_entry_eq m _ 1
  have hl := lv_entry ([.ref a]) (n := 1) (Nat.le_of_ble_eq_true rfl)
  rw [hE]
  clear hE
  generalize (lg_sl ([.ref a]) ++ List.replicate (1 - (lg_sl ([.ref a])).length) Slot.unset).toArray = ls at hl ⊢
  have hl : lv_has ls 1 [(0, .ref a)] := hl
  generalize hQ : MQ _ _ _ _ _ _ _ = Q
  refine lv_aload_n hx hb dX10_init_0 rfl (lv_at hl 0 rfl) ?_
  refine W.objInit hx hb hown (hts _ q1068) (hts _ q105) (hts _ q106) rfl (by rw [hml]; exact hl.1) rfl dX10_init_1 (Nat.le_of_ble_eq_true rfl) (Nat.le_of_ble_eq_true rfl) ?_
  refine W.eq (g2 := F0 m 4 ls []) rfl ?_
  refine lv_aload_n hx hb dX10_init_4 rfl (lv_at hl 0 rfl) ?_
  refine va_new (D := D) (ci := 15) (C := RJ2) (T := TJ2) (N := 3) hx hb hts in_J2 tyJ2 tyJ2_ok hown (hts _ q1069) (hts _ q110) (hts _ q65) hG.1 hP hD hS hA rfl (fs := [.int (nI 0), .null, .int (nI 0)]) (by decide) (Nat.le_of_ble_eq_true rfl) (Nat.le_of_ble_eq_true rfl) dX10_init_5 (fun q5 H hP hD hS => ?_)
  have hP : va_P D CL [(a, .inr (14, [.null, .int (nI 0)])), (q5, .inr (15, [.int (nI 0), .null, .int (nI 0)]))] H := hP
  have hD : va_D A [(a, .inr (14, [.null, .int (nI 0)])), (q5, .inr (15, [.int (nI 0), .null, .int (nI 0)]))] := hD
  refine lv_dup hx hb dX10_init_8 rfl ?_
  refine lv_iconst (v := nI 2) hx hb dX10_init_9 (by decide) ?_
  have hPs : va_P D CL ([(q5, .inr (15, [.int (nI 0), .null, .int (nI 0)]))] ++ [(a, .inr (14, [.null, .int (nI 0)]))]) H := hP.sub [1, 0] rfl
  have hDs : va_D A ([(q5, .inr (15, [.int (nI 0), .null, .int (nI 0)]))] ++ [(a, .inr (14, [.null, .int (nI 0)]))]) := hD.sub [1, 0] (by decide) rfl
  have hz9 := hS.1
  refine va_callv (va_runI (As := [.int (nI 2)]) (rest := [.ref q5, .ref a]) ⟨hx, hb, hml, hown, hts⟩ (c_J2_init_2 lh D dA H.size q5 2 (by decide) (by decide)) (cwI 1 hts (lw_meth q807) rfl rfl rfl (hts _ q65) (hts _ q1070) (hts _ q806) rfl (by decide +kernel) ⟨Nat.le_of_ble_eq_true rfl, Nat.le_of_ble_eq_true rfl⟩) ⟨PX.blind (Mv.and Mv.heap (Mv.and Mv.heap (Mv.and Mv.heap Mv.gk))), PX.pre (Mv.and Mv.heap (Mv.and Mv.heap (Mv.and Mv.heap Mv.gk))) ⟨rfl, (va_P_left hPs), (va_D_left hDs), hG⟩⟩ rfl rfl hl.1 rfl (lv_room (Nat.le_of_ble_eq_true rfl)) dX10_init_10 ⟨Nat.le_of_ble_eq_true rfl, by decide⟩) hS (fun q _ => (va_A_up hDs hA hS.1) q) ((va_A_up hDs hA hS.1)) (fun u t H1 locs ht hvm hp hB hz hk hS => ?_)
  generalize u = u10 at hp hB
  obtain ⟨hP1, hD1, -⟩ := hB
  rw [ht] at hP1
  obtain ⟨hP, hD⟩ := vp_join hPs hDs hP1 hD1 hk hA hz9
  clear ht hvm hz hk hP1 hD1 hPs hDs hz9
  generalize H1 = H at hP hS ⊢
  have hP : va_P D CL [(q5, .inr (15, [.int (nI 0), .ref u10, .int (nI 0)])), (u10, .inl (dA 4, 2, rfA (fun _ => none))), (a, .inr (14, [.null, .int (nI 0)]))] H := hP
  have hD : va_D A [(q5, .inr (15, [.int (nI 0), .ref u10, .int (nI 0)])), (u10, .inl (dA 4, 2, rfA (fun _ => none))), (a, .inr (14, [.null, .int (nI 0)]))] := hD
  refine va_putF (D := D) (ci := 14) (v := .ref q5) (C := RX17) (T := TX17) (N := 2) hx hb hts in_X17 tyX17 tyX17_ok nmX17 hown hG.1 hP hD hS 2 rfl rfl 0 (by decide) (hts _ q1071) (fun _ h => h) rfl hin rfl rfl (rfl) (rfl) (Nat.le_of_ble_eq_true rfl) dX10_init_13 (fun H locs hP hD hS => ?_)
  have hP : va_P D CL [(q5, .inr (15, [.int (nI 0), .ref u10, .int (nI 0)])), (u10, .inl (dA 4, 2, rfA (fun _ => none))), (a, .inr (14, [.ref q5, .int (nI 0)]))] H := hP
  have hD : va_D A [(q5, .inr (15, [.int (nI 0), .ref u10, .int (nI 0)])), (u10, .inl (dA 4, 2, rfA (fun _ => none))), (a, .inr (14, [.ref q5, .int (nI 0)]))] := hD
  subst hQ
  refine W.widen (k := 2) (n := 5) (by first | decide | omega) (by first | decide | omega) ?_
  have hP9 : va_P D CL [(a, .inr (14, [.ref q5, .int (nI 0)])), (q5, .inr (15, [.int (nI 0), .ref u10, .int (nI 0)])), (u10, .inl (dA 4, 2, rfA (fun _ => none)))] H := hP.sub [2, 0, 1] rfl
  have hD9 : va_D A [(a, .inr (14, [.ref q5, .int (nI 0)])), (q5, .inr (15, [.int (nI 0), .ref u10, .int (nI 0)])), (u10, .inl (dA 4, 2, rfA (fun _ => none)))] := hD.sub [2, 0, 1] (by decide) rfl
  exact W.vret hx hb hrt (fun t ht hW => ⟨⟨(q5, u10), rfl, trivial, by rw [ht]; exact hP9, hD9, GK.warm hW hG⟩, hS.F ht⟩) hS.2.2 dX10_init_16

abbrev r_X14_init_X15 : Room := { frames := 5, cells := 2, slots := 5, locals := 101 }
set_option maxHeartbeats 1000000 in
theorem c_X14_init_X15 (lh : Launch) (D : va_G) (dA : Nat → ClassId) (sz : Nat) (a : Nat) : Met lh yX14_init (ws_ yX14_init cX14_init 1 none) r_X14_init_X15 (PX (fun U H => H.size = sz ∧ va_P D CL [(a, .inr (12, [.null]))] H ∧ va_D nT [(a, .inr (12, [.null]))] ∧ GK D dA U) [.ref a]) (va_Qv (fun u : Nat × Nat => True) (fun (u : Nat × Nat) t => va_P D CL [(a, .inr (12, [.ref u.1])), (u.1, .inr (15, [.int (nI 0), .ref u.2, .int (nI 0)])), (u.2, .inl (dA 4, 2, rfA (fun _ => none)))] t.heap ∧ va_D (va_A [(a, .inr (12, [.null]))] sz) [(a, .inr (12, [.ref u.1])), (u.1, .inr (15, [.int (nI 0), .ref u.2, .int (nI 0)])), (u.2, .inl (dA 4, 2, rfA (fun _ => none)))] ∧ GK D dA t) (va_A [(a, .inr (12, [.null]))] sz)) 2 5 (va_A [(a, .inr (12, [.null]))] sz) := by
  refine Met.ofW (cc := cX14_init) (maxL := 1) (ret := none) (by decide) rfl ?_
  intro p e s m args below meth cd s₁ B hml hv
  obtain ⟨hargs, hsz, hP, hD, hG⟩ := hv
  have hx := B.exec
  have hb := B.bytes
  have hrt := B.returns
  have hts := atoms_spec (ws := (ws_ yX14_init cX14_init 1 none)) B.pre
  have hts : ∀ w ∈ lw_all, w.before _ s = true := fun w h => hts w (List.mem_cons_of_mem _ h)
  have hown : s.vm.findClass RX14 = some m.cls := findClass_of_methodNamed B.named
  have hlocks := B.notSynchronized
  have hin : meth.name = "<init>" := (name_of_methodNamed B.named B.method).1
  subst hsz
  have hD := hD.self (sz := s.heap.size)
  have hA : ∀ q : Nat, s.heap.size ≤ q → va_A [(a, .inr (12, [.null]))] s.heap.size q := fun q h => Or.inr h
  generalize va_A [(a, .inr (12, [.null]))] s.heap.size = A at hD hA ⊢
  have hS : va_S A s.heap s.heap [] := va_S.rf
  have hE : entryFrame m args 1 = F0 m 0 ((lg_sl ([.ref a]) ++ List.replicate (1 - (lg_sl ([.ref a])).length) Slot.unset).toArray) [] := by rw [hargs]; exact lg_entry_eq m _ 1
  have hl := lv_entry ([.ref a]) (n := 1) (Nat.le_of_ble_eq_true rfl)
  rw [hE]
  clear hE
  generalize (lg_sl ([.ref a]) ++ List.replicate (1 - (lg_sl ([.ref a])).length) Slot.unset).toArray = ls at hl ⊢
  have hl : lv_has ls 1 [(0, .ref a)] := hl
  generalize hQ : MQ _ _ _ _ _ _ _ = Q
  refine lv_aload_n hx hb dX14_init_0 rfl (lv_at hl 0 rfl) ?_
  have hPs : va_P D CL ([(a, .inr (12, [.null]))] ++ []) s.heap := hP.sub [0] rfl
  have hDs : va_D A ([(a, .inr (12, [.null]))] ++ []) := hD.sub [0] (by decide) rfl
  have hz9 := hS.1
  refine va_callv (va_runIN (As := []) (rest := []) ⟨hx, hb, hml, hown, hts⟩ (c_X10_init_X15 lh D dA s.heap.size a) ⟨(va_cnB 0 hts (lw_meth q1067) rfl rfl rfl (hG.2.1 _ q1100 rfl) (hts _ q90) (by decide +kernel) ⟨Nat.le_of_ble_eq_true rfl, Nat.le_of_ble_eq_true rfl⟩), rfl, hts _ q1066⟩ ⟨PX.blind (Mv.and Mv.heap (Mv.and Mv.heap (Mv.and Mv.heap Mv.gk))), PX.pre (Mv.and Mv.heap (Mv.and Mv.heap (Mv.and Mv.heap Mv.gk))) ⟨rfl, (va_P_left hPs), (va_D_left hDs), hG⟩⟩ rfl rfl hl.1 rfl (lv_room (Nat.le_of_ble_eq_true rfl)) dX14_init_1 ⟨Nat.le_of_ble_eq_true rfl, Nat.le_of_ble_eq_true rfl⟩) hS (fun q _ => (va_A_up hDs hA hS.1) q) ((va_A_up hDs hA hS.1)) (fun u t H1 locs ht hvm hp hB hz hk hS => ?_)
  obtain ⟨u1_0, u1_1⟩ := u
  obtain ⟨hP1, hD1, -⟩ := hB
  rw [ht] at hP1
  obtain ⟨hP, hD⟩ := vp_join hPs hDs hP1 hD1 hk hA hz9
  clear ht hvm hz hk hP1 hD1 hPs hDs hz9
  generalize H1 = H at hP hS ⊢
  have hP : va_P D CL [(a, .inr (12, [.ref u1_0])), (u1_0, .inr (15, [.int (nI 0), .ref u1_1, .int (nI 0)])), (u1_1, .inl (dA 4, 2, rfA (fun _ => none)))] H := hP
  have hD : va_D A [(a, .inr (12, [.ref u1_0])), (u1_0, .inr (15, [.int (nI 0), .ref u1_1, .int (nI 0)])), (u1_1, .inl (dA 4, 2, rfA (fun _ => none)))] := hD
  subst hQ
  have hP9 : va_P D CL [(a, .inr (12, [.ref u1_0])), (u1_0, .inr (15, [.int (nI 0), .ref u1_1, .int (nI 0)])), (u1_1, .inl (dA 4, 2, rfA (fun _ => none)))] H := hP.sub [0, 1, 2] rfl
  have hD9 : va_D A [(a, .inr (12, [.ref u1_0])), (u1_0, .inr (15, [.int (nI 0), .ref u1_1, .int (nI 0)])), (u1_1, .inl (dA 4, 2, rfA (fun _ => none)))] := hD.sub [0, 1, 2] (by decide) rfl
  exact W.vret hx hb hrt (fun t ht hW => ⟨⟨(u1_0, u1_1), rfl, trivial, by rw [ht]; exact hP9, hD9, GK.warm hW hG⟩, hS.F ht⟩) hS.2.2 dX14_init_4

abbrev r_X14_init_X16 : Room := { frames := 5, cells := 2, slots := 5, locals := 101 }
set_option maxHeartbeats 1000000 in
theorem c_X14_init_X16 (lh : Launch) (D : va_G) (dA : Nat → ClassId) (sz : Nat) (a : Nat) : Met lh yX14_init (ws_ yX14_init cX14_init 1 none) r_X14_init_X16 (PX (fun U H => H.size = sz ∧ va_P D CL [(a, .inr (13, [.null]))] H ∧ va_D nT [(a, .inr (13, [.null]))] ∧ GK D dA U) [.ref a]) (va_Qv (fun u : Nat × Nat => True) (fun (u : Nat × Nat) t => va_P D CL [(a, .inr (13, [.ref u.1])), (u.1, .inr (15, [.int (nI 0), .ref u.2, .int (nI 0)])), (u.2, .inl (dA 4, 2, rfA (fun _ => none)))] t.heap ∧ va_D (va_A [(a, .inr (13, [.null]))] sz) [(a, .inr (13, [.ref u.1])), (u.1, .inr (15, [.int (nI 0), .ref u.2, .int (nI 0)])), (u.2, .inl (dA 4, 2, rfA (fun _ => none)))] ∧ GK D dA t) (va_A [(a, .inr (13, [.null]))] sz)) 2 5 (va_A [(a, .inr (13, [.null]))] sz) := by
  refine Met.ofW (cc := cX14_init) (maxL := 1) (ret := none) (by decide) rfl ?_
  intro p e s m args below meth cd s₁ B hml hv
  obtain ⟨hargs, hsz, hP, hD, hG⟩ := hv
  have hx := B.exec
  have hb := B.bytes
  have hrt := B.returns
  have hts := atoms_spec (ws := (ws_ yX14_init cX14_init 1 none)) B.pre
  have hts : ∀ w ∈ lw_all, w.before _ s = true := fun w h => hts w (List.mem_cons_of_mem _ h)
  have hown : s.vm.findClass RX14 = some m.cls := findClass_of_methodNamed B.named
  have hlocks := B.notSynchronized
  have hin : meth.name = "<init>" := (name_of_methodNamed B.named B.method).1
  subst hsz
  have hD := hD.self (sz := s.heap.size)
  have hA : ∀ q : Nat, s.heap.size ≤ q → va_A [(a, .inr (13, [.null]))] s.heap.size q := fun q h => Or.inr h
  generalize va_A [(a, .inr (13, [.null]))] s.heap.size = A at hD hA ⊢
  have hS : va_S A s.heap s.heap [] := va_S.rf
  have hE : entryFrame m args 1 = F0 m 0 ((lg_sl ([.ref a]) ++ List.replicate (1 - (lg_sl ([.ref a])).length) Slot.unset).toArray) [] := by rw [hargs]; exact lg_entry_eq m _ 1
  have hl := lv_entry ([.ref a]) (n := 1) (Nat.le_of_ble_eq_true rfl)
  rw [hE]
  clear hE
  generalize (lg_sl ([.ref a]) ++ List.replicate (1 - (lg_sl ([.ref a])).length) Slot.unset).toArray = ls at hl ⊢
  have hl : lv_has ls 1 [(0, .ref a)] := hl
  generalize hQ : MQ _ _ _ _ _ _ _ = Q
  refine lv_aload_n hx hb dX14_init_0 rfl (lv_at hl 0 rfl) ?_
  have hPs : va_P D CL ([(a, .inr (13, [.null]))] ++ []) s.heap := hP.sub [0] rfl
  have hDs : va_D A ([(a, .inr (13, [.null]))] ++ []) := hD.sub [0] (by decide) rfl
  have hz9 := hS.1
  refine va_callv (va_runIN (As := []) (rest := []) ⟨hx, hb, hml, hown, hts⟩ (c_X10_init_X16 lh D dA s.heap.size a) ⟨(va_cnB 0 hts (lw_meth q1067) rfl rfl rfl (hG.2.1 _ q1100 rfl) (hts _ q90) (by decide +kernel) ⟨Nat.le_of_ble_eq_true rfl, Nat.le_of_ble_eq_true rfl⟩), rfl, hts _ q1066⟩ ⟨PX.blind (Mv.and Mv.heap (Mv.and Mv.heap (Mv.and Mv.heap Mv.gk))), PX.pre (Mv.and Mv.heap (Mv.and Mv.heap (Mv.and Mv.heap Mv.gk))) ⟨rfl, (va_P_left hPs), (va_D_left hDs), hG⟩⟩ rfl rfl hl.1 rfl (lv_room (Nat.le_of_ble_eq_true rfl)) dX14_init_1 ⟨Nat.le_of_ble_eq_true rfl, Nat.le_of_ble_eq_true rfl⟩) hS (fun q _ => (va_A_up hDs hA hS.1) q) ((va_A_up hDs hA hS.1)) (fun u t H1 locs ht hvm hp hB hz hk hS => ?_)
  obtain ⟨u1_0, u1_1⟩ := u
  obtain ⟨hP1, hD1, -⟩ := hB
  rw [ht] at hP1
  obtain ⟨hP, hD⟩ := vp_join hPs hDs hP1 hD1 hk hA hz9
  clear ht hvm hz hk hP1 hD1 hPs hDs hz9
  generalize H1 = H at hP hS ⊢
  have hP : va_P D CL [(a, .inr (13, [.ref u1_0])), (u1_0, .inr (15, [.int (nI 0), .ref u1_1, .int (nI 0)])), (u1_1, .inl (dA 4, 2, rfA (fun _ => none)))] H := hP
  have hD : va_D A [(a, .inr (13, [.ref u1_0])), (u1_0, .inr (15, [.int (nI 0), .ref u1_1, .int (nI 0)])), (u1_1, .inl (dA 4, 2, rfA (fun _ => none)))] := hD
  subst hQ
  have hP9 : va_P D CL [(a, .inr (13, [.ref u1_0])), (u1_0, .inr (15, [.int (nI 0), .ref u1_1, .int (nI 0)])), (u1_1, .inl (dA 4, 2, rfA (fun _ => none)))] H := hP.sub [0, 1, 2] rfl
  have hD9 : va_D A [(a, .inr (13, [.ref u1_0])), (u1_0, .inr (15, [.int (nI 0), .ref u1_1, .int (nI 0)])), (u1_1, .inl (dA 4, 2, rfA (fun _ => none)))] := hD.sub [0, 1, 2] (by decide) rfl
  exact W.vret hx hb hrt (fun t ht hW => ⟨⟨(u1_0, u1_1), rfl, trivial, by rw [ht]; exact hP9, hD9, GK.warm hW hG⟩, hS.F ht⟩) hS.2.2 dX14_init_4

abbrev r_X11_init : Room := { frames := 5, cells := 2, slots := 5, locals := 101 }
set_option maxHeartbeats 1000000 in
theorem c_X11_init (lh : Launch) (D : va_G) (dA : Nat → ClassId) (sz : Nat) (a : Nat) : Met lh yX11_init (ws_ yX11_init cX11_init 1 none) r_X11_init (PX (fun U H => H.size = sz ∧ va_P D CL [(a, .inr (9, [.null]))] H ∧ va_D nT [(a, .inr (9, [.null]))] ∧ GK D dA U) [.ref a]) (va_Qv (fun u : Nat × Nat => True) (fun (u : Nat × Nat) t => va_P D CL [(a, .inr (9, [.ref u.1])), (u.1, .inr (15, [.int (nI 0), .ref u.2, .int (nI 0)])), (u.2, .inl (dA 4, 2, rfA (fun _ => none)))] t.heap ∧ va_D (va_A [(a, .inr (9, [.null]))] sz) [(a, .inr (9, [.ref u.1])), (u.1, .inr (15, [.int (nI 0), .ref u.2, .int (nI 0)])), (u.2, .inl (dA 4, 2, rfA (fun _ => none)))] ∧ GK D dA t) (va_A [(a, .inr (9, [.null]))] sz)) 2 5 (va_A [(a, .inr (9, [.null]))] sz) := by
  refine Met.ofW (cc := cX11_init) (maxL := 1) (ret := none) (by decide) rfl ?_
  intro p e s m args below meth cd s₁ B hml hv
  obtain ⟨hargs, hsz, hP, hD, hG⟩ := hv
  have hx := B.exec
  have hb := B.bytes
  have hrt := B.returns
  have hts := atoms_spec (ws := (ws_ yX11_init cX11_init 1 none)) B.pre
  have hts : ∀ w ∈ lw_all, w.before _ s = true := fun w h => hts w (List.mem_cons_of_mem _ h)
  have hown : s.vm.findClass RX11 = some m.cls := findClass_of_methodNamed B.named
  have hlocks := B.notSynchronized
  have hin : meth.name = "<init>" := (name_of_methodNamed B.named B.method).1
  subst hsz
  have hD := hD.self (sz := s.heap.size)
  have hA : ∀ q : Nat, s.heap.size ≤ q → va_A [(a, .inr (9, [.null]))] s.heap.size q := fun q h => Or.inr h
  generalize va_A [(a, .inr (9, [.null]))] s.heap.size = A at hD hA ⊢
  have hS : va_S A s.heap s.heap [] := va_S.rf
  have hE : entryFrame m args 1 = F0 m 0 ((lg_sl ([.ref a]) ++ List.replicate (1 - (lg_sl ([.ref a])).length) Slot.unset).toArray) [] := by rw [hargs]; exact lg_entry_eq m _ 1
  have hl := lv_entry ([.ref a]) (n := 1) (Nat.le_of_ble_eq_true rfl)
  rw [hE]
  clear hE
  generalize (lg_sl ([.ref a]) ++ List.replicate (1 - (lg_sl ([.ref a])).length) Slot.unset).toArray = ls at hl ⊢
  have hl : lv_has ls 1 [(0, .ref a)] := hl
  generalize hQ : MQ _ _ _ _ _ _ _ = Q
  refine lv_aload_n hx hb dX11_init_0 rfl (lv_at hl 0 rfl) ?_
  have hPs : va_P D CL ([(a, .inr (9, [.null]))] ++ []) s.heap := hP.sub [0] rfl
  have hDs : va_D A ([(a, .inr (9, [.null]))] ++ []) := hD.sub [0] (by decide) rfl
  have hz9 := hS.1
  refine va_callv (va_runIN (As := []) (rest := []) ⟨hx, hb, hml, hown, hts⟩ (c_X10_init_X11 lh D dA s.heap.size a) ⟨(va_cnB 0 hts (lw_meth q1067) rfl rfl rfl (hG.2.1 _ q1065 rfl) (hts _ q90) (by decide +kernel) ⟨Nat.le_of_ble_eq_true rfl, Nat.le_of_ble_eq_true rfl⟩), rfl, hts _ q1066⟩ ⟨PX.blind (Mv.and Mv.heap (Mv.and Mv.heap (Mv.and Mv.heap Mv.gk))), PX.pre (Mv.and Mv.heap (Mv.and Mv.heap (Mv.and Mv.heap Mv.gk))) ⟨rfl, (va_P_left hPs), (va_D_left hDs), hG⟩⟩ rfl rfl hl.1 rfl (lv_room (Nat.le_of_ble_eq_true rfl)) dX11_init_1 ⟨Nat.le_of_ble_eq_true rfl, Nat.le_of_ble_eq_true rfl⟩) hS (fun q _ => (va_A_up hDs hA hS.1) q) ((va_A_up hDs hA hS.1)) (fun u t H1 locs ht hvm hp hB hz hk hS => ?_)
  obtain ⟨u1_0, u1_1⟩ := u
  obtain ⟨hP1, hD1, -⟩ := hB
  rw [ht] at hP1
  obtain ⟨hP, hD⟩ := vp_join hPs hDs hP1 hD1 hk hA hz9
  clear ht hvm hz hk hP1 hD1 hPs hDs hz9
  generalize H1 = H at hP hS ⊢
  have hP : va_P D CL [(a, .inr (9, [.ref u1_0])), (u1_0, .inr (15, [.int (nI 0), .ref u1_1, .int (nI 0)])), (u1_1, .inl (dA 4, 2, rfA (fun _ => none)))] H := hP
  have hD : va_D A [(a, .inr (9, [.ref u1_0])), (u1_0, .inr (15, [.int (nI 0), .ref u1_1, .int (nI 0)])), (u1_1, .inl (dA 4, 2, rfA (fun _ => none)))] := hD
  subst hQ
  have hP9 : va_P D CL [(a, .inr (9, [.ref u1_0])), (u1_0, .inr (15, [.int (nI 0), .ref u1_1, .int (nI 0)])), (u1_1, .inl (dA 4, 2, rfA (fun _ => none)))] H := hP.sub [0, 1, 2] rfl
  have hD9 : va_D A [(a, .inr (9, [.ref u1_0])), (u1_0, .inr (15, [.int (nI 0), .ref u1_1, .int (nI 0)])), (u1_1, .inl (dA 4, 2, rfA (fun _ => none)))] := hD.sub [0, 1, 2] (by decide) rfl
  exact W.vret hx hb hrt (fun t ht hW => ⟨⟨(u1_0, u1_1), rfl, trivial, by rw [ht]; exact hP9, hD9, GK.warm hW hG⟩, hS.F ht⟩) hS.2.2 dX11_init_4

abbrev r_X12_init : Room := { frames := 5, cells := 2, slots := 5, locals := 101 }
set_option maxHeartbeats 1000000 in
theorem c_X12_init (lh : Launch) (D : va_G) (dA : Nat → ClassId) (sz : Nat) (a : Nat) : Met lh yX12_init (ws_ yX12_init cX12_init 1 none) r_X12_init (PX (fun U H => H.size = sz ∧ va_P D CL [(a, .inr (10, [.null]))] H ∧ va_D nT [(a, .inr (10, [.null]))] ∧ GK D dA U) [.ref a]) (va_Qv (fun u : Nat × Nat => True) (fun (u : Nat × Nat) t => va_P D CL [(a, .inr (10, [.ref u.1])), (u.1, .inr (15, [.int (nI 0), .ref u.2, .int (nI 0)])), (u.2, .inl (dA 4, 2, rfA (fun _ => none)))] t.heap ∧ va_D (va_A [(a, .inr (10, [.null]))] sz) [(a, .inr (10, [.ref u.1])), (u.1, .inr (15, [.int (nI 0), .ref u.2, .int (nI 0)])), (u.2, .inl (dA 4, 2, rfA (fun _ => none)))] ∧ GK D dA t) (va_A [(a, .inr (10, [.null]))] sz)) 2 5 (va_A [(a, .inr (10, [.null]))] sz) := by
  refine Met.ofW (cc := cX12_init) (maxL := 1) (ret := none) (by decide) rfl ?_
  intro p e s m args below meth cd s₁ B hml hv
  obtain ⟨hargs, hsz, hP, hD, hG⟩ := hv
  have hx := B.exec
  have hb := B.bytes
  have hrt := B.returns
  have hts := atoms_spec (ws := (ws_ yX12_init cX12_init 1 none)) B.pre
  have hts : ∀ w ∈ lw_all, w.before _ s = true := fun w h => hts w (List.mem_cons_of_mem _ h)
  have hown : s.vm.findClass RX12 = some m.cls := findClass_of_methodNamed B.named
  have hlocks := B.notSynchronized
  have hin : meth.name = "<init>" := (name_of_methodNamed B.named B.method).1
  subst hsz
  have hD := hD.self (sz := s.heap.size)
  have hA : ∀ q : Nat, s.heap.size ≤ q → va_A [(a, .inr (10, [.null]))] s.heap.size q := fun q h => Or.inr h
  generalize va_A [(a, .inr (10, [.null]))] s.heap.size = A at hD hA ⊢
  have hS : va_S A s.heap s.heap [] := va_S.rf
  have hE : entryFrame m args 1 = F0 m 0 ((lg_sl ([.ref a]) ++ List.replicate (1 - (lg_sl ([.ref a])).length) Slot.unset).toArray) [] := by rw [hargs]; exact lg_entry_eq m _ 1
  have hl := lv_entry ([.ref a]) (n := 1) (Nat.le_of_ble_eq_true rfl)
  rw [hE]
  clear hE
  generalize (lg_sl ([.ref a]) ++ List.replicate (1 - (lg_sl ([.ref a])).length) Slot.unset).toArray = ls at hl ⊢
  have hl : lv_has ls 1 [(0, .ref a)] := hl
  generalize hQ : MQ _ _ _ _ _ _ _ = Q
  refine lv_aload_n hx hb dX12_init_0 rfl (lv_at hl 0 rfl) ?_
  have hPs : va_P D CL ([(a, .inr (10, [.null]))] ++ []) s.heap := hP.sub [0] rfl
  have hDs : va_D A ([(a, .inr (10, [.null]))] ++ []) := hD.sub [0] (by decide) rfl
  have hz9 := hS.1
  refine va_callv (va_runIN (As := []) (rest := []) ⟨hx, hb, hml, hown, hts⟩ (c_X10_init_X12 lh D dA s.heap.size a) ⟨(va_cnB 0 hts (lw_meth q1067) rfl rfl rfl (hG.2.1 _ q1081 rfl) (hts _ q90) (by decide +kernel) ⟨Nat.le_of_ble_eq_true rfl, Nat.le_of_ble_eq_true rfl⟩), rfl, hts _ q1066⟩ ⟨PX.blind (Mv.and Mv.heap (Mv.and Mv.heap (Mv.and Mv.heap Mv.gk))), PX.pre (Mv.and Mv.heap (Mv.and Mv.heap (Mv.and Mv.heap Mv.gk))) ⟨rfl, (va_P_left hPs), (va_D_left hDs), hG⟩⟩ rfl rfl hl.1 rfl (lv_room (Nat.le_of_ble_eq_true rfl)) dX12_init_1 ⟨Nat.le_of_ble_eq_true rfl, Nat.le_of_ble_eq_true rfl⟩) hS (fun q _ => (va_A_up hDs hA hS.1) q) ((va_A_up hDs hA hS.1)) (fun u t H1 locs ht hvm hp hB hz hk hS => ?_)
  obtain ⟨u1_0, u1_1⟩ := u
  obtain ⟨hP1, hD1, -⟩ := hB
  rw [ht] at hP1
  obtain ⟨hP, hD⟩ := vp_join hPs hDs hP1 hD1 hk hA hz9
  clear ht hvm hz hk hP1 hD1 hPs hDs hz9
  generalize H1 = H at hP hS ⊢
  have hP : va_P D CL [(a, .inr (10, [.ref u1_0])), (u1_0, .inr (15, [.int (nI 0), .ref u1_1, .int (nI 0)])), (u1_1, .inl (dA 4, 2, rfA (fun _ => none)))] H := hP
  have hD : va_D A [(a, .inr (10, [.ref u1_0])), (u1_0, .inr (15, [.int (nI 0), .ref u1_1, .int (nI 0)])), (u1_1, .inl (dA 4, 2, rfA (fun _ => none)))] := hD
  subst hQ
  have hP9 : va_P D CL [(a, .inr (10, [.ref u1_0])), (u1_0, .inr (15, [.int (nI 0), .ref u1_1, .int (nI 0)])), (u1_1, .inl (dA 4, 2, rfA (fun _ => none)))] H := hP.sub [0, 1, 2] rfl
  have hD9 : va_D A [(a, .inr (10, [.ref u1_0])), (u1_0, .inr (15, [.int (nI 0), .ref u1_1, .int (nI 0)])), (u1_1, .inl (dA 4, 2, rfA (fun _ => none)))] := hD.sub [0, 1, 2] (by decide) rfl
  exact W.vret hx hb hrt (fun t ht hW => ⟨⟨(u1_0, u1_1), rfl, trivial, by rw [ht]; exact hP9, hD9, GK.warm hW hG⟩, hS.F ht⟩) hS.2.2 dX12_init_4

abbrev r_X13_init : Room := { frames := 5, cells := 2, slots := 5, locals := 101 }
set_option maxHeartbeats 1000000 in
theorem c_X13_init (lh : Launch) (D : va_G) (dA : Nat → ClassId) (sz : Nat) (a : Nat) : Met lh yX13_init (ws_ yX13_init cX13_init 1 none) r_X13_init (PX (fun U H => H.size = sz ∧ va_P D CL [(a, .inr (11, [.null]))] H ∧ va_D nT [(a, .inr (11, [.null]))] ∧ GK D dA U) [.ref a]) (va_Qv (fun u : Nat × Nat => True) (fun (u : Nat × Nat) t => va_P D CL [(a, .inr (11, [.ref u.1])), (u.1, .inr (15, [.int (nI 0), .ref u.2, .int (nI 0)])), (u.2, .inl (dA 4, 2, rfA (fun _ => none)))] t.heap ∧ va_D (va_A [(a, .inr (11, [.null]))] sz) [(a, .inr (11, [.ref u.1])), (u.1, .inr (15, [.int (nI 0), .ref u.2, .int (nI 0)])), (u.2, .inl (dA 4, 2, rfA (fun _ => none)))] ∧ GK D dA t) (va_A [(a, .inr (11, [.null]))] sz)) 2 5 (va_A [(a, .inr (11, [.null]))] sz) := by
  refine Met.ofW (cc := cX13_init) (maxL := 1) (ret := none) (by decide) rfl ?_
  intro p e s m args below meth cd s₁ B hml hv
  obtain ⟨hargs, hsz, hP, hD, hG⟩ := hv
  have hx := B.exec
  have hb := B.bytes
  have hrt := B.returns
  have hts := atoms_spec (ws := (ws_ yX13_init cX13_init 1 none)) B.pre
  have hts : ∀ w ∈ lw_all, w.before _ s = true := fun w h => hts w (List.mem_cons_of_mem _ h)
  have hown : s.vm.findClass RX13 = some m.cls := findClass_of_methodNamed B.named
  have hlocks := B.notSynchronized
  have hin : meth.name = "<init>" := (name_of_methodNamed B.named B.method).1
  subst hsz
  have hD := hD.self (sz := s.heap.size)
  have hA : ∀ q : Nat, s.heap.size ≤ q → va_A [(a, .inr (11, [.null]))] s.heap.size q := fun q h => Or.inr h
  generalize va_A [(a, .inr (11, [.null]))] s.heap.size = A at hD hA ⊢
  have hS : va_S A s.heap s.heap [] := va_S.rf
  have hE : entryFrame m args 1 = F0 m 0 ((lg_sl ([.ref a]) ++ List.replicate (1 - (lg_sl ([.ref a])).length) Slot.unset).toArray) [] := by rw [hargs]; exact lg_entry_eq m _ 1
  have hl := lv_entry ([.ref a]) (n := 1) (Nat.le_of_ble_eq_true rfl)
  rw [hE]
  clear hE
  generalize (lg_sl ([.ref a]) ++ List.replicate (1 - (lg_sl ([.ref a])).length) Slot.unset).toArray = ls at hl ⊢
  have hl : lv_has ls 1 [(0, .ref a)] := hl
  generalize hQ : MQ _ _ _ _ _ _ _ = Q
  refine lv_aload_n hx hb dX13_init_0 rfl (lv_at hl 0 rfl) ?_
  have hPs : va_P D CL ([(a, .inr (11, [.null]))] ++ []) s.heap := hP.sub [0] rfl
  have hDs : va_D A ([(a, .inr (11, [.null]))] ++ []) := hD.sub [0] (by decide) rfl
  have hz9 := hS.1
  refine va_callv (va_runIN (As := []) (rest := []) ⟨hx, hb, hml, hown, hts⟩ (c_X10_init_X13 lh D dA s.heap.size a) ⟨(va_cnB 0 hts (lw_meth q1067) rfl rfl rfl (hG.2.1 _ q1089 rfl) (hts _ q90) (by decide +kernel) ⟨Nat.le_of_ble_eq_true rfl, Nat.le_of_ble_eq_true rfl⟩), rfl, hts _ q1066⟩ ⟨PX.blind (Mv.and Mv.heap (Mv.and Mv.heap (Mv.and Mv.heap Mv.gk))), PX.pre (Mv.and Mv.heap (Mv.and Mv.heap (Mv.and Mv.heap Mv.gk))) ⟨rfl, (va_P_left hPs), (va_D_left hDs), hG⟩⟩ rfl rfl hl.1 rfl (lv_room (Nat.le_of_ble_eq_true rfl)) dX13_init_1 ⟨Nat.le_of_ble_eq_true rfl, Nat.le_of_ble_eq_true rfl⟩) hS (fun q _ => (va_A_up hDs hA hS.1) q) ((va_A_up hDs hA hS.1)) (fun u t H1 locs ht hvm hp hB hz hk hS => ?_)
  obtain ⟨u1_0, u1_1⟩ := u
  obtain ⟨hP1, hD1, -⟩ := hB
  rw [ht] at hP1
  obtain ⟨hP, hD⟩ := vp_join hPs hDs hP1 hD1 hk hA hz9
  clear ht hvm hz hk hP1 hD1 hPs hDs hz9
  generalize H1 = H at hP hS ⊢
  have hP : va_P D CL [(a, .inr (11, [.ref u1_0])), (u1_0, .inr (15, [.int (nI 0), .ref u1_1, .int (nI 0)])), (u1_1, .inl (dA 4, 2, rfA (fun _ => none)))] H := hP
  have hD : va_D A [(a, .inr (11, [.ref u1_0])), (u1_0, .inr (15, [.int (nI 0), .ref u1_1, .int (nI 0)])), (u1_1, .inl (dA 4, 2, rfA (fun _ => none)))] := hD
  subst hQ
  have hP9 : va_P D CL [(a, .inr (11, [.ref u1_0])), (u1_0, .inr (15, [.int (nI 0), .ref u1_1, .int (nI 0)])), (u1_1, .inl (dA 4, 2, rfA (fun _ => none)))] H := hP.sub [0, 1, 2] rfl
  have hD9 : va_D A [(a, .inr (11, [.ref u1_0])), (u1_0, .inr (15, [.int (nI 0), .ref u1_1, .int (nI 0)])), (u1_1, .inl (dA 4, 2, rfA (fun _ => none)))] := hD.sub [0, 1, 2] (by decide) rfl
  exact W.vret hx hb hrt (fun t ht hW => ⟨⟨(u1_0, u1_1), rfl, trivial, by rw [ht]; exact hP9, hD9, GK.warm hW hG⟩, hS.F ht⟩) hS.2.2 dX13_init_4

abbrev r_X15_init : Room := { frames := 6, cells := 2, slots := 5, locals := 121 }
set_option maxHeartbeats 1000000 in
theorem c_X15_init (lh : Launch) (D : va_G) (dA : Nat → ClassId) (sz : Nat) (a : Nat) : Met lh yX15_init (ws_ yX15_init cX15_init 1 none) r_X15_init (PX (fun U H => H.size = sz ∧ va_P D CL [(a, .inr (12, [.null]))] H ∧ va_D nT [(a, .inr (12, [.null]))] ∧ GK D dA U) [.ref a]) (va_Qv (fun u : Nat × Nat => True) (fun (u : Nat × Nat) t => va_P D CL [(a, .inr (12, [.ref u.1])), (u.1, .inr (15, [.int (nI 0), .ref u.2, .int (nI 0)])), (u.2, .inl (dA 4, 2, rfA (fun _ => none)))] t.heap ∧ va_D (va_A [(a, .inr (12, [.null]))] sz) [(a, .inr (12, [.ref u.1])), (u.1, .inr (15, [.int (nI 0), .ref u.2, .int (nI 0)])), (u.2, .inl (dA 4, 2, rfA (fun _ => none)))] ∧ GK D dA t) (va_A [(a, .inr (12, [.null]))] sz)) 2 5 (va_A [(a, .inr (12, [.null]))] sz) := by
  refine Met.ofW (cc := cX15_init) (maxL := 1) (ret := none) (by decide) rfl ?_
  intro p e s m args below meth cd s₁ B hml hv
  obtain ⟨hargs, hsz, hP, hD, hG⟩ := hv
  have hx := B.exec
  have hb := B.bytes
  have hrt := B.returns
  have hts := atoms_spec (ws := (ws_ yX15_init cX15_init 1 none)) B.pre
  have hts : ∀ w ∈ lw_all, w.before _ s = true := fun w h => hts w (List.mem_cons_of_mem _ h)
  have hown : s.vm.findClass RX15 = some m.cls := findClass_of_methodNamed B.named
  have hlocks := B.notSynchronized
  have hin : meth.name = "<init>" := (name_of_methodNamed B.named B.method).1
  subst hsz
  have hD := hD.self (sz := s.heap.size)
  have hA : ∀ q : Nat, s.heap.size ≤ q → va_A [(a, .inr (12, [.null]))] s.heap.size q := fun q h => Or.inr h
  generalize va_A [(a, .inr (12, [.null]))] s.heap.size = A at hD hA ⊢
  have hS : va_S A s.heap s.heap [] := va_S.rf
  have hE : entryFrame m args 1 = F0 m 0 ((lg_sl ([.ref a]) ++ List.replicate (1 - (lg_sl ([.ref a])).length) Slot.unset).toArray) [] := by rw [hargs]; exact lg_entry_eq m _ 1
  have hl := lv_entry ([.ref a]) (n := 1) (Nat.le_of_ble_eq_true rfl)
  rw [hE]
  clear hE
  generalize (lg_sl ([.ref a]) ++ List.replicate (1 - (lg_sl ([.ref a])).length) Slot.unset).toArray = ls at hl ⊢
  have hl : lv_has ls 1 [(0, .ref a)] := hl
  generalize hQ : MQ _ _ _ _ _ _ _ = Q
  refine lv_aload_n hx hb dX15_init_0 rfl (lv_at hl 0 rfl) ?_
  have hPs : va_P D CL ([(a, .inr (12, [.null]))] ++ []) s.heap := hP.sub [0] rfl
  have hDs : va_D A ([(a, .inr (12, [.null]))] ++ []) := hD.sub [0] (by decide) rfl
  have hz9 := hS.1
  refine va_callv (va_runIN (As := []) (rest := []) ⟨hx, hb, hml, hown, hts⟩ (c_X14_init_X15 lh D dA s.heap.size a) ⟨(va_cnB 0 hts (lw_meth q1099) rfl rfl rfl (hG.2.1 _ q1097 rfl) (hts _ q94) (by decide +kernel) ⟨Nat.le_of_ble_eq_true rfl, Nat.le_of_ble_eq_true rfl⟩), rfl, hts _ q1098⟩ ⟨PX.blind (Mv.and Mv.heap (Mv.and Mv.heap (Mv.and Mv.heap Mv.gk))), PX.pre (Mv.and Mv.heap (Mv.and Mv.heap (Mv.and Mv.heap Mv.gk))) ⟨rfl, (va_P_left hPs), (va_D_left hDs), hG⟩⟩ rfl rfl hl.1 rfl (lv_room (Nat.le_of_ble_eq_true rfl)) dX15_init_1 ⟨Nat.le_of_ble_eq_true rfl, Nat.le_of_ble_eq_true rfl⟩) hS (fun q _ => (va_A_up hDs hA hS.1) q) ((va_A_up hDs hA hS.1)) (fun u t H1 locs ht hvm hp hB hz hk hS => ?_)
  obtain ⟨u1_0, u1_1⟩ := u
  obtain ⟨hP1, hD1, -⟩ := hB
  rw [ht] at hP1
  obtain ⟨hP, hD⟩ := vp_join hPs hDs hP1 hD1 hk hA hz9
  clear ht hvm hz hk hP1 hD1 hPs hDs hz9
  generalize H1 = H at hP hS ⊢
  have hP : va_P D CL [(a, .inr (12, [.ref u1_0])), (u1_0, .inr (15, [.int (nI 0), .ref u1_1, .int (nI 0)])), (u1_1, .inl (dA 4, 2, rfA (fun _ => none)))] H := hP
  have hD : va_D A [(a, .inr (12, [.ref u1_0])), (u1_0, .inr (15, [.int (nI 0), .ref u1_1, .int (nI 0)])), (u1_1, .inl (dA 4, 2, rfA (fun _ => none)))] := hD
  subst hQ
  have hP9 : va_P D CL [(a, .inr (12, [.ref u1_0])), (u1_0, .inr (15, [.int (nI 0), .ref u1_1, .int (nI 0)])), (u1_1, .inl (dA 4, 2, rfA (fun _ => none)))] H := hP.sub [0, 1, 2] rfl
  have hD9 : va_D A [(a, .inr (12, [.ref u1_0])), (u1_0, .inr (15, [.int (nI 0), .ref u1_1, .int (nI 0)])), (u1_1, .inl (dA 4, 2, rfA (fun _ => none)))] := hD.sub [0, 1, 2] (by decide) rfl
  exact W.vret hx hb hrt (fun t ht hW => ⟨⟨(u1_0, u1_1), rfl, trivial, by rw [ht]; exact hP9, hD9, GK.warm hW hG⟩, hS.F ht⟩) hS.2.2 dX15_init_4

abbrev r_X16_init : Room := { frames := 6, cells := 2, slots := 5, locals := 121 }
set_option maxHeartbeats 1000000 in
theorem c_X16_init (lh : Launch) (D : va_G) (dA : Nat → ClassId) (sz : Nat) (a : Nat) : Met lh yX16_init (ws_ yX16_init cX16_init 1 none) r_X16_init (PX (fun U H => H.size = sz ∧ va_P D CL [(a, .inr (13, [.null]))] H ∧ va_D nT [(a, .inr (13, [.null]))] ∧ GK D dA U) [.ref a]) (va_Qv (fun u : Nat × Nat => True) (fun (u : Nat × Nat) t => va_P D CL [(a, .inr (13, [.ref u.1])), (u.1, .inr (15, [.int (nI 0), .ref u.2, .int (nI 0)])), (u.2, .inl (dA 4, 2, rfA (fun _ => none)))] t.heap ∧ va_D (va_A [(a, .inr (13, [.null]))] sz) [(a, .inr (13, [.ref u.1])), (u.1, .inr (15, [.int (nI 0), .ref u.2, .int (nI 0)])), (u.2, .inl (dA 4, 2, rfA (fun _ => none)))] ∧ GK D dA t) (va_A [(a, .inr (13, [.null]))] sz)) 2 5 (va_A [(a, .inr (13, [.null]))] sz) := by
  refine Met.ofW (cc := cX16_init) (maxL := 1) (ret := none) (by decide) rfl ?_
  intro p e s m args below meth cd s₁ B hml hv
  obtain ⟨hargs, hsz, hP, hD, hG⟩ := hv
  have hx := B.exec
  have hb := B.bytes
  have hrt := B.returns
  have hts := atoms_spec (ws := (ws_ yX16_init cX16_init 1 none)) B.pre
  have hts : ∀ w ∈ lw_all, w.before _ s = true := fun w h => hts w (List.mem_cons_of_mem _ h)
  have hown : s.vm.findClass RX16 = some m.cls := findClass_of_methodNamed B.named
  have hlocks := B.notSynchronized
  have hin : meth.name = "<init>" := (name_of_methodNamed B.named B.method).1
  subst hsz
  have hD := hD.self (sz := s.heap.size)
  have hA : ∀ q : Nat, s.heap.size ≤ q → va_A [(a, .inr (13, [.null]))] s.heap.size q := fun q h => Or.inr h
  generalize va_A [(a, .inr (13, [.null]))] s.heap.size = A at hD hA ⊢
  have hS : va_S A s.heap s.heap [] := va_S.rf
  have hE : entryFrame m args 1 = F0 m 0 ((lg_sl ([.ref a]) ++ List.replicate (1 - (lg_sl ([.ref a])).length) Slot.unset).toArray) [] := by rw [hargs]; exact lg_entry_eq m _ 1
  have hl := lv_entry ([.ref a]) (n := 1) (Nat.le_of_ble_eq_true rfl)
  rw [hE]
  clear hE
  generalize (lg_sl ([.ref a]) ++ List.replicate (1 - (lg_sl ([.ref a])).length) Slot.unset).toArray = ls at hl ⊢
  have hl : lv_has ls 1 [(0, .ref a)] := hl
  generalize hQ : MQ _ _ _ _ _ _ _ = Q
  refine lv_aload_n hx hb dX16_init_0 rfl (lv_at hl 0 rfl) ?_
  have hPs : va_P D CL ([(a, .inr (13, [.null]))] ++ []) s.heap := hP.sub [0] rfl
  have hDs : va_D A ([(a, .inr (13, [.null]))] ++ []) := hD.sub [0] (by decide) rfl
  have hz9 := hS.1
  refine va_callv (va_runIN (As := []) (rest := []) ⟨hx, hb, hml, hown, hts⟩ (c_X14_init_X16 lh D dA s.heap.size a) ⟨(va_cnB 0 hts (lw_meth q1099) rfl rfl rfl (hG.2.1 _ q1107 rfl) (hts _ q94) (by decide +kernel) ⟨Nat.le_of_ble_eq_true rfl, Nat.le_of_ble_eq_true rfl⟩), rfl, hts _ q1098⟩ ⟨PX.blind (Mv.and Mv.heap (Mv.and Mv.heap (Mv.and Mv.heap Mv.gk))), PX.pre (Mv.and Mv.heap (Mv.and Mv.heap (Mv.and Mv.heap Mv.gk))) ⟨rfl, (va_P_left hPs), (va_D_left hDs), hG⟩⟩ rfl rfl hl.1 rfl (lv_room (Nat.le_of_ble_eq_true rfl)) dX16_init_1 ⟨Nat.le_of_ble_eq_true rfl, Nat.le_of_ble_eq_true rfl⟩) hS (fun q _ => (va_A_up hDs hA hS.1) q) ((va_A_up hDs hA hS.1)) (fun u t H1 locs ht hvm hp hB hz hk hS => ?_)
  obtain ⟨u1_0, u1_1⟩ := u
  obtain ⟨hP1, hD1, -⟩ := hB
  rw [ht] at hP1
  obtain ⟨hP, hD⟩ := vp_join hPs hDs hP1 hD1 hk hA hz9
  clear ht hvm hz hk hP1 hD1 hPs hDs hz9
  generalize H1 = H at hP hS ⊢
  have hP : va_P D CL [(a, .inr (13, [.ref u1_0])), (u1_0, .inr (15, [.int (nI 0), .ref u1_1, .int (nI 0)])), (u1_1, .inl (dA 4, 2, rfA (fun _ => none)))] H := hP
  have hD : va_D A [(a, .inr (13, [.ref u1_0])), (u1_0, .inr (15, [.int (nI 0), .ref u1_1, .int (nI 0)])), (u1_1, .inl (dA 4, 2, rfA (fun _ => none)))] := hD
  subst hQ
  have hP9 : va_P D CL [(a, .inr (13, [.ref u1_0])), (u1_0, .inr (15, [.int (nI 0), .ref u1_1, .int (nI 0)])), (u1_1, .inl (dA 4, 2, rfA (fun _ => none)))] H := hP.sub [0, 1, 2] rfl
  have hD9 : va_D A [(a, .inr (13, [.ref u1_0])), (u1_0, .inr (15, [.int (nI 0), .ref u1_1, .int (nI 0)])), (u1_1, .inl (dA 4, 2, rfA (fun _ => none)))] := hD.sub [0, 1, 2] (by decide) rfl
  exact W.vret hx hb hrt (fun t ht hW => ⟨⟨(u1_0, u1_1), rfl, trivial, by rw [ht]; exact hP9, hD9, GK.warm hW hG⟩, hS.F ht⟩) hS.2.2 dX16_init_4

abbrev r_X17_init : Room := { frames := 5, cells := 2, slots := 5, locals := 101 }
set_option maxHeartbeats 1000000 in
theorem c_X17_init (lh : Launch) (D : va_G) (dA : Nat → ClassId) (sz : Nat) (a : Nat) (x : Nat) : Met lh yX17_init (ws_ yX17_init cX17_init 2 none) r_X17_init (PX (fun U H => H.size = sz ∧ va_P D CL [(a, .inr (14, [.null, .int (nI 0)]))] H ∧ va_D nT [(a, .inr (14, [.null, .int (nI 0)]))] ∧ GK D dA U) [.ref a, .int (nI x)]) (va_Qv (fun u : Nat × Nat => True) (fun (u : Nat × Nat) t => va_P D CL [(a, .inr (14, [.ref u.1, .int (nI x)])), (u.1, .inr (15, [.int (nI 0), .ref u.2, .int (nI 0)])), (u.2, .inl (dA 4, 2, rfA (fun _ => none)))] t.heap ∧ va_D (va_A [(a, .inr (14, [.null, .int (nI 0)]))] sz) [(a, .inr (14, [.ref u.1, .int (nI x)])), (u.1, .inr (15, [.int (nI 0), .ref u.2, .int (nI 0)])), (u.2, .inl (dA 4, 2, rfA (fun _ => none)))] ∧ GK D dA t) (va_A [(a, .inr (14, [.null, .int (nI 0)]))] sz)) 2 5 (va_A [(a, .inr (14, [.null, .int (nI 0)]))] sz) := by
  refine Met.ofW (cc := cX17_init) (maxL := 2) (ret := none) (by decide) rfl ?_
  intro p e s m args below meth cd s₁ B hml hv
  obtain ⟨hargs, hsz, hP, hD, hG⟩ := hv
  have hx := B.exec
  have hb := B.bytes
  have hrt := B.returns
  have hts := atoms_spec (ws := (ws_ yX17_init cX17_init 2 none)) B.pre
  have hts : ∀ w ∈ lw_all, w.before _ s = true := fun w h => hts w (List.mem_cons_of_mem _ h)
  have hown : s.vm.findClass RX17 = some m.cls := findClass_of_methodNamed B.named
  have hlocks := B.notSynchronized
  have hin : meth.name = "<init>" := (name_of_methodNamed B.named B.method).1
  subst hsz
  have hD := hD.self (sz := s.heap.size)
  have hA : ∀ q : Nat, s.heap.size ≤ q → va_A [(a, .inr (14, [.null, .int (nI 0)]))] s.heap.size q := fun q h => Or.inr h
  generalize va_A [(a, .inr (14, [.null, .int (nI 0)]))] s.heap.size = A at hD hA ⊢
  have hS : va_S A s.heap s.heap [] := va_S.rf
  have hE : entryFrame m args 2 = F0 m 0 ((lg_sl ([.ref a, .int (nI x)]) ++ List.replicate (2 - (lg_sl ([.ref a, .int (nI x)])).length) Slot.unset).toArray) [] := by rw [hargs]; exact lg_entry_eq m _ 2
  have hl := lv_entry ([.ref a, .int (nI x)]) (n := 2) (Nat.le_of_ble_eq_true rfl)
  rw [hE]
  clear hE
  generalize (lg_sl ([.ref a, .int (nI x)]) ++ List.replicate (2 - (lg_sl ([.ref a, .int (nI x)])).length) Slot.unset).toArray = ls at hl ⊢
  have hl : lv_has ls 2 [(0, .ref a), (1, .int (nI x))] := hl
  generalize hQ : MQ _ _ _ _ _ _ _ = Q
  refine lv_aload_n hx hb dX17_init_0 rfl (lv_at hl 0 rfl) ?_
  have hPs : va_P D CL ([(a, .inr (14, [.null, .int (nI 0)]))] ++ []) s.heap := hP.sub [0] rfl
  have hDs : va_D A ([(a, .inr (14, [.null, .int (nI 0)]))] ++ []) := hD.sub [0] (by decide) rfl
  have hz9 := hS.1
  refine va_callv (va_runIN (As := []) (rest := []) ⟨hx, hb, hml, hown, hts⟩ (c_X10_init_X17 lh D dA s.heap.size a) ⟨(va_cnB 0 hts (lw_meth q1067) rfl rfl rfl (hG.2.1 _ q1115 rfl) (hts _ q90) (by decide +kernel) ⟨Nat.le_of_ble_eq_true rfl, Nat.le_of_ble_eq_true rfl⟩), rfl, hts _ q1066⟩ ⟨PX.blind (Mv.and Mv.heap (Mv.and Mv.heap (Mv.and Mv.heap Mv.gk))), PX.pre (Mv.and Mv.heap (Mv.and Mv.heap (Mv.and Mv.heap Mv.gk))) ⟨rfl, (va_P_left hPs), (va_D_left hDs), hG⟩⟩ rfl rfl hl.1 rfl (lv_room (Nat.le_of_ble_eq_true rfl)) dX17_init_1 ⟨Nat.le_of_ble_eq_true rfl, Nat.le_of_ble_eq_true rfl⟩) hS (fun q _ => (va_A_up hDs hA hS.1) q) ((va_A_up hDs hA hS.1)) (fun u t H1 locs ht hvm hp hB hz hk hS => ?_)
  obtain ⟨u1_0, u1_1⟩ := u
  obtain ⟨hP1, hD1, -⟩ := hB
  rw [ht] at hP1
  obtain ⟨hP, hD⟩ := vp_join hPs hDs hP1 hD1 hk hA hz9
  clear ht hvm hz hk hP1 hD1 hPs hDs hz9
  generalize H1 = H at hP hS ⊢
  have hP : va_P D CL [(a, .inr (14, [.ref u1_0, .int (nI 0)])), (u1_0, .inr (15, [.int (nI 0), .ref u1_1, .int (nI 0)])), (u1_1, .inl (dA 4, 2, rfA (fun _ => none)))] H := hP
  have hD : va_D A [(a, .inr (14, [.ref u1_0, .int (nI 0)])), (u1_0, .inr (15, [.int (nI 0), .ref u1_1, .int (nI 0)])), (u1_1, .inl (dA 4, 2, rfA (fun _ => none)))] := hD
  refine lv_aload_n hx hb dX17_init_4 rfl (lv_at hl 0 rfl) ?_
  refine lv_iload_n hx hb dX17_init_5 rfl (lv_at hl 1 rfl) ?_
  refine va_putF (D := D) (ci := 14) (v := .int (nI x)) (C := RX17) (T := TX17) (N := 2) hx hb hts in_X17 tyX17 tyX17_ok nmX17 hown hG.1 hP hD hS 0 rfl rfl 1 (by decide) (hts _ q1116) (fun _ h => h) rfl hin rfl rfl (rfl) (rfl) (Nat.le_of_ble_eq_true rfl) dX17_init_6 (fun H locs hP hD hS => ?_)
  have hP : va_P D CL [(a, .inr (14, [.ref u1_0, .int (nI x)])), (u1_0, .inr (15, [.int (nI 0), .ref u1_1, .int (nI 0)])), (u1_1, .inl (dA 4, 2, rfA (fun _ => none)))] H := hP
  have hD : va_D A [(a, .inr (14, [.ref u1_0, .int (nI x)])), (u1_0, .inr (15, [.int (nI 0), .ref u1_1, .int (nI 0)])), (u1_1, .inl (dA 4, 2, rfA (fun _ => none)))] := hD
  subst hQ
  have hP9 : va_P D CL [(a, .inr (14, [.ref u1_0, .int (nI x)])), (u1_0, .inr (15, [.int (nI 0), .ref u1_1, .int (nI 0)])), (u1_1, .inl (dA 4, 2, rfA (fun _ => none)))] H := hP.sub [0, 1, 2] rfl
  have hD9 : va_D A [(a, .inr (14, [.ref u1_0, .int (nI x)])), (u1_0, .inr (15, [.int (nI 0), .ref u1_1, .int (nI 0)])), (u1_1, .inl (dA 4, 2, rfA (fun _ => none)))] := hD.sub [0, 1, 2] (by decide) rfl
  exact W.vret hx hb hrt (fun t ht hW => ⟨⟨(u1_0, u1_1), rfl, trivial, by rw [ht]; exact hP9, hD9, GK.warm hW hG⟩, hS.F ht⟩) hS.2.2 dX17_init_9

abbrev r_J11_init_2 : Room := { frames := 1, cells := 0, slots := 0, locals := 20 }
set_option maxHeartbeats 1000000 in
theorem c_J11_init_2 (lh : Launch) (D : va_G) (dA : Nat → ClassId) (sz : Nat) (a : Nat) : Met lh yJ11_init_2 (ws_ yJ11_init_2 cJ11_init_2 5 none) r_J11_init_2 (PX (fun U H => H.size = sz ∧ va_P D CL [(a, .inr (7, [.null, .null, .null, .null, .null, .int (nI 0), .int (nI 0), .int (nI 0)]))] H ∧ va_D nT [(a, .inr (7, [.null, .null, .null, .null, .null, .int (nI 0), .int (nI 0), .int (nI 0)]))] ∧ GK D dA U ∧ KT (va_A [(a, .inr (7, [.null, .null, .null, .null, .null, .int (nI 0), .int (nI 0), .int (nI 0)]))] sz) U H) [.ref a, .null, .null, .int (nI 0), .int (nI 0)]) (va_Qv (fun u : Unit => True) (fun (u : Unit) t => va_P D CL [(a, .inr (7, [.null, .null, .null, .null, .null, .int (nI 0), .int (nI 0), .int (nI 0)]))] t.heap ∧ va_D (va_A [(a, .inr (7, [.null, .null, .null, .null, .null, .int (nI 0), .int (nI 0), .int (nI 0)]))] sz) [(a, .inr (7, [.null, .null, .null, .null, .null, .int (nI 0), .int (nI 0), .int (nI 0)]))] ∧ GK D dA t) (va_A [(a, .inr (7, [.null, .null, .null, .null, .null, .int (nI 0), .int (nI 0), .int (nI 0)]))] sz)) 0 0 (va_A [(a, .inr (7, [.null, .null, .null, .null, .null, .int (nI 0), .int (nI 0), .int (nI 0)]))] sz) := by
  refine Met.ofW (cc := cJ11_init_2) (maxL := 5) (ret := none) (by decide) rfl ?_
  intro p e s m args below meth cd s₁ B hml hv
  obtain ⟨hargs, hsz, hP, hD, hG, hKT⟩ := hv
  have hx := B.exec
  have hb := B.bytes
  have hrt := B.returns
  have hts := atoms_spec (ws := (ws_ yJ11_init_2 cJ11_init_2 5 none)) B.pre
  have hts : ∀ w ∈ lw_all, w.before _ s = true := fun w h => hts w (List.mem_cons_of_mem _ h)
  have hown : s.vm.findClass RJ11 = some m.cls := findClass_of_methodNamed B.named
  have hlocks := B.notSynchronized
  have hin : meth.name = "<init>" := (name_of_methodNamed B.named B.method).1
  subst hsz
  have hD := hD.self (sz := s.heap.size)
  have hA : ∀ q : Nat, s.heap.size ≤ q → va_A [(a, .inr (7, [.null, .null, .null, .null, .null, .int (nI 0), .int (nI 0), .int (nI 0)]))] s.heap.size q := fun q h => Or.inr h
  generalize va_A [(a, .inr (7, [.null, .null, .null, .null, .null, .int (nI 0), .int (nI 0), .int (nI 0)]))] s.heap.size = A at hD hA hKT ⊢
  have hS : va_S A s.heap s.heap [] := va_S.rf
  have hE : entryFrame m args 5 = F0 m 0 ((lg_sl ([.ref a, .null, .null, .int (nI 0), .int (nI 0)]) ++ List.replicate (5 - (lg_sl ([.ref a, .null, .null, .int (nI 0), .int (nI 0)])).length) Slot.unset).toArray) [] := by rw [hargs]; exact lg_entry_eq m _ 5
  have hl := lv_entry ([.ref a, .null, .null, .int (nI 0), .int (nI 0)]) (n := 5) (Nat.le_of_ble_eq_true rfl)
  rw [hE]
  clear hE
  generalize (lg_sl ([.ref a, .null, .null, .int (nI 0), .int (nI 0)]) ++ List.replicate (5 - (lg_sl ([.ref a, .null, .null, .int (nI 0), .int (nI 0)])).length) Slot.unset).toArray = ls at hl ⊢
  have hl : lv_has ls 5 [(0, .ref a), (1, .null), (2, .null), (3, .int (nI 0)), (4, .int (nI 0))] := hl
  generalize hQ : MQ _ _ _ _ _ _ _ = Q
  refine lv_aload_n hx hb dJ11_init_2_0 rfl (lv_at hl 0 rfl) ?_
  refine W.objInit hx hb hown (hts _ q917) (hts _ q105) (hts _ q106) rfl (by rw [hml]; exact hl.1) rfl dJ11_init_2_1 (Nat.le_of_ble_eq_true rfl) (Nat.le_of_ble_eq_true rfl) ?_
  refine W.eq (g2 := F0 m 4 ls []) rfl ?_
  refine lv_aload_n hx hb dJ11_init_2_4 rfl (lv_at hl 0 rfl) ?_
  refine lv_aload_n hx hb dJ11_init_2_5 rfl (lv_at hl 0 rfl) ?_
  refine va_put (D := D) (ci := 7) (v := .ref a) (C := RX8) (T := TX8) (N := 8) hx hb hts in_X8 tyX8 tyX8_ok nmX8 hown hG.1 hP hD hS 0 rfl rfl 0 (by decide) (hts _ q947) (fun _ h => h) rfl rfl (rfl) (rfl) (Nat.le_of_ble_eq_true rfl) dJ11_init_2_6 (fun H locs hP hD hS => ?_)
  have hP : va_P D CL [(a, .inr (7, [.ref a, .null, .null, .null, .null, .int (nI 0), .int (nI 0), .int (nI 0)]))] H := hP
  have hD : va_D A [(a, .inr (7, [.ref a, .null, .null, .null, .null, .int (nI 0), .int (nI 0), .int (nI 0)]))] := hD
  refine lv_aload_n hx hb dJ11_init_2_9 rfl (lv_at hl 0 rfl) ?_
  refine Zq_get hx hb hKT.1 hS hown (hts _ q918) dJ11_init_2_10 (fun o10 => ?_)
  refine va_put (D := D) (ci := 7) (v := va_rf o10) (C := RX8) (T := TX8) (N := 8) hx hb hts in_X8 tyX8 tyX8_ok nmX8 hown hG.1 hP hD hS 0 rfl rfl 1 (by decide) (hts _ q948) (fun _ h => h) rfl rfl (by cases o10 <;> rfl) (by cases o10 <;> rfl) (Nat.le_of_ble_eq_true rfl) dJ11_init_2_13 (fun H locs hP hD hS => ?_)
  have hP : va_P D CL [(a, .inr (7, [.ref a, va_rf o10, .null, .null, .null, .int (nI 0), .int (nI 0), .int (nI 0)]))] H := hP
  have hD : va_D A [(a, .inr (7, [.ref a, va_rf o10, .null, .null, .null, .int (nI 0), .int (nI 0), .int (nI 0)]))] := hD
  refine lv_aload_n hx hb dJ11_init_2_16 rfl (lv_at hl 0 rfl) ?_
  refine Zq_get hx hb hKT.2 hS hown (hts _ q920) dJ11_init_2_17 (fun o17 => ?_)
  refine va_put (D := D) (ci := 7) (v := va_rf o17) (C := RX8) (T := TX8) (N := 8) hx hb hts in_X8 tyX8 tyX8_ok nmX8 hown hG.1 hP hD hS 0 rfl rfl 2 (by decide) (hts _ q949) (fun _ h => h) rfl rfl (by cases o17 <;> rfl) (by cases o17 <;> rfl) (Nat.le_of_ble_eq_true rfl) dJ11_init_2_20 (fun H locs hP hD hS => ?_)
  have hP : va_P D CL [(a, .inr (7, [.ref a, va_rf o10, va_rf o17, .null, .null, .int (nI 0), .int (nI 0), .int (nI 0)]))] H := hP
  have hD : va_D A [(a, .inr (7, [.ref a, va_rf o10, va_rf o17, .null, .null, .int (nI 0), .int (nI 0), .int (nI 0)]))] := hD
  refine lv_iload hx hb dJ11_init_2_23 (lv_at hl 4 rfl) ?_
  refine kn_zeq (tgt := 36) hx hb dJ11_init_2_25 (by decide) (by decide) (fun _ => ?_) (fun c => absurd c (by decide))
  refine lv_aload_n hx hb dJ11_init_2_36 rfl (lv_at hl 0 rfl) ?_
  refine lv_null hx hb dJ11_init_2_37 ?_
  refine va_put (D := D) (ci := 7) (v := .null) (C := RX8) (T := TX8) (N := 8) hx hb hts in_X8 tyX8 tyX8_ok nmX8 hown hG.1 hP hD hS 0 rfl rfl 1 (by decide) (hts _ q948) (fun _ h => h) rfl rfl (rfl) (rfl) (Nat.le_of_ble_eq_true rfl) dJ11_init_2_38 (fun H locs hP hD hS => ?_)
  have hP : va_P D CL [(a, .inr (7, [.ref a, .null, va_rf o17, .null, .null, .int (nI 0), .int (nI 0), .int (nI 0)]))] H := hP
  have hD : va_D A [(a, .inr (7, [.ref a, .null, va_rf o17, .null, .null, .int (nI 0), .int (nI 0), .int (nI 0)]))] := hD
  refine lv_aload_n hx hb dJ11_init_2_41 rfl (lv_at hl 0 rfl) ?_
  refine lv_aload_nN hx hb dJ11_init_2_42 rfl (lv_at hl 1 rfl) ?_
  refine va_put (D := D) (ci := 7) (v := .null) (C := RX8) (T := TX8) (N := 8) hx hb hts in_X8 tyX8 tyX8_ok nmX8 hown hG.1 hP hD hS 0 rfl rfl 3 (by decide) (hts _ q946) (fun _ h => h) rfl rfl (rfl) (rfl) (Nat.le_of_ble_eq_true rfl) dJ11_init_2_43 (fun H locs hP hD hS => ?_)
  have hP : va_P D CL [(a, .inr (7, [.ref a, .null, va_rf o17, .null, .null, .int (nI 0), .int (nI 0), .int (nI 0)]))] H := hP
  have hD : va_D A [(a, .inr (7, [.ref a, .null, va_rf o17, .null, .null, .int (nI 0), .int (nI 0), .int (nI 0)]))] := hD
  refine lv_aload_n hx hb dJ11_init_2_46 rfl (lv_at hl 0 rfl) ?_
  refine lv_aload_nN hx hb dJ11_init_2_47 rfl (lv_at hl 2 rfl) ?_
  refine va_put (D := D) (ci := 7) (v := .null) (C := RX8) (T := TX8) (N := 8) hx hb hts in_X8 tyX8 tyX8_ok nmX8 hown hG.1 hP hD hS 0 rfl rfl 0 (by decide) (hts _ q947) (fun _ h => h) rfl rfl (rfl) (rfl) (Nat.le_of_ble_eq_true rfl) dJ11_init_2_48 (fun H locs hP hD hS => ?_)
  have hP : va_P D CL [(a, .inr (7, [.null, .null, va_rf o17, .null, .null, .int (nI 0), .int (nI 0), .int (nI 0)]))] H := hP
  have hD : va_D A [(a, .inr (7, [.null, .null, va_rf o17, .null, .null, .int (nI 0), .int (nI 0), .int (nI 0)]))] := hD
  refine lv_iload_n hx hb dJ11_init_2_51 rfl (lv_at hl 3 rfl) ?_
  refine kn_zne (tgt := 60) hx hb dJ11_init_2_52 (by decide) (by decide) (fun c => absurd c (by decide)) (fun _ => ?_)
  refine lv_aload_n hx hb dJ11_init_2_55 rfl (lv_at hl 0 rfl) ?_
  refine lv_null hx hb dJ11_init_2_56 ?_
  refine va_put (D := D) (ci := 7) (v := .null) (C := RX8) (T := TX8) (N := 8) hx hb hts in_X8 tyX8 tyX8_ok nmX8 hown hG.1 hP hD hS 0 rfl rfl 2 (by decide) (hts _ q949) (fun _ h => h) rfl rfl (rfl) (rfl) (Nat.le_of_ble_eq_true rfl) dJ11_init_2_57 (fun H locs hP hD hS => ?_)
  have hP : va_P D CL [(a, .inr (7, [.null, .null, .null, .null, .null, .int (nI 0), .int (nI 0), .int (nI 0)]))] H := hP
  have hD : va_D A [(a, .inr (7, [.null, .null, .null, .null, .null, .int (nI 0), .int (nI 0), .int (nI 0)]))] := hD
  subst hQ
  have hP9 : va_P D CL [(a, .inr (7, [.null, .null, .null, .null, .null, .int (nI 0), .int (nI 0), .int (nI 0)]))] H := hP.sub [0] rfl
  have hD9 : va_D A [(a, .inr (7, [.null, .null, .null, .null, .null, .int (nI 0), .int (nI 0), .int (nI 0)]))] := hD.sub [0] (by decide) rfl
  exact W.vret hx hb hrt (fun t ht hW => ⟨⟨(), rfl, trivial, by rw [ht]; exact hP9, hD9, GK.warm hW hG⟩, hS.F ht⟩) hS.2.2 dJ11_init_2_60

abbrev r_J12_init : Room := { frames := 2, cells := 0, slots := 0, locals := 44 }
set_option maxHeartbeats 1000000 in
theorem c_J12_init (lh : Launch) (D : va_G) (dA : Nat → ClassId) (sz : Nat) (a : Nat) : Met lh yJ12_init (ws_ yJ12_init cJ12_init 5 none) r_J12_init (PX (fun U H => H.size = sz ∧ va_P D CL [(a, .inr (7, [.null, .null, .null, .null, .null, .int (nI 0), .int (nI 0), .int (nI 0)]))] H ∧ va_D nT [(a, .inr (7, [.null, .null, .null, .null, .null, .int (nI 0), .int (nI 0), .int (nI 0)]))] ∧ GK D dA U ∧ KT (va_A [(a, .inr (7, [.null, .null, .null, .null, .null, .int (nI 0), .int (nI 0), .int (nI 0)]))] sz) U H) [.ref a, .null, .null, .int (nI 0), .int (nI 0)]) (va_Qv (fun u : Unit => True) (fun (u : Unit) t => va_P D CL [(a, .inr (7, [.null, .null, .null, .null, .null, .int (nI 0), .int (nI 0), .int (nI 0)]))] t.heap ∧ va_D (va_A [(a, .inr (7, [.null, .null, .null, .null, .null, .int (nI 0), .int (nI 0), .int (nI 0)]))] sz) [(a, .inr (7, [.null, .null, .null, .null, .null, .int (nI 0), .int (nI 0), .int (nI 0)]))] ∧ GK D dA t) (va_A [(a, .inr (7, [.null, .null, .null, .null, .null, .int (nI 0), .int (nI 0), .int (nI 0)]))] sz)) 0 0 (va_A [(a, .inr (7, [.null, .null, .null, .null, .null, .int (nI 0), .int (nI 0), .int (nI 0)]))] sz) := by
  refine Met.ofW (cc := cJ12_init) (maxL := 5) (ret := none) (by decide) rfl ?_
  intro p e s m args below meth cd s₁ B hml hv
  obtain ⟨hargs, hsz, hP, hD, hG, hKT⟩ := hv
  have hx := B.exec
  have hb := B.bytes
  have hrt := B.returns
  have hts := atoms_spec (ws := (ws_ yJ12_init cJ12_init 5 none)) B.pre
  have hts : ∀ w ∈ lw_all, w.before _ s = true := fun w h => hts w (List.mem_cons_of_mem _ h)
  have hown : s.vm.findClass RJ12 = some m.cls := findClass_of_methodNamed B.named
  have hlocks := B.notSynchronized
  have hin : meth.name = "<init>" := (name_of_methodNamed B.named B.method).1
  subst hsz
  have hD := hD.self (sz := s.heap.size)
  have hA : ∀ q : Nat, s.heap.size ≤ q → va_A [(a, .inr (7, [.null, .null, .null, .null, .null, .int (nI 0), .int (nI 0), .int (nI 0)]))] s.heap.size q := fun q h => Or.inr h
  generalize va_A [(a, .inr (7, [.null, .null, .null, .null, .null, .int (nI 0), .int (nI 0), .int (nI 0)]))] s.heap.size = A at hD hA hKT ⊢
  have hS : va_S A s.heap s.heap [] := va_S.rf
  have hE : entryFrame m args 5 = F0 m 0 ((lg_sl ([.ref a, .null, .null, .int (nI 0), .int (nI 0)]) ++ List.replicate (5 - (lg_sl ([.ref a, .null, .null, .int (nI 0), .int (nI 0)])).length) Slot.unset).toArray) [] := by rw [hargs]; exact lg_entry_eq m _ 5
  have hl := lv_entry ([.ref a, .null, .null, .int (nI 0), .int (nI 0)]) (n := 5) (Nat.le_of_ble_eq_true rfl)
  rw [hE]
  clear hE
  generalize (lg_sl ([.ref a, .null, .null, .int (nI 0), .int (nI 0)]) ++ List.replicate (5 - (lg_sl ([.ref a, .null, .null, .int (nI 0), .int (nI 0)])).length) Slot.unset).toArray = ls at hl ⊢
  have hl : lv_has ls 5 [(0, .ref a), (1, .null), (2, .null), (3, .int (nI 0)), (4, .int (nI 0))] := hl
  generalize hQ : MQ _ _ _ _ _ _ _ = Q
  refine lv_aload_n hx hb dJ12_init_0 rfl (lv_at hl 0 rfl) ?_
  refine lv_aload_nN hx hb dJ12_init_1 rfl (lv_at hl 1 rfl) ?_
  refine lv_aload_nN hx hb dJ12_init_2 rfl (lv_at hl 2 rfl) ?_
  refine lv_iload_n hx hb dJ12_init_3 rfl (lv_at hl 3 rfl) ?_
  refine lv_iload hx hb dJ12_init_4 (lv_at hl 4 rfl) ?_
  have hPs : va_P D CL ([(a, .inr (7, [.null, .null, .null, .null, .null, .int (nI 0), .int (nI 0), .int (nI 0)]))] ++ []) s.heap := hP.sub [0] rfl
  have hDs : va_D A ([(a, .inr (7, [.null, .null, .null, .null, .null, .int (nI 0), .int (nI 0), .int (nI 0)]))] ++ []) := hD.sub [0] (by decide) rfl
  have hz9 := hS.1
  refine va_callv (va_runI (As := [.null, .null, .int (nI 0), .int (nI 0)]) (rest := []) ⟨hx, hb, hml, hown, hts⟩ (c_J11_init_2 lh D dA s.heap.size a) (cwI 4 hts (lw_meth q940) rfl rfl rfl (hts _ q79) (hts _ q938) (hts _ q939) rfl (by decide +kernel) ⟨Nat.le_of_ble_eq_true rfl, Nat.le_of_ble_eq_true rfl⟩) ⟨PX.blind (Mv.and Mv.heap (Mv.and Mv.heap (Mv.and Mv.heap (Mv.and Mv.gk KT.mv)))), PX.pre (Mv.and Mv.heap (Mv.and Mv.heap (Mv.and Mv.heap (Mv.and Mv.gk KT.mv)))) ⟨rfl, (va_P_left hPs), (va_D_left hDs), hG, (KT.at hKT hS (va_A_up hDs hA hS.1))⟩⟩ rfl rfl hl.1 rfl (lv_room (Nat.le_of_ble_eq_true rfl)) dJ12_init_6 ⟨Nat.le_of_ble_eq_true rfl, Nat.le_of_ble_eq_true rfl⟩) hS (fun q _ => (va_A_up hDs hA hS.1) q) ((va_A_up hDs hA hS.1)) (fun u t H1 locs ht hvm hp hB hz hk hS => ?_)
  obtain ⟨hP1, hD1, -⟩ := hB
  rw [ht] at hP1
  obtain ⟨hP, hD⟩ := vp_join hPs hDs hP1 hD1 hk hA hz9
  clear ht hvm hz hk hP1 hD1 hPs hDs hz9
  generalize H1 = H at hP hS ⊢
  have hP : va_P D CL [(a, .inr (7, [.null, .null, .null, .null, .null, .int (nI 0), .int (nI 0), .int (nI 0)]))] H := hP
  have hD : va_D A [(a, .inr (7, [.null, .null, .null, .null, .null, .int (nI 0), .int (nI 0), .int (nI 0)]))] := hD
  subst hQ
  have hP9 : va_P D CL [(a, .inr (7, [.null, .null, .null, .null, .null, .int (nI 0), .int (nI 0), .int (nI 0)]))] H := hP.sub [0] rfl
  have hD9 : va_D A [(a, .inr (7, [.null, .null, .null, .null, .null, .int (nI 0), .int (nI 0), .int (nI 0)]))] := hD.sub [0] (by decide) rfl
  exact W.vret hx hb hrt (fun t ht hW => ⟨⟨(), rfl, trivial, by rw [ht]; exact hP9, hD9, GK.warm hW hG⟩, hS.F ht⟩) hS.2.2 dJ12_init_9

abbrev r_X8_init : Room := { frames := 3, cells := 0, slots := 0, locals := 68 }
set_option maxHeartbeats 1000000 in
theorem c_X8_init (lh : Launch) (D : va_G) (dA : Nat → ClassId) (sz : Nat) (a : Nat) (x : Nat) (y : Nat) : Met lh yX8_init (ws_ yX8_init cX8_init 3 none) r_X8_init (PX (fun U H => H.size = sz ∧ va_P D CL [(a, .inr (7, [.null, .null, .null, .null, .null, .int (nI 0), .int (nI 0), .int (nI 0)]))] H ∧ va_D nT [(a, .inr (7, [.null, .null, .null, .null, .null, .int (nI 0), .int (nI 0), .int (nI 0)]))] ∧ GK D dA U ∧ KT (va_A [(a, .inr (7, [.null, .null, .null, .null, .null, .int (nI 0), .int (nI 0), .int (nI 0)]))] sz) U H) [.ref a, .int (nI x), .int (nI y)]) (va_Qv (fun u : Unit => True) (fun (u : Unit) t => va_P D CL [(a, .inr (7, [.null, .null, .null, .null, .null, .int (nI 0), .int (nI x), .int (nI y)]))] t.heap ∧ va_D (va_A [(a, .inr (7, [.null, .null, .null, .null, .null, .int (nI 0), .int (nI 0), .int (nI 0)]))] sz) [(a, .inr (7, [.null, .null, .null, .null, .null, .int (nI 0), .int (nI x), .int (nI y)]))] ∧ GK D dA t) (va_A [(a, .inr (7, [.null, .null, .null, .null, .null, .int (nI 0), .int (nI 0), .int (nI 0)]))] sz)) 0 0 (va_A [(a, .inr (7, [.null, .null, .null, .null, .null, .int (nI 0), .int (nI 0), .int (nI 0)]))] sz) := by
  refine Met.ofW (cc := cX8_init) (maxL := 3) (ret := none) (by decide) rfl ?_
  intro p e s m args below meth cd s₁ B hml hv
  obtain ⟨hargs, hsz, hP, hD, hG, hKT⟩ := hv
  have hx := B.exec
  have hb := B.bytes
  have hrt := B.returns
  have hts := atoms_spec (ws := (ws_ yX8_init cX8_init 3 none)) B.pre
  have hts : ∀ w ∈ lw_all, w.before _ s = true := fun w h => hts w (List.mem_cons_of_mem _ h)
  have hown : s.vm.findClass RX8 = some m.cls := findClass_of_methodNamed B.named
  have hlocks := B.notSynchronized
  have hin : meth.name = "<init>" := (name_of_methodNamed B.named B.method).1
  subst hsz
  have hD := hD.self (sz := s.heap.size)
  have hA : ∀ q : Nat, s.heap.size ≤ q → va_A [(a, .inr (7, [.null, .null, .null, .null, .null, .int (nI 0), .int (nI 0), .int (nI 0)]))] s.heap.size q := fun q h => Or.inr h
  generalize va_A [(a, .inr (7, [.null, .null, .null, .null, .null, .int (nI 0), .int (nI 0), .int (nI 0)]))] s.heap.size = A at hD hA hKT ⊢
  have hS : va_S A s.heap s.heap [] := va_S.rf
  have hE : entryFrame m args 3 = F0 m 0 ((lg_sl ([.ref a, .int (nI x), .int (nI y)]) ++ List.replicate (3 - (lg_sl ([.ref a, .int (nI x), .int (nI y)])).length) Slot.unset).toArray) [] := by rw [hargs]; exact lg_entry_eq m _ 3
  have hl := lv_entry ([.ref a, .int (nI x), .int (nI y)]) (n := 3) (Nat.le_of_ble_eq_true rfl)
  rw [hE]
  clear hE
  generalize (lg_sl ([.ref a, .int (nI x), .int (nI y)]) ++ List.replicate (3 - (lg_sl ([.ref a, .int (nI x), .int (nI y)])).length) Slot.unset).toArray = ls at hl ⊢
  have hl : lv_has ls 3 [(0, .ref a), (1, .int (nI x)), (2, .int (nI y))] := hl
  generalize hQ : MQ _ _ _ _ _ _ _ = Q
  refine lv_aload_n hx hb dX8_init_0 rfl (lv_at hl 0 rfl) ?_
  refine lv_null hx hb dX8_init_1 ?_
  refine lv_null hx hb dX8_init_2 ?_
  refine lv_iconst (v := nI 0) hx hb dX8_init_3 (by decide) ?_
  refine lv_iconst (v := nI 0) hx hb dX8_init_4 (by decide) ?_
  have hPs : va_P D CL ([(a, .inr (7, [.null, .null, .null, .null, .null, .int (nI 0), .int (nI 0), .int (nI 0)]))] ++ []) s.heap := hP.sub [0] rfl
  have hDs : va_D A ([(a, .inr (7, [.null, .null, .null, .null, .null, .int (nI 0), .int (nI 0), .int (nI 0)]))] ++ []) := hD.sub [0] (by decide) rfl
  have hz9 := hS.1
  refine va_callv (va_runI (As := [.null, .null, .int (nI 0), .int (nI 0)]) (rest := []) ⟨hx, hb, hml, hown, hts⟩ (c_J12_init lh D dA s.heap.size a) (cwI 4 hts (lw_meth q937) rfl rfl rfl (hts _ q80) (hts _ q935) (hts _ q936) rfl (by decide +kernel) ⟨Nat.le_of_ble_eq_true rfl, Nat.le_of_ble_eq_true rfl⟩) ⟨PX.blind (Mv.and Mv.heap (Mv.and Mv.heap (Mv.and Mv.heap (Mv.and Mv.gk KT.mv)))), PX.pre (Mv.and Mv.heap (Mv.and Mv.heap (Mv.and Mv.heap (Mv.and Mv.gk KT.mv)))) ⟨rfl, (va_P_left hPs), (va_D_left hDs), hG, (KT.at hKT hS (va_A_up hDs hA hS.1))⟩⟩ rfl rfl hl.1 rfl (lv_room (Nat.le_of_ble_eq_true rfl)) dX8_init_5 ⟨Nat.le_of_ble_eq_true rfl, Nat.le_of_ble_eq_true rfl⟩) hS (fun q _ => (va_A_up hDs hA hS.1) q) ((va_A_up hDs hA hS.1)) (fun u t H1 locs ht hvm hp hB hz hk hS => ?_)
  obtain ⟨hP1, hD1, -⟩ := hB
  rw [ht] at hP1
  obtain ⟨hP, hD⟩ := vp_join hPs hDs hP1 hD1 hk hA hz9
  clear ht hvm hz hk hP1 hD1 hPs hDs hz9
  generalize H1 = H at hP hS ⊢
  have hP : va_P D CL [(a, .inr (7, [.null, .null, .null, .null, .null, .int (nI 0), .int (nI 0), .int (nI 0)]))] H := hP
  have hD : va_D A [(a, .inr (7, [.null, .null, .null, .null, .null, .int (nI 0), .int (nI 0), .int (nI 0)]))] := hD
  refine lv_aload_n hx hb dX8_init_8 rfl (lv_at hl 0 rfl) ?_
  refine lv_iload_n hx hb dX8_init_9 rfl (lv_at hl 1 rfl) ?_
  refine va_putF (D := D) (ci := 7) (v := .int (nI x)) (C := RX8) (T := TX8) (N := 8) hx hb hts in_X8 tyX8 tyX8_ok nmX8 hown hG.1 hP hD hS 0 rfl rfl 6 (by decide) (hts _ q941) (fun _ h => h) rfl hin rfl rfl (rfl) (rfl) (Nat.le_of_ble_eq_true rfl) dX8_init_10 (fun H locs hP hD hS => ?_)
  have hP : va_P D CL [(a, .inr (7, [.null, .null, .null, .null, .null, .int (nI 0), .int (nI x), .int (nI 0)]))] H := hP
  have hD : va_D A [(a, .inr (7, [.null, .null, .null, .null, .null, .int (nI 0), .int (nI x), .int (nI 0)]))] := hD
  refine lv_aload_n hx hb dX8_init_13 rfl (lv_at hl 0 rfl) ?_
  refine lv_iload_n hx hb dX8_init_14 rfl (lv_at hl 2 rfl) ?_
  refine va_putF (D := D) (ci := 7) (v := .int (nI y)) (C := RX8) (T := TX8) (N := 8) hx hb hts in_X8 tyX8 tyX8_ok nmX8 hown hG.1 hP hD hS 0 rfl rfl 7 (by decide) (hts _ q943) (fun _ h => h) rfl hin rfl rfl (rfl) (rfl) (Nat.le_of_ble_eq_true rfl) dX8_init_15 (fun H locs hP hD hS => ?_)
  have hP : va_P D CL [(a, .inr (7, [.null, .null, .null, .null, .null, .int (nI 0), .int (nI x), .int (nI y)]))] H := hP
  have hD : va_D A [(a, .inr (7, [.null, .null, .null, .null, .null, .int (nI 0), .int (nI x), .int (nI y)]))] := hD
  subst hQ
  have hP9 : va_P D CL [(a, .inr (7, [.null, .null, .null, .null, .null, .int (nI 0), .int (nI x), .int (nI y)]))] H := hP.sub [0] rfl
  have hD9 : va_D A [(a, .inr (7, [.null, .null, .null, .null, .null, .int (nI 0), .int (nI x), .int (nI y)]))] := hD.sub [0] (by decide) rfl
  exact W.vret hx hb hrt (fun t ht hW => ⟨⟨(), rfl, trivial, by rw [ht]; exact hP9, hD9, GK.warm hW hG⟩, hS.F ht⟩) hS.2.2 dX8_init_18
