set_option maxRecDepth 100000
abbrev r_J0_init : Room := { frames := 1, cells := 0, slots := 0, locals := 20 }
set_option maxHeartbeats 1000000 in
theorem c_J0_init (lh : Launch) (D : va_G) (dA : Nat → ClassId) (a : Nat) : Met lh yJ0_init (ws_ yJ0_init cJ0_init 1 none) r_J0_init (PX (fun U H => va_P D CL [] H ∧ GK D dA U) [.ref a]) (va_Sv (fun _ => True)) 0 0 (fun _ => False) := by
  refine Met.ofW (cc := cJ0_init) (maxL := 1) (ret := none) (by decide) rfl ?_
  intro p e s m args below meth cd s₁ B hml hv
  obtain ⟨hargs, hP, hG⟩ := hv
  have hx := B.exec
  have hb := B.bytes
  have hrt := B.returns
  have hts := atoms_spec (ws := (ws_ yJ0_init cJ0_init 1 none)) B.pre
  have hts : ∀ w ∈ lw_all, w.before _ s = true := fun w h => hts w (List.mem_cons_of_mem _ h)
  have hown : s.vm.findClass RJ0 = some m.cls := findClass_of_methodNamed B.named
  have hlocks := B.notSynchronized
  have hin : meth.name = "<init>" := (name_of_methodNamed B.named B.method).1
  have hS : va_S nA s.heap s.heap [] := va_S.rf
  have hE : entryFrame m args 1 = F0 m 0 ((lg_sl ([.ref a]) ++ List.replicate (1 - (lg_sl ([.ref a])).length) Slot.unset).toArray) [] := by rw [hargs]; exact lg_entry_eq m _ 1
  have hl := lv_entry ([.ref a]) (n := 1) (Nat.le_of_ble_eq_true rfl)
  rw [hE]
  clear hE
  generalize (lg_sl ([.ref a]) ++ List.replicate (1 - (lg_sl ([.ref a])).length) Slot.unset).toArray = ls at hl ⊢
  have hl : lv_has ls 1 [(0, .ref a)] := hl
  generalize hQ : MQ _ _ _ _ _ _ _ = Q
  refine lv_aload_n hx hb dJ0_init_0 rfl (lv_at hl 0 rfl) ?_
  refine W.objInit hx hb hown (hts _ q120) (hts _ q105) (hts _ q106) rfl (by rw [hml]; exact hl.1) rfl dJ0_init_1 (Nat.le_of_ble_eq_true rfl) (Nat.le_of_ble_eq_true rfl) ?_
  refine W.eq (g2 := F0 m 4 ls []) rfl ?_
  subst hQ
  exact W.vret hx hb hrt (fun t ht _ => ⟨rfl, trivial, ht⟩) t_nil dJ0_init_4

abbrev r_J17_init : Room := { frames := 1, cells := 0, slots := 0, locals := 20 }
set_option maxHeartbeats 1000000 in
theorem c_J17_init (lh : Launch) (D : va_G) (dA : Nat → ClassId) (a : Nat) : Met lh yJ17_init (ws_ yJ17_init cJ17_init 1 none) r_J17_init (PX (fun U H => va_P D CL [] H ∧ GK D dA U) [.ref a]) (va_Sv (fun _ => True)) 0 0 (fun _ => False) := by
  refine Met.ofW (cc := cJ17_init) (maxL := 1) (ret := none) (by decide) rfl ?_
  intro p e s m args below meth cd s₁ B hml hv
  obtain ⟨hargs, hP, hG⟩ := hv
  have hx := B.exec
  have hb := B.bytes
  have hrt := B.returns
  have hts := atoms_spec (ws := (ws_ yJ17_init cJ17_init 1 none)) B.pre
  have hts : ∀ w ∈ lw_all, w.before _ s = true := fun w h => hts w (List.mem_cons_of_mem _ h)
  have hown : s.vm.findClass RJ17 = some m.cls := findClass_of_methodNamed B.named
  have hlocks := B.notSynchronized
  have hin : meth.name = "<init>" := (name_of_methodNamed B.named B.method).1
  have hS : va_S nA s.heap s.heap [] := va_S.rf
  have hE : entryFrame m args 1 = F0 m 0 ((lg_sl ([.ref a]) ++ List.replicate (1 - (lg_sl ([.ref a])).length) Slot.unset).toArray) [] := by rw [hargs]; exact lg_entry_eq m _ 1
  have hl := lv_entry ([.ref a]) (n := 1) (Nat.le_of_ble_eq_true rfl)
  rw [hE]
  clear hE
  generalize (lg_sl ([.ref a]) ++ List.replicate (1 - (lg_sl ([.ref a])).length) Slot.unset).toArray = ls at hl ⊢
  have hl : lv_has ls 1 [(0, .ref a)] := hl
  generalize hQ : MQ _ _ _ _ _ _ _ = Q
  refine lv_aload_n hx hb dJ17_init_0 rfl (lv_at hl 0 rfl) ?_
  refine W.objInit hx hb hown (hts _ q989) (hts _ q105) (hts _ q106) rfl (by rw [hml]; exact hl.1) rfl dJ17_init_1 (Nat.le_of_ble_eq_true rfl) (Nat.le_of_ble_eq_true rfl) ?_
  refine W.eq (g2 := F0 m 4 ls []) rfl ?_
  subst hQ
  exact W.vret hx hb hrt (fun t ht _ => ⟨rfl, trivial, ht⟩) t_nil dJ17_init_4

abbrev r_J1_init : Room := { frames := 2, cells := 0, slots := 0, locals := 40 }
set_option maxHeartbeats 1000000 in
theorem c_J1_init (lh : Launch) (D : va_G) (dA : Nat → ClassId) (sz : Nat) (a : Nat) : Met lh yJ1_init (ws_ yJ1_init cJ1_init 1 none) r_J1_init (PX (fun U H => H.size = sz ∧ va_P D CL [(a, .inr (15, [.int (nI 0), .null, .int (nI 0)]))] H ∧ va_D nT [(a, .inr (15, [.int (nI 0), .null, .int (nI 0)]))] ∧ GK D dA U) [.ref a]) (va_Qv (fun u : Unit => True) (fun (u : Unit) t => va_P D CL [(a, .inr (15, [.int (nI 0), .null, .int (nI 0)]))] t.heap ∧ va_D (va_A [(a, .inr (15, [.int (nI 0), .null, .int (nI 0)]))] sz) [(a, .inr (15, [.int (nI 0), .null, .int (nI 0)]))] ∧ GK D dA t) (va_A [(a, .inr (15, [.int (nI 0), .null, .int (nI 0)]))] sz)) 0 0 (va_A [(a, .inr (15, [.int (nI 0), .null, .int (nI 0)]))] sz) := by
  refine Met.ofW (cc := cJ1_init) (maxL := 1) (ret := none) (by decide) rfl ?_
  intro p e s m args below meth cd s₁ B hml hv
  obtain ⟨hargs, hsz, hP, hD, hG⟩ := hv
  have hx := B.exec
  have hb := B.bytes
  have hrt := B.returns
  have hts := atoms_spec (ws := (ws_ yJ1_init cJ1_init 1 none)) B.pre
  have hts : ∀ w ∈ lw_all, w.before _ s = true := fun w h => hts w (List.mem_cons_of_mem _ h)
  have hown : s.vm.findClass RJ1 = some m.cls := findClass_of_methodNamed B.named
  have hlocks := B.notSynchronized
  have hin : meth.name = "<init>" := (name_of_methodNamed B.named B.method).1
  subst hsz
  have hD := hD.self (sz := s.heap.size)
  have hA : ∀ q : Nat, s.heap.size ≤ q → va_A [(a, .inr (15, [.int (nI 0), .null, .int (nI 0)]))] s.heap.size q := fun q h => Or.inr h
  generalize va_A [(a, .inr (15, [.int (nI 0), .null, .int (nI 0)]))] s.heap.size = A at hD hA ⊢
  have hS : va_S A s.heap s.heap [] := va_S.rf
  have hE : entryFrame m args 1 = F0 m 0 ((lg_sl ([.ref a]) ++ List.replicate (1 - (lg_sl ([.ref a])).length) Slot.unset).toArray) [] := by rw [hargs]; exact lg_entry_eq m _ 1
  have hl := lv_entry ([.ref a]) (n := 1) (Nat.le_of_ble_eq_true rfl)
  rw [hE]
  clear hE
  generalize (lg_sl ([.ref a]) ++ List.replicate (1 - (lg_sl ([.ref a])).length) Slot.unset).toArray = ls at hl ⊢
  have hl : lv_has ls 1 [(0, .ref a)] := hl
  generalize hQ : MQ _ _ _ _ _ _ _ = Q
  refine lv_aload_n hx hb dJ1_init_0 rfl (lv_at hl 0 rfl) ?_
  have hPs : va_P D CL ([] ++ [(a, .inr (15, [.int (nI 0), .null, .int (nI 0)]))]) s.heap := hP.sub [0] rfl
  refine va_csv (va_Run.call (va_runI (As := []) (rest := []) ⟨hx, hb, hml, hown, hts⟩ (c_J0_init lh D dA a) (cwI 0 hts (lw_meth q119) rfl rfl rfl (hts _ q63) (hts _ q117) (hts _ q118) rfl (by decide +kernel) ⟨Nat.le_of_ble_eq_true rfl, Nat.le_of_ble_eq_true rfl⟩) ⟨PX.blind (Mv.and Mv.heap Mv.gk), PX.pre (Mv.and Mv.heap Mv.gk) ⟨(va_P_left hPs), hG⟩⟩ rfl rfl hl.1 rfl (lv_room (Nat.le_of_ble_eq_true rfl)) dJ1_init_1 ⟨Nat.le_of_ble_eq_true rfl, Nat.le_of_ble_eq_true rfl⟩)) (fun _ => ?_)
  refine lv_aload_n hx hb dJ1_init_4 rfl (lv_at hl 0 rfl) ?_
  refine lv_iconst (v := nI 0) hx hb dJ1_init_5 (by decide) ?_
  refine va_put (D := D) (ci := 15) (v := .int (nI 0)) (C := RJ2) (T := TJ2) (N := 3) hx hb hts in_J2 tyJ2 tyJ2_ok nmJ2 hown hG.1 hP hD hS 0 rfl rfl 0 (by decide) (hts _ q125) (fun _ h => h) rfl rfl (rfl) (rfl) (Nat.le_of_ble_eq_true rfl) dJ1_init_6 (fun H locs hP hD hS => ?_)
  have hP : va_P D CL [(a, .inr (15, [.int (nI 0), .null, .int (nI 0)]))] H := hP
  have hD : va_D A [(a, .inr (15, [.int (nI 0), .null, .int (nI 0)]))] := hD
  subst hQ
  have hP9 : va_P D CL [(a, .inr (15, [.int (nI 0), .null, .int (nI 0)]))] H := hP.sub [0] rfl
  have hD9 : va_D A [(a, .inr (15, [.int (nI 0), .null, .int (nI 0)]))] := hD.sub [0] (by decide) rfl
  exact W.vret hx hb hrt (fun t ht hW => ⟨⟨(), rfl, trivial, by rw [ht]; exact hP9, hD9, GK.warm hW hG⟩, hS.F ht⟩) hS.2.2 dJ1_init_9

abbrev r_J2_init : Room := { frames := 3, cells := 0, slots := 0, locals := 60 }
set_option maxHeartbeats 1000000 in
theorem c_J2_init (lh : Launch) (D : va_G) (dA : Nat → ClassId) (sz : Nat) (a : Nat) (K : Nat → Nat) : Met lh yJ2_init (ws_ yJ2_init cJ2_init 1 none) r_J2_init (PX (fun U H => H.size = sz ∧ va_P D CL [(a, .inr (15, [.int (nI 0), .null, .int (nI 0)]))] H ∧ va_D nT [(a, .inr (15, [.int (nI 0), .null, .int (nI 0)]))] ∧ GK D dA U ∧ KL K (va_A [(a, .inr (15, [.int (nI 0), .null, .int (nI 0)]))] sz) U H) [.ref a]) (va_Qv (fun u : Unit => True) (fun (u : Unit) t => va_P D CL [(a, .inr (15, [.int (nI 0), .ref (K 50), .int (nI 0)]))] t.heap ∧ va_D (va_A [(a, .inr (15, [.int (nI 0), .null, .int (nI 0)]))] sz) [(a, .inr (15, [.int (nI 0), .ref (K 50), .int (nI 0)]))] ∧ GK D dA t) (va_A [(a, .inr (15, [.int (nI 0), .null, .int (nI 0)]))] sz)) 0 0 (va_A [(a, .inr (15, [.int (nI 0), .null, .int (nI 0)]))] sz) := by
  refine Met.ofW (cc := cJ2_init) (maxL := 1) (ret := none) (by decide) rfl ?_
  intro p e s m args below meth cd s₁ B hml hv
  obtain ⟨hargs, hsz, hP, hD, hG, hKL⟩ := hv
  have hx := B.exec
  have hb := B.bytes
  have hrt := B.returns
  have hts := atoms_spec (ws := (ws_ yJ2_init cJ2_init 1 none)) B.pre
  have hts : ∀ w ∈ lw_all, w.before _ s = true := fun w h => hts w (List.mem_cons_of_mem _ h)
  have hown : s.vm.findClass RJ2 = some m.cls := findClass_of_methodNamed B.named
  have hlocks := B.notSynchronized
  have hin : meth.name = "<init>" := (name_of_methodNamed B.named B.method).1
  subst hsz
  have hD := hD.self (sz := s.heap.size)
  have hA : ∀ q : Nat, s.heap.size ≤ q → va_A [(a, .inr (15, [.int (nI 0), .null, .int (nI 0)]))] s.heap.size q := fun q h => Or.inr h
  generalize va_A [(a, .inr (15, [.int (nI 0), .null, .int (nI 0)]))] s.heap.size = A at hD hA hKL ⊢
  have hS : va_S A s.heap s.heap [] := va_S.rf
  have hE : entryFrame m args 1 = F0 m 0 ((lg_sl ([.ref a]) ++ List.replicate (1 - (lg_sl ([.ref a])).length) Slot.unset).toArray) [] := by rw [hargs]; exact lg_entry_eq m _ 1
  have hl := lv_entry ([.ref a]) (n := 1) (Nat.le_of_ble_eq_true rfl)
  rw [hE]
  clear hE
  generalize (lg_sl ([.ref a]) ++ List.replicate (1 - (lg_sl ([.ref a])).length) Slot.unset).toArray = ls at hl ⊢
  have hl : lv_has ls 1 [(0, .ref a)] := hl
  generalize hQ : MQ _ _ _ _ _ _ _ = Q
  refine lv_aload_n hx hb dJ2_init_0 rfl (lv_at hl 0 rfl) ?_
  have hPs : va_P D CL ([(a, .inr (15, [.int (nI 0), .null, .int (nI 0)]))] ++ []) s.heap := hP.sub [0] rfl
  have hDs : va_D A ([(a, .inr (15, [.int (nI 0), .null, .int (nI 0)]))] ++ []) := hD.sub [0] (by decide) rfl
  have hz9 := hS.1
  refine va_callv (va_runI (As := []) (rest := []) ⟨hx, hb, hml, hown, hts⟩ (c_J1_init lh D dA s.heap.size a) (cwI 0 hts (lw_meth q116) rfl rfl rfl (hts _ q64) (hts _ q114) (hts _ q115) rfl (by decide +kernel) ⟨Nat.le_of_ble_eq_true rfl, Nat.le_of_ble_eq_true rfl⟩) ⟨PX.blind (Mv.and Mv.heap (Mv.and Mv.heap (Mv.and Mv.heap Mv.gk))), PX.pre (Mv.and Mv.heap (Mv.and Mv.heap (Mv.and Mv.heap Mv.gk))) ⟨rfl, (va_P_left hPs), (va_D_left hDs), hG⟩⟩ rfl rfl hl.1 rfl (lv_room (Nat.le_of_ble_eq_true rfl)) dJ2_init_1 ⟨Nat.le_of_ble_eq_true rfl, Nat.le_of_ble_eq_true rfl⟩) hS (fun q _ => (va_A_up hDs hA hS.1) q) ((va_A_up hDs hA hS.1)) (fun u t H1 locs ht hvm hp hB hz hk hS => ?_)
  obtain ⟨hP1, hD1, -⟩ := hB
  rw [ht] at hP1
  obtain ⟨hP, hD⟩ := vp_join hPs hDs hP1 hD1 hk hA hz9
  clear ht hvm hz hk hP1 hD1 hPs hDs hz9
  generalize H1 = H at hP hS ⊢
  have hP : va_P D CL [(a, .inr (15, [.int (nI 0), .null, .int (nI 0)]))] H := hP
  have hD : va_D A [(a, .inr (15, [.int (nI 0), .null, .int (nI 0)]))] := hD
  refine lv_aload_n hx hb dJ2_init_4 rfl (lv_at hl 0 rfl) ?_
  refine KL_get hx hb hKL hS hown (hts _ q121) dJ2_init_5 ?_
  refine va_put (D := D) (ci := 15) (v := .ref (K 50)) (C := RJ2) (T := TJ2) (N := 3) hx hb hts in_J2 tyJ2 tyJ2_ok nmJ2 hown hG.1 hP hD hS 0 rfl rfl 1 (by decide) (hts _ q123) (fun _ h => h) rfl rfl (rfl) (rfl) (Nat.le_of_ble_eq_true rfl) dJ2_init_8 (fun H locs hP hD hS => ?_)
  have hP : va_P D CL [(a, .inr (15, [.int (nI 0), .ref (K 50), .int (nI 0)]))] H := hP
  have hD : va_D A [(a, .inr (15, [.int (nI 0), .ref (K 50), .int (nI 0)]))] := hD
  subst hQ
  have hP9 : va_P D CL [(a, .inr (15, [.int (nI 0), .ref (K 50), .int (nI 0)]))] H := hP.sub [0] rfl
  have hD9 : va_D A [(a, .inr (15, [.int (nI 0), .ref (K 50), .int (nI 0)]))] := hD.sub [0] (by decide) rfl
  exact W.vret hx hb hrt (fun t ht hW => ⟨⟨(), rfl, trivial, by rw [ht]; exact hP9, hD9, GK.warm hW hG⟩, hS.F ht⟩) hS.2.2 dJ2_init_11

abbrev r_J2_init_2 (n : Nat) : Room := { frames := 3, cells := 1, slots := n, locals := 60 }
set_option maxHeartbeats 1000000 in
theorem c_J2_init_2 (lh : Launch) (D : va_G) (dA : Nat → ClassId) (sz : Nat) (a : Nat) (n : Nat) (h1 : 0 < n) (h2 : n < 2 ^ 20) : Met lh yJ2_init_2 (ws_ yJ2_init_2 cJ2_init_2 2 none) (r_J2_init_2 n) (PX (fun U H => H.size = sz ∧ va_P D CL [(a, .inr (15, [.int (nI 0), .null, .int (nI 0)]))] H ∧ va_D nT [(a, .inr (15, [.int (nI 0), .null, .int (nI 0)]))] ∧ GK D dA U) [.ref a, .int (nI n)]) (va_Qv (fun u : Nat => True) (fun (u : Nat) t => va_P D CL [(a, .inr (15, [.int (nI 0), .ref u, .int (nI 0)])), (u, .inl (dA 4, n, rfA (fun _ => none)))] t.heap ∧ va_D (va_A [(a, .inr (15, [.int (nI 0), .null, .int (nI 0)]))] sz) [(a, .inr (15, [.int (nI 0), .ref u, .int (nI 0)])), (u, .inl (dA 4, n, rfA (fun _ => none)))] ∧ GK D dA t) (va_A [(a, .inr (15, [.int (nI 0), .null, .int (nI 0)]))] sz)) 1 n (va_A [(a, .inr (15, [.int (nI 0), .null, .int (nI 0)]))] sz) := by
  refine Met.ofW (cc := cJ2_init_2) (maxL := 2) (ret := none) (by decide) rfl ?_
  intro p e s m args below meth cd s₁ B hml hv
  obtain ⟨hargs, hsz, hP, hD, hG⟩ := hv
  have hx := B.exec
  have hb := B.bytes
  have hrt := B.returns
  have hts := atoms_spec (ws := (ws_ yJ2_init_2 cJ2_init_2 2 none)) B.pre
  have hts : ∀ w ∈ lw_all, w.before _ s = true := fun w h => hts w (List.mem_cons_of_mem _ h)
  have hown : s.vm.findClass RJ2 = some m.cls := findClass_of_methodNamed B.named
  have hlocks := B.notSynchronized
  have hin : meth.name = "<init>" := (name_of_methodNamed B.named B.method).1
  subst hsz
  have hD := hD.self (sz := s.heap.size)
  have hA : ∀ q : Nat, s.heap.size ≤ q → va_A [(a, .inr (15, [.int (nI 0), .null, .int (nI 0)]))] s.heap.size q := fun q h => Or.inr h
  generalize va_A [(a, .inr (15, [.int (nI 0), .null, .int (nI 0)]))] s.heap.size = A at hD hA ⊢
  have hS : va_S A s.heap s.heap [] := va_S.rf
  have hE : entryFrame m args 2 = F0 m 0 ((lg_sl ([.ref a, .int (nI n)]) ++ List.replicate (2 - (lg_sl ([.ref a, .int (nI n)])).length) Slot.unset).toArray) [] := by rw [hargs]; exact lg_entry_eq m _ 2
  have hl := lv_entry ([.ref a, .int (nI n)]) (n := 2) (Nat.le_of_ble_eq_true rfl)
  rw [hE]
  clear hE
  generalize (lg_sl ([.ref a, .int (nI n)]) ++ List.replicate (2 - (lg_sl ([.ref a, .int (nI n)])).length) Slot.unset).toArray = ls at hl ⊢
  have hl : lv_has ls 2 [(0, .ref a), (1, .int (nI n))] := hl
  generalize hQ : MQ _ _ _ _ _ _ _ = Q
  refine lv_aload_n hx hb dJ2_init_2_0 rfl (lv_at hl 0 rfl) ?_
  have hPs : va_P D CL ([(a, .inr (15, [.int (nI 0), .null, .int (nI 0)]))] ++ []) s.heap := hP.sub [0] rfl
  have hDs : va_D A ([(a, .inr (15, [.int (nI 0), .null, .int (nI 0)]))] ++ []) := hD.sub [0] (by decide) rfl
  have hz9 := hS.1
  refine va_callv (va_runI (As := []) (rest := []) ⟨hx, hb, hml, hown, hts⟩ (c_J1_init lh D dA s.heap.size a) (cwI 0 hts (lw_meth q116) rfl rfl rfl (hts _ q64) (hts _ q114) (hts _ q115) rfl (by decide +kernel) ⟨Nat.le_of_ble_eq_true rfl, Nat.le_of_ble_eq_true rfl⟩) ⟨PX.blind (Mv.and Mv.heap (Mv.and Mv.heap (Mv.and Mv.heap Mv.gk))), PX.pre (Mv.and Mv.heap (Mv.and Mv.heap (Mv.and Mv.heap Mv.gk))) ⟨rfl, (va_P_left hPs), (va_D_left hDs), hG⟩⟩ rfl rfl hl.1 rfl (lv_room (Nat.le_of_ble_eq_true rfl)) dJ2_init_2_1 ⟨Nat.le_of_ble_eq_true rfl, Nat.le_of_ble_eq_true rfl⟩) hS (fun q _ => (va_A_up hDs hA hS.1) q) ((va_A_up hDs hA hS.1)) (fun u t H1 locs ht hvm hp hB hz hk hS => ?_)
  obtain ⟨hP1, hD1, -⟩ := hB
  rw [ht] at hP1
  obtain ⟨hP, hD⟩ := vp_join hPs hDs hP1 hD1 hk hA hz9
  clear ht hvm hz hk hP1 hD1 hPs hDs hz9
  generalize H1 = H at hP hS ⊢
  have hP : va_P D CL [(a, .inr (15, [.int (nI 0), .null, .int (nI 0)]))] H := hP
  have hD : va_D A [(a, .inr (15, [.int (nI 0), .null, .int (nI 0)]))] := hD
  refine lv_iload_n hx hb dJ2_init_2_4 rfl (lv_at hl 1 rfl) ?_
  refine kn_zle (tgt := 19) hx hb dJ2_init_2_5 (by decide) (by omega) (fun c_5 => ?_) (fun c_5 => ?_)
  · omega
  · refine lv_aload_n hx hb dJ2_init_2_8 rfl (lv_at hl 0 rfl) ?_
    refine lv_iload_n hx hb dJ2_init_2_9 rfl (lv_at hl 1 rfl) ?_
    refine P_newq hx hb hG hown (hts _ q431) hP hD hS hA (n := n) (by omega) (by omega) (Nat.le_of_ble_eq_true rfl) (by show 0 + n ≤ n; omega) dJ2_init_2_10 (fun q10 H hP hD hS => ?_)
    have hP : va_P D CL [(a, .inr (15, [.int (nI 0), .null, .int (nI 0)])), (q10, .inl (dA 4, n, rfA (fun _ => none)))] H := hP
    have hD : va_D A [(a, .inr (15, [.int (nI 0), .null, .int (nI 0)])), (q10, .inl (dA 4, n, rfA (fun _ => none)))] := hD
    refine va_put (D := D) (ci := 15) (v := .ref q10) (C := RJ2) (T := TJ2) (N := 3) hx hb hts in_J2 tyJ2 tyJ2_ok nmJ2 hown hG.1 hP hD hS 0 rfl rfl 1 (by decide) (hts _ q123) (fun _ h => h) rfl rfl (rfl) (rfl) (Nat.le_of_ble_eq_true rfl) dJ2_init_2_13 (fun H locs hP hD hS => ?_)
    have hP : va_P D CL [(a, .inr (15, [.int (nI 0), .ref q10, .int (nI 0)])), (q10, .inl (dA 4, n, rfA (fun _ => none)))] H := hP
    have hD : va_D A [(a, .inr (15, [.int (nI 0), .ref q10, .int (nI 0)])), (q10, .inl (dA 4, n, rfA (fun _ => none)))] := hD
    refine lv_goto (tgt := 60) hx hb dJ2_init_2_16 (by decide) ?_
    subst hQ
    refine W.widen (k := 1) (n := n) (by first | decide | omega) (by first | decide | omega) ?_
    have hP9 : va_P D CL [(a, .inr (15, [.int (nI 0), .ref q10, .int (nI 0)])), (q10, .inl (dA 4, n, rfA (fun _ => none)))] H := hP.sub [0, 1] rfl
    have hD9 : va_D A [(a, .inr (15, [.int (nI 0), .ref q10, .int (nI 0)])), (q10, .inl (dA 4, n, rfA (fun _ => none)))] := hD.sub [0, 1] (by decide) rfl
    exact W.vret hx hb hrt (fun t ht hW => ⟨⟨(q10), rfl, trivial, by rw [ht]; exact hP9, hD9, GK.warm hW hG⟩, hS.F ht⟩) hS.2.2 dJ2_init_2_60

abbrev r_X3_init_C : Room := { frames := 1, cells := 1, slots := 20, locals := 20 }
set_option maxHeartbeats 1000000 in
theorem c_X3_init_C (lh : Launch) (D : va_G) (dA : Nat → ClassId) (sz : Nat) (a : Nat) : Met lh yX3_init (ws_ yX3_init cX3_init 1 none) r_X3_init_C (PX (fun U H => H.size = sz ∧ va_P D CL [(a, .inr (2, [.null, .int (nI 0), .null, .int (nI 0), .int (nI 0), .int (nI 0), .int (nI 0), .int (nI 0), .int (nI 0), .int (nI 0), .int (nI 0)]))] H ∧ va_D nT [(a, .inr (2, [.null, .int (nI 0), .null, .int (nI 0), .int (nI 0), .int (nI 0), .int (nI 0), .int (nI 0), .int (nI 0), .int (nI 0), .int (nI 0)]))] ∧ GK D dA U) [.ref a]) (va_Qv (fun u : Nat => True) (fun (u : Nat) t => va_P D CL [(a, .inr (2, [.ref u, .int (nI 0), .null, .int (nI 0), .int (nI 0), .int (nI 0), .int (nI 0), .int (nI 0), .int (nI 0), .int (nI 0), .int (nI 0)])), (u, .inl (dA 0, 20, .inl (fun _ => 0)))] t.heap ∧ va_D (va_A [(a, .inr (2, [.null, .int (nI 0), .null, .int (nI 0), .int (nI 0), .int (nI 0), .int (nI 0), .int (nI 0), .int (nI 0), .int (nI 0), .int (nI 0)]))] sz) [(a, .inr (2, [.ref u, .int (nI 0), .null, .int (nI 0), .int (nI 0), .int (nI 0), .int (nI 0), .int (nI 0), .int (nI 0), .int (nI 0), .int (nI 0)])), (u, .inl (dA 0, 20, .inl (fun _ => 0)))] ∧ GK D dA t) (va_A [(a, .inr (2, [.null, .int (nI 0), .null, .int (nI 0), .int (nI 0), .int (nI 0), .int (nI 0), .int (nI 0), .int (nI 0), .int (nI 0), .int (nI 0)]))] sz)) 1 20 (va_A [(a, .inr (2, [.null, .int (nI 0), .null, .int (nI 0), .int (nI 0), .int (nI 0), .int (nI 0), .int (nI 0), .int (nI 0), .int (nI 0), .int (nI 0)]))] sz) := by
  refine Met.ofW (cc := cX3_init) (maxL := 1) (ret := none) (by decide) rfl ?_
  intro p e s m args below meth cd s₁ B hml hv
  obtain ⟨hargs, hsz, hP, hD, hG⟩ := hv
  have hx := B.exec
  have hb := B.bytes
  have hrt := B.returns
  have hts := atoms_spec (ws := (ws_ yX3_init cX3_init 1 none)) B.pre
  have hts : ∀ w ∈ lw_all, w.before _ s = true := fun w h => hts w (List.mem_cons_of_mem _ h)
  have hown : s.vm.findClass RX3 = some m.cls := findClass_of_methodNamed B.named
  have hlocks := B.notSynchronized
  have hin : meth.name = "<init>" := (name_of_methodNamed B.named B.method).1
  subst hsz
  have hD := hD.self (sz := s.heap.size)
  have hA : ∀ q : Nat, s.heap.size ≤ q → va_A [(a, .inr (2, [.null, .int (nI 0), .null, .int (nI 0), .int (nI 0), .int (nI 0), .int (nI 0), .int (nI 0), .int (nI 0), .int (nI 0), .int (nI 0)]))] s.heap.size q := fun q h => Or.inr h
  generalize va_A [(a, .inr (2, [.null, .int (nI 0), .null, .int (nI 0), .int (nI 0), .int (nI 0), .int (nI 0), .int (nI 0), .int (nI 0), .int (nI 0), .int (nI 0)]))] s.heap.size = A at hD hA ⊢
  have hS : va_S A s.heap s.heap [] := va_S.rf
  have hE : entryFrame m args 1 = F0 m 0 ((lg_sl ([.ref a]) ++ List.replicate (1 - (lg_sl ([.ref a])).length) Slot.unset).toArray) [] := by rw [hargs]; exact lg_entry_eq m _ 1
  have hl := lv_entry ([.ref a]) (n := 1) (Nat.le_of_ble_eq_true rfl)
  rw [hE]
  clear hE
  generalize (lg_sl ([.ref a]) ++ List.replicate (1 - (lg_sl ([.ref a])).length) Slot.unset).toArray = ls at hl ⊢
  have hl : lv_has ls 1 [(0, .ref a)] := hl
  generalize hQ : MQ _ _ _ _ _ _ _ = Q
  refine lv_aload_n hx hb dX3_init_0 rfl (lv_at hl 0 rfl) ?_
  refine W.objInit hx hb hown (hts _ q316) (hts _ q105) (hts _ q106) rfl (by rw [hml]; exact hl.1) rfl dX3_init_1 (Nat.le_of_ble_eq_true rfl) (Nat.le_of_ble_eq_true rfl) ?_
  refine W.eq (g2 := F0 m 4 ls []) rfl ?_
  refine lv_aload_n hx hb dX3_init_4 rfl (lv_at hl 0 rfl) ?_
  refine lv_bipush (v := nI 20) hx hb dX3_init_5 (by decide) ?_
  refine P_newi (atype := .int) hx hb hG (hts _ q135) rfl 0 rfl hP hD hS hA (n := 20) (by decide) (by decide) (Nat.le_of_ble_eq_true rfl) (Nat.le_of_ble_eq_true rfl) dX3_init_7 (fun q7 H hP hD hS => ?_)
  have hP : va_P D CL [(a, .inr (2, [.null, .int (nI 0), .null, .int (nI 0), .int (nI 0), .int (nI 0), .int (nI 0), .int (nI 0), .int (nI 0), .int (nI 0), .int (nI 0)])), (q7, .inl (dA 0, 20, .inl (fun _ => 0)))] H := hP
  have hD : va_D A [(a, .inr (2, [.null, .int (nI 0), .null, .int (nI 0), .int (nI 0), .int (nI 0), .int (nI 0), .int (nI 0), .int (nI 0), .int (nI 0), .int (nI 0)])), (q7, .inl (dA 0, 20, .inl (fun _ => 0)))] := hD
  refine va_putF (D := D) (ci := 2) (v := .ref q7) (C := RX4) (T := TX4) (N := 11) hx hb hts in_X4 tyX4 tyX4_ok nmX4 hown hG.1 hP hD hS 0 rfl rfl 0 (by decide) (hts _ q337) (fun _ h => h) rfl hin rfl rfl (rfl) (rfl) (Nat.le_of_ble_eq_true rfl) dX3_init_9 (fun H locs hP hD hS => ?_)
  have hP : va_P D CL [(a, .inr (2, [.ref q7, .int (nI 0), .null, .int (nI 0), .int (nI 0), .int (nI 0), .int (nI 0), .int (nI 0), .int (nI 0), .int (nI 0), .int (nI 0)])), (q7, .inl (dA 0, 20, .inl (fun _ => 0)))] H := hP
  have hD : va_D A [(a, .inr (2, [.ref q7, .int (nI 0), .null, .int (nI 0), .int (nI 0), .int (nI 0), .int (nI 0), .int (nI 0), .int (nI 0), .int (nI 0), .int (nI 0)])), (q7, .inl (dA 0, 20, .inl (fun _ => 0)))] := hD
  subst hQ
  have hP9 : va_P D CL [(a, .inr (2, [.ref q7, .int (nI 0), .null, .int (nI 0), .int (nI 0), .int (nI 0), .int (nI 0), .int (nI 0), .int (nI 0), .int (nI 0), .int (nI 0)])), (q7, .inl (dA 0, 20, .inl (fun _ => 0)))] H := hP.sub [0, 1] rfl
  have hD9 : va_D A [(a, .inr (2, [.ref q7, .int (nI 0), .null, .int (nI 0), .int (nI 0), .int (nI 0), .int (nI 0), .int (nI 0), .int (nI 0), .int (nI 0), .int (nI 0)])), (q7, .inl (dA 0, 20, .inl (fun _ => 0)))] := hD.sub [0, 1] (by decide) rfl
  exact W.vret hx hb hrt (fun t ht hW => ⟨⟨(q7), rfl, trivial, by rw [ht]; exact hP9, hD9, GK.warm hW hG⟩, hS.F ht⟩) hS.2.2 dX3_init_12

abbrev r_X3_init_J : Room := { frames := 1, cells := 1, slots := 20, locals := 20 }
set_option maxHeartbeats 1000000 in
theorem c_X3_init_J (lh : Launch) (D : va_G) (dA : Nat → ClassId) (sz : Nat) (a : Nat) : Met lh yX3_init (ws_ yX3_init cX3_init 1 none) r_X3_init_J (PX (fun U H => H.size = sz ∧ va_P D CL [(a, .inr (3, [.null]))] H ∧ va_D nT [(a, .inr (3, [.null]))] ∧ GK D dA U) [.ref a]) (va_Qv (fun u : Nat => True) (fun (u : Nat) t => va_P D CL [(a, .inr (3, [.ref u])), (u, .inl (dA 0, 20, .inl (fun _ => 0)))] t.heap ∧ va_D (va_A [(a, .inr (3, [.null]))] sz) [(a, .inr (3, [.ref u])), (u, .inl (dA 0, 20, .inl (fun _ => 0)))] ∧ GK D dA t) (va_A [(a, .inr (3, [.null]))] sz)) 1 20 (va_A [(a, .inr (3, [.null]))] sz) := by
  refine Met.ofW (cc := cX3_init) (maxL := 1) (ret := none) (by decide) rfl ?_
  intro p e s m args below meth cd s₁ B hml hv
  obtain ⟨hargs, hsz, hP, hD, hG⟩ := hv
  have hx := B.exec
  have hb := B.bytes
  have hrt := B.returns
  have hts := atoms_spec (ws := (ws_ yX3_init cX3_init 1 none)) B.pre
  have hts : ∀ w ∈ lw_all, w.before _ s = true := fun w h => hts w (List.mem_cons_of_mem _ h)
  have hown : s.vm.findClass RX3 = some m.cls := findClass_of_methodNamed B.named
  have hlocks := B.notSynchronized
  have hin : meth.name = "<init>" := (name_of_methodNamed B.named B.method).1
  subst hsz
  have hD := hD.self (sz := s.heap.size)
  have hA : ∀ q : Nat, s.heap.size ≤ q → va_A [(a, .inr (3, [.null]))] s.heap.size q := fun q h => Or.inr h
  generalize va_A [(a, .inr (3, [.null]))] s.heap.size = A at hD hA ⊢
  have hS : va_S A s.heap s.heap [] := va_S.rf
  have hE : entryFrame m args 1 = F0 m 0 ((lg_sl ([.ref a]) ++ List.replicate (1 - (lg_sl ([.ref a])).length) Slot.unset).toArray) [] := by rw [hargs]; exact lg_entry_eq m _ 1
  have hl := lv_entry ([.ref a]) (n := 1) (Nat.le_of_ble_eq_true rfl)
  rw [hE]
  clear hE
  generalize (lg_sl ([.ref a]) ++ List.replicate (1 - (lg_sl ([.ref a])).length) Slot.unset).toArray = ls at hl ⊢
  have hl : lv_has ls 1 [(0, .ref a)] := hl
  generalize hQ : MQ _ _ _ _ _ _ _ = Q
  refine lv_aload_n hx hb dX3_init_0 rfl (lv_at hl 0 rfl) ?_
  refine W.objInit hx hb hown (hts _ q316) (hts _ q105) (hts _ q106) rfl (by rw [hml]; exact hl.1) rfl dX3_init_1 (Nat.le_of_ble_eq_true rfl) (Nat.le_of_ble_eq_true rfl) ?_
  refine W.eq (g2 := F0 m 4 ls []) rfl ?_
  refine lv_aload_n hx hb dX3_init_4 rfl (lv_at hl 0 rfl) ?_
  refine lv_bipush (v := nI 20) hx hb dX3_init_5 (by decide) ?_
  refine P_newi (atype := .int) hx hb hG (hts _ q135) rfl 0 rfl hP hD hS hA (n := 20) (by decide) (by decide) (Nat.le_of_ble_eq_true rfl) (Nat.le_of_ble_eq_true rfl) dX3_init_7 (fun q7 H hP hD hS => ?_)
  have hP : va_P D CL [(a, .inr (3, [.null])), (q7, .inl (dA 0, 20, .inl (fun _ => 0)))] H := hP
  have hD : va_D A [(a, .inr (3, [.null])), (q7, .inl (dA 0, 20, .inl (fun _ => 0)))] := hD
  refine va_putF (D := D) (ci := 3) (v := .ref q7) (C := RX18) (T := TX18) (N := 1) hx hb hts in_X18 tyX18 tyX18_ok nmX18 hown hG.1 hP hD hS 0 rfl rfl 0 (by decide) (hts _ q337) (fun _ h => h) rfl hin rfl rfl (rfl) (rfl) (Nat.le_of_ble_eq_true rfl) dX3_init_9 (fun H locs hP hD hS => ?_)
  have hP : va_P D CL [(a, .inr (3, [.ref q7])), (q7, .inl (dA 0, 20, .inl (fun _ => 0)))] H := hP
  have hD : va_D A [(a, .inr (3, [.ref q7])), (q7, .inl (dA 0, 20, .inl (fun _ => 0)))] := hD
  subst hQ
  have hP9 : va_P D CL [(a, .inr (3, [.ref q7])), (q7, .inl (dA 0, 20, .inl (fun _ => 0)))] H := hP.sub [0, 1] rfl
  have hD9 : va_D A [(a, .inr (3, [.ref q7])), (q7, .inl (dA 0, 20, .inl (fun _ => 0)))] := hD.sub [0, 1] (by decide) rfl
  exact W.vret hx hb hrt (fun t ht hW => ⟨⟨(q7), rfl, trivial, by rw [ht]; exact hP9, hD9, GK.warm hW hG⟩, hS.F ht⟩) hS.2.2 dX3_init_12

abbrev r_X18_init : Room := { frames := 2, cells := 1, slots := 20, locals := 40 }
set_option maxHeartbeats 1000000 in
theorem c_X18_init (lh : Launch) (D : va_G) (dA : Nat → ClassId) (sz : Nat) (a : Nat) : Met lh yX18_init (ws_ yX18_init cX18_init 1 none) r_X18_init (PX (fun U H => H.size = sz ∧ va_P D CL [(a, .inr (3, [.null]))] H ∧ va_D nT [(a, .inr (3, [.null]))] ∧ GK D dA U) [.ref a]) (va_Qv (fun u : Nat => True) (fun (u : Nat) t => va_P D CL [(a, .inr (3, [.ref u])), (u, .inl (dA 0, 20, .inl (fun _ => 0)))] t.heap ∧ va_D (va_A [(a, .inr (3, [.null]))] sz) [(a, .inr (3, [.ref u])), (u, .inl (dA 0, 20, .inl (fun _ => 0)))] ∧ GK D dA t) (va_A [(a, .inr (3, [.null]))] sz)) 1 20 (va_A [(a, .inr (3, [.null]))] sz) := by
  refine Met.ofW (cc := cX18_init) (maxL := 1) (ret := none) (by decide) rfl ?_
  intro p e s m args below meth cd s₁ B hml hv
  obtain ⟨hargs, hsz, hP, hD, hG⟩ := hv
  have hx := B.exec
  have hb := B.bytes
  have hrt := B.returns
  have hts := atoms_spec (ws := (ws_ yX18_init cX18_init 1 none)) B.pre
  have hts : ∀ w ∈ lw_all, w.before _ s = true := fun w h => hts w (List.mem_cons_of_mem _ h)
  have hown : s.vm.findClass RX18 = some m.cls := findClass_of_methodNamed B.named
  have hlocks := B.notSynchronized
  have hin : meth.name = "<init>" := (name_of_methodNamed B.named B.method).1
  subst hsz
  have hD := hD.self (sz := s.heap.size)
  have hA : ∀ q : Nat, s.heap.size ≤ q → va_A [(a, .inr (3, [.null]))] s.heap.size q := fun q h => Or.inr h
  generalize va_A [(a, .inr (3, [.null]))] s.heap.size = A at hD hA ⊢
  have hS : va_S A s.heap s.heap [] := va_S.rf
  have hE : entryFrame m args 1 = F0 m 0 ((lg_sl ([.ref a]) ++ List.replicate (1 - (lg_sl ([.ref a])).length) Slot.unset).toArray) [] := by rw [hargs]; exact lg_entry_eq m _ 1
  have hl := lv_entry ([.ref a]) (n := 1) (Nat.le_of_ble_eq_true rfl)
  rw [hE]
  clear hE
  generalize (lg_sl ([.ref a]) ++ List.replicate (1 - (lg_sl ([.ref a])).length) Slot.unset).toArray = ls at hl ⊢
  have hl : lv_has ls 1 [(0, .ref a)] := hl
  generalize hQ : MQ _ _ _ _ _ _ _ = Q
  refine lv_aload_n hx hb dX18_init_0 rfl (lv_at hl 0 rfl) ?_
  have hPs : va_P D CL ([(a, .inr (3, [.null]))] ++ []) s.heap := hP.sub [0] rfl
  have hDs : va_D A ([(a, .inr (3, [.null]))] ++ []) := hD.sub [0] (by decide) rfl
  have hz9 := hS.1
  refine va_callv (va_runIN (As := []) (rest := []) ⟨hx, hb, hml, hown, hts⟩ (c_X3_init_J lh D dA s.heap.size a) ⟨(va_cnB 0 hts (lw_meth q315) rfl rfl rfl (hG.2.1 _ q1168 rfl) (hts _ q72) (by decide +kernel) ⟨Nat.le_of_ble_eq_true rfl, Nat.le_of_ble_eq_true rfl⟩), rfl, hts _ q314⟩ ⟨PX.blind (Mv.and Mv.heap (Mv.and Mv.heap (Mv.and Mv.heap Mv.gk))), PX.pre (Mv.and Mv.heap (Mv.and Mv.heap (Mv.and Mv.heap Mv.gk))) ⟨rfl, (va_P_left hPs), (va_D_left hDs), hG⟩⟩ rfl rfl hl.1 rfl (lv_room (Nat.le_of_ble_eq_true rfl)) dX18_init_1 ⟨Nat.le_of_ble_eq_true rfl, Nat.le_of_ble_eq_true rfl⟩) hS (fun q _ => (va_A_up hDs hA hS.1) q) ((va_A_up hDs hA hS.1)) (fun u t H1 locs ht hvm hp hB hz hk hS => ?_)
  generalize u = u1 at hp hB
  obtain ⟨hP1, hD1, -⟩ := hB
  rw [ht] at hP1
  obtain ⟨hP, hD⟩ := vp_join hPs hDs hP1 hD1 hk hA hz9
  clear ht hvm hz hk hP1 hD1 hPs hDs hz9
  generalize H1 = H at hP hS ⊢
  have hP : va_P D CL [(a, .inr (3, [.ref u1])), (u1, .inl (dA 0, 20, .inl (fun _ => 0)))] H := hP
  have hD : va_D A [(a, .inr (3, [.ref u1])), (u1, .inl (dA 0, 20, .inl (fun _ => 0)))] := hD
  subst hQ
  have hP9 : va_P D CL [(a, .inr (3, [.ref u1])), (u1, .inl (dA 0, 20, .inl (fun _ => 0)))] H := hP.sub [0, 1] rfl
  have hD9 : va_D A [(a, .inr (3, [.ref u1])), (u1, .inl (dA 0, 20, .inl (fun _ => 0)))] := hD.sub [0, 1] (by decide) rfl
  exact W.vret hx hb hrt (fun t ht hW => ⟨⟨(u1), rfl, trivial, by rw [ht]; exact hP9, hD9, GK.warm hW hG⟩, hS.F ht⟩) hS.2.2 dX18_init_4

abbrev r_X4_init : Room := { frames := 2, cells := 2, slots := 620, locals := 40 }
set_option maxHeartbeats 1000000 in
theorem c_X4_init (lh : Launch) (D : va_G) (dA : Nat → ClassId) (sz : Nat) (a : Nat) (n : Nat) (p0 : Nat) (sa : Nat) (nw : Nat) : Met lh yX4_init (ws_ yX4_init cX4_init 5 none) r_X4_init (PX (fun U H => H.size = sz ∧ va_P D CL [(a, .inr (2, [.null, .int (nI 0), .null, .int (nI 0), .int (nI 0), .int (nI 0), .int (nI 0), .int (nI 0), .int (nI 0), .int (nI 0), .int (nI 0)]))] H ∧ va_D nT [(a, .inr (2, [.null, .int (nI 0), .null, .int (nI 0), .int (nI 0), .int (nI 0), .int (nI 0), .int (nI 0), .int (nI 0), .int (nI 0), .int (nI 0)]))] ∧ GK D dA U) [.ref a, .int (nI n), .int (nI p0), .int (nI sa), .int (nI nw)]) (va_Qv (fun u : Nat × Nat => True) (fun (u : Nat × Nat) t => va_P D CL [(a, .inr (2, [.ref u.1, .int (nI n), .ref u.2, .int (nI p0), .int (nI sa), .int (nI 0), .int (nI nw), .int (nI 0), .int (nI 0), .int (nI 0), .int (-1)])), (u.1, .inl (dA 0, 20, .inl (fun _ => 0))), (u.2, .inl (dA 1, 600, .inl (fun _ => 0)))] t.heap ∧ va_D (va_A [(a, .inr (2, [.null, .int (nI 0), .null, .int (nI 0), .int (nI 0), .int (nI 0), .int (nI 0), .int (nI 0), .int (nI 0), .int (nI 0), .int (nI 0)]))] sz) [(a, .inr (2, [.ref u.1, .int (nI n), .ref u.2, .int (nI p0), .int (nI sa), .int (nI 0), .int (nI nw), .int (nI 0), .int (nI 0), .int (nI 0), .int (-1)])), (u.1, .inl (dA 0, 20, .inl (fun _ => 0))), (u.2, .inl (dA 1, 600, .inl (fun _ => 0)))] ∧ GK D dA t) (va_A [(a, .inr (2, [.null, .int (nI 0), .null, .int (nI 0), .int (nI 0), .int (nI 0), .int (nI 0), .int (nI 0), .int (nI 0), .int (nI 0), .int (nI 0)]))] sz)) 2 620 (va_A [(a, .inr (2, [.null, .int (nI 0), .null, .int (nI 0), .int (nI 0), .int (nI 0), .int (nI 0), .int (nI 0), .int (nI 0), .int (nI 0), .int (nI 0)]))] sz) := by
  refine Met.ofW (cc := cX4_init) (maxL := 5) (ret := none) (by decide) rfl ?_
  intro p e s m args below meth cd s₁ B hml hv
  obtain ⟨hargs, hsz, hP, hD, hG⟩ := hv
  have hx := B.exec
  have hb := B.bytes
  have hrt := B.returns
  have hts := atoms_spec (ws := (ws_ yX4_init cX4_init 5 none)) B.pre
  have hts : ∀ w ∈ lw_all, w.before _ s = true := fun w h => hts w (List.mem_cons_of_mem _ h)
  have hown : s.vm.findClass RX4 = some m.cls := findClass_of_methodNamed B.named
  have hlocks := B.notSynchronized
  have hin : meth.name = "<init>" := (name_of_methodNamed B.named B.method).1
  subst hsz
  have hD := hD.self (sz := s.heap.size)
  have hA : ∀ q : Nat, s.heap.size ≤ q → va_A [(a, .inr (2, [.null, .int (nI 0), .null, .int (nI 0), .int (nI 0), .int (nI 0), .int (nI 0), .int (nI 0), .int (nI 0), .int (nI 0), .int (nI 0)]))] s.heap.size q := fun q h => Or.inr h
  generalize va_A [(a, .inr (2, [.null, .int (nI 0), .null, .int (nI 0), .int (nI 0), .int (nI 0), .int (nI 0), .int (nI 0), .int (nI 0), .int (nI 0), .int (nI 0)]))] s.heap.size = A at hD hA ⊢
  have hS : va_S A s.heap s.heap [] := va_S.rf
  have hE : entryFrame m args 5 = F0 m 0 ((lg_sl ([.ref a, .int (nI n), .int (nI p0), .int (nI sa), .int (nI nw)]) ++ List.replicate (5 - (lg_sl ([.ref a, .int (nI n), .int (nI p0), .int (nI sa), .int (nI nw)])).length) Slot.unset).toArray) [] := by rw [hargs]; exact lg_entry_eq m _ 5
  have hl := lv_entry ([.ref a, .int (nI n), .int (nI p0), .int (nI sa), .int (nI nw)]) (n := 5) (Nat.le_of_ble_eq_true rfl)
  rw [hE]
  clear hE
  generalize (lg_sl ([.ref a, .int (nI n), .int (nI p0), .int (nI sa), .int (nI nw)]) ++ List.replicate (5 - (lg_sl ([.ref a, .int (nI n), .int (nI p0), .int (nI sa), .int (nI nw)])).length) Slot.unset).toArray = ls at hl ⊢
  have hl : lv_has ls 5 [(0, .ref a), (1, .int (nI n)), (2, .int (nI p0)), (3, .int (nI sa)), (4, .int (nI nw))] := hl
  generalize hQ : MQ _ _ _ _ _ _ _ = Q
  refine lv_aload_n hx hb dX4_init_0 rfl (lv_at hl 0 rfl) ?_
  have hPs : va_P D CL ([(a, .inr (2, [.null, .int (nI 0), .null, .int (nI 0), .int (nI 0), .int (nI 0), .int (nI 0), .int (nI 0), .int (nI 0), .int (nI 0), .int (nI 0)]))] ++ []) s.heap := hP.sub [0] rfl
  have hDs : va_D A ([(a, .inr (2, [.null, .int (nI 0), .null, .int (nI 0), .int (nI 0), .int (nI 0), .int (nI 0), .int (nI 0), .int (nI 0), .int (nI 0), .int (nI 0)]))] ++ []) := hD.sub [0] (by decide) rfl
  have hz9 := hS.1
  refine va_callv (va_runIN (As := []) (rest := []) ⟨hx, hb, hml, hown, hts⟩ (c_X3_init_C lh D dA s.heap.size a) ⟨(va_cnB 0 hts (lw_meth q315) rfl rfl rfl (hG.2.1 _ q313 rfl) (hts _ q72) (by decide +kernel) ⟨Nat.le_of_ble_eq_true rfl, Nat.le_of_ble_eq_true rfl⟩), rfl, hts _ q314⟩ ⟨PX.blind (Mv.and Mv.heap (Mv.and Mv.heap (Mv.and Mv.heap Mv.gk))), PX.pre (Mv.and Mv.heap (Mv.and Mv.heap (Mv.and Mv.heap Mv.gk))) ⟨rfl, (va_P_left hPs), (va_D_left hDs), hG⟩⟩ rfl rfl hl.1 rfl (lv_room (Nat.le_of_ble_eq_true rfl)) dX4_init_1 ⟨Nat.le_of_ble_eq_true rfl, Nat.le_of_ble_eq_true rfl⟩) hS (fun q _ => (va_A_up hDs hA hS.1) q) ((va_A_up hDs hA hS.1)) (fun u t H1 locs ht hvm hp hB hz hk hS => ?_)
  generalize u = u1 at hp hB
  obtain ⟨hP1, hD1, -⟩ := hB
  rw [ht] at hP1
  obtain ⟨hP, hD⟩ := vp_join hPs hDs hP1 hD1 hk hA hz9
  clear ht hvm hz hk hP1 hD1 hPs hDs hz9
  generalize H1 = H at hP hS ⊢
  have hP : va_P D CL [(a, .inr (2, [.ref u1, .int (nI 0), .null, .int (nI 0), .int (nI 0), .int (nI 0), .int (nI 0), .int (nI 0), .int (nI 0), .int (nI 0), .int (nI 0)])), (u1, .inl (dA 0, 20, .inl (fun _ => 0)))] H := hP
  have hD : va_D A [(a, .inr (2, [.ref u1, .int (nI 0), .null, .int (nI 0), .int (nI 0), .int (nI 0), .int (nI 0), .int (nI 0), .int (nI 0), .int (nI 0), .int (nI 0)])), (u1, .inl (dA 0, 20, .inl (fun _ => 0)))] := hD
  refine lv_aload_n hx hb dX4_init_4 rfl (lv_at hl 0 rfl) ?_
  refine lv_sipush (v := nI 600) hx hb dX4_init_5 (by decide) ?_
  refine P_newi (atype := .byte) hx hb hG (hts _ q270) rfl 1 rfl hP hD hS hA (n := 600) (by decide) (by decide) (Nat.le_of_ble_eq_true rfl) (Nat.le_of_ble_eq_true rfl) dX4_init_8 (fun q8 H hP hD hS => ?_)
  have hP : va_P D CL [(a, .inr (2, [.ref u1, .int (nI 0), .null, .int (nI 0), .int (nI 0), .int (nI 0), .int (nI 0), .int (nI 0), .int (nI 0), .int (nI 0), .int (nI 0)])), (u1, .inl (dA 0, 20, .inl (fun _ => 0))), (q8, .inl (dA 1, 600, .inl (fun _ => 0)))] H := hP
  have hD : va_D A [(a, .inr (2, [.ref u1, .int (nI 0), .null, .int (nI 0), .int (nI 0), .int (nI 0), .int (nI 0), .int (nI 0), .int (nI 0), .int (nI 0), .int (nI 0)])), (u1, .inl (dA 0, 20, .inl (fun _ => 0))), (q8, .inl (dA 1, 600, .inl (fun _ => 0)))] := hD
  refine va_putF (D := D) (ci := 2) (v := .ref q8) (C := RX4) (T := TX4) (N := 11) hx hb hts in_X4 tyX4 tyX4_ok nmX4 hown hG.1 hP hD hS 0 rfl rfl 2 (by decide) (hts _ q318) (fun _ h => h) rfl hin rfl rfl (rfl) (rfl) (Nat.le_of_ble_eq_true rfl) dX4_init_10 (fun H locs hP hD hS => ?_)
  have hP : va_P D CL [(a, .inr (2, [.ref u1, .int (nI 0), .ref q8, .int (nI 0), .int (nI 0), .int (nI 0), .int (nI 0), .int (nI 0), .int (nI 0), .int (nI 0), .int (nI 0)])), (u1, .inl (dA 0, 20, .inl (fun _ => 0))), (q8, .inl (dA 1, 600, .inl (fun _ => 0)))] H := hP
  have hD : va_D A [(a, .inr (2, [.ref u1, .int (nI 0), .ref q8, .int (nI 0), .int (nI 0), .int (nI 0), .int (nI 0), .int (nI 0), .int (nI 0), .int (nI 0), .int (nI 0)])), (u1, .inl (dA 0, 20, .inl (fun _ => 0))), (q8, .inl (dA 1, 600, .inl (fun _ => 0)))] := hD
  refine lv_aload_n hx hb dX4_init_13 rfl (lv_at hl 0 rfl) ?_
  refine lv_iconst (v := -1) hx hb dX4_init_14 (by decide) ?_
  refine va_put (D := D) (ci := 2) (v := .int (-1)) (C := RX4) (T := TX4) (N := 11) hx hb hts in_X4 tyX4 tyX4_ok nmX4 hown hG.1 hP hD hS 0 rfl rfl 10 (by decide) (hts _ q335) (fun _ h => h) rfl rfl (rfl) (rfl) (Nat.le_of_ble_eq_true rfl) dX4_init_15 (fun H locs hP hD hS => ?_)
  have hP : va_P D CL [(a, .inr (2, [.ref u1, .int (nI 0), .ref q8, .int (nI 0), .int (nI 0), .int (nI 0), .int (nI 0), .int (nI 0), .int (nI 0), .int (nI 0), .int (-1)])), (u1, .inl (dA 0, 20, .inl (fun _ => 0))), (q8, .inl (dA 1, 600, .inl (fun _ => 0)))] H := hP
  have hD : va_D A [(a, .inr (2, [.ref u1, .int (nI 0), .ref q8, .int (nI 0), .int (nI 0), .int (nI 0), .int (nI 0), .int (nI 0), .int (nI 0), .int (nI 0), .int (-1)])), (u1, .inl (dA 0, 20, .inl (fun _ => 0))), (q8, .inl (dA 1, 600, .inl (fun _ => 0)))] := hD
  refine lv_aload_n hx hb dX4_init_18 rfl (lv_at hl 0 rfl) ?_
  refine lv_iload_n hx hb dX4_init_19 rfl (lv_at hl 1 rfl) ?_
  refine va_putF (D := D) (ci := 2) (v := .int (nI n)) (C := RX4) (T := TX4) (N := 11) hx hb hts in_X4 tyX4 tyX4_ok nmX4 hown hG.1 hP hD hS 0 rfl rfl 1 (by decide) (hts _ q317) (fun _ h => h) rfl hin rfl rfl (rfl) (rfl) (Nat.le_of_ble_eq_true rfl) dX4_init_20 (fun H locs hP hD hS => ?_)
  have hP : va_P D CL [(a, .inr (2, [.ref u1, .int (nI n), .ref q8, .int (nI 0), .int (nI 0), .int (nI 0), .int (nI 0), .int (nI 0), .int (nI 0), .int (nI 0), .int (-1)])), (u1, .inl (dA 0, 20, .inl (fun _ => 0))), (q8, .inl (dA 1, 600, .inl (fun _ => 0)))] H := hP
  have hD : va_D A [(a, .inr (2, [.ref u1, .int (nI n), .ref q8, .int (nI 0), .int (nI 0), .int (nI 0), .int (nI 0), .int (nI 0), .int (nI 0), .int (nI 0), .int (-1)])), (u1, .inl (dA 0, 20, .inl (fun _ => 0))), (q8, .inl (dA 1, 600, .inl (fun _ => 0)))] := hD
  refine lv_aload_n hx hb dX4_init_23 rfl (lv_at hl 0 rfl) ?_
  refine lv_iload_n hx hb dX4_init_24 rfl (lv_at hl 2 rfl) ?_
  refine va_put (D := D) (ci := 2) (v := .int (nI p0)) (C := RX4) (T := TX4) (N := 11) hx hb hts in_X4 tyX4 tyX4_ok nmX4 hown hG.1 hP hD hS 0 rfl rfl 3 (by decide) (hts _ q320) (fun _ h => h) rfl rfl (rfl) (rfl) (Nat.le_of_ble_eq_true rfl) dX4_init_25 (fun H locs hP hD hS => ?_)
  have hP : va_P D CL [(a, .inr (2, [.ref u1, .int (nI n), .ref q8, .int (nI p0), .int (nI 0), .int (nI 0), .int (nI 0), .int (nI 0), .int (nI 0), .int (nI 0), .int (-1)])), (u1, .inl (dA 0, 20, .inl (fun _ => 0))), (q8, .inl (dA 1, 600, .inl (fun _ => 0)))] H := hP
  have hD : va_D A [(a, .inr (2, [.ref u1, .int (nI n), .ref q8, .int (nI p0), .int (nI 0), .int (nI 0), .int (nI 0), .int (nI 0), .int (nI 0), .int (nI 0), .int (-1)])), (u1, .inl (dA 0, 20, .inl (fun _ => 0))), (q8, .inl (dA 1, 600, .inl (fun _ => 0)))] := hD
  refine lv_aload_n hx hb dX4_init_28 rfl (lv_at hl 0 rfl) ?_
  refine lv_iload_n hx hb dX4_init_29 rfl (lv_at hl 3 rfl) ?_
  refine va_put (D := D) (ci := 2) (v := .int (nI sa)) (C := RX4) (T := TX4) (N := 11) hx hb hts in_X4 tyX4 tyX4_ok nmX4 hown hG.1 hP hD hS 0 rfl rfl 4 (by decide) (hts _ q323) (fun _ h => h) rfl rfl (rfl) (rfl) (Nat.le_of_ble_eq_true rfl) dX4_init_30 (fun H locs hP hD hS => ?_)
  have hP : va_P D CL [(a, .inr (2, [.ref u1, .int (nI n), .ref q8, .int (nI p0), .int (nI sa), .int (nI 0), .int (nI 0), .int (nI 0), .int (nI 0), .int (nI 0), .int (-1)])), (u1, .inl (dA 0, 20, .inl (fun _ => 0))), (q8, .inl (dA 1, 600, .inl (fun _ => 0)))] H := hP
  have hD : va_D A [(a, .inr (2, [.ref u1, .int (nI n), .ref q8, .int (nI p0), .int (nI sa), .int (nI 0), .int (nI 0), .int (nI 0), .int (nI 0), .int (nI 0), .int (-1)])), (u1, .inl (dA 0, 20, .inl (fun _ => 0))), (q8, .inl (dA 1, 600, .inl (fun _ => 0)))] := hD
  refine lv_aload_n hx hb dX4_init_33 rfl (lv_at hl 0 rfl) ?_
  refine lv_iload hx hb dX4_init_34 (lv_at hl 4 rfl) ?_
  refine va_put (D := D) (ci := 2) (v := .int (nI nw)) (C := RX4) (T := TX4) (N := 11) hx hb hts in_X4 tyX4 tyX4_ok nmX4 hown hG.1 hP hD hS 0 rfl rfl 6 (by decide) (hts _ q328) (fun _ h => h) rfl rfl (rfl) (rfl) (Nat.le_of_ble_eq_true rfl) dX4_init_36 (fun H locs hP hD hS => ?_)
  have hP : va_P D CL [(a, .inr (2, [.ref u1, .int (nI n), .ref q8, .int (nI p0), .int (nI sa), .int (nI 0), .int (nI nw), .int (nI 0), .int (nI 0), .int (nI 0), .int (-1)])), (u1, .inl (dA 0, 20, .inl (fun _ => 0))), (q8, .inl (dA 1, 600, .inl (fun _ => 0)))] H := hP
  have hD : va_D A [(a, .inr (2, [.ref u1, .int (nI n), .ref q8, .int (nI p0), .int (nI sa), .int (nI 0), .int (nI nw), .int (nI 0), .int (nI 0), .int (nI 0), .int (-1)])), (u1, .inl (dA 0, 20, .inl (fun _ => 0))), (q8, .inl (dA 1, 600, .inl (fun _ => 0)))] := hD
  subst hQ
  refine W.widen (k := 2) (n := 620) (by first | decide | omega) (by first | decide | omega) ?_
  have hP9 : va_P D CL [(a, .inr (2, [.ref u1, .int (nI n), .ref q8, .int (nI p0), .int (nI sa), .int (nI 0), .int (nI nw), .int (nI 0), .int (nI 0), .int (nI 0), .int (-1)])), (u1, .inl (dA 0, 20, .inl (fun _ => 0))), (q8, .inl (dA 1, 600, .inl (fun _ => 0)))] H := hP.sub [0, 1, 2] rfl
  have hD9 : va_D A [(a, .inr (2, [.ref u1, .int (nI n), .ref q8, .int (nI p0), .int (nI sa), .int (nI 0), .int (nI nw), .int (nI 0), .int (nI 0), .int (nI 0), .int (-1)])), (u1, .inl (dA 0, 20, .inl (fun _ => 0))), (q8, .inl (dA 1, 600, .inl (fun _ => 0)))] := hD.sub [0, 1, 2] (by decide) rfl
  exact W.vret hx hb hrt (fun t ht hW => ⟨⟨(u1, q8), rfl, trivial, by rw [ht]; exact hP9, hD9, GK.warm hW hG⟩, hS.F ht⟩) hS.2.2 dX4_init_39

abbrev r_X5_init : Room := { frames := 1, cells := 0, slots := 0, locals := 20 }
set_option maxHeartbeats 1000000 in
theorem c_X5_init (lh : Launch) (D : va_G) (dA : Nat → ClassId) (sz : Nat) (a : Nat) (b : Nat) (x : Nat) (y : Nat) : Met lh yX5_init (ws_ yX5_init cX5_init 4 none) r_X5_init (PX (fun U H => H.size = sz ∧ va_P D CL [(a, .inr (4, [.null, .int (nI 0), .int (nI 0)]))] H ∧ va_D nT [(a, .inr (4, [.null, .int (nI 0), .int (nI 0)]))] ∧ GK D dA U) [.ref a, .ref b, .int (nI x), .int (nI y)]) (va_Qv (fun u : Unit => True) (fun (u : Unit) t => va_P D CL [(a, .inr (4, [.ref b, .int (nI x), .int (nI y)]))] t.heap ∧ va_D (va_A [(a, .inr (4, [.null, .int (nI 0), .int (nI 0)]))] sz) [(a, .inr (4, [.ref b, .int (nI x), .int (nI y)]))] ∧ GK D dA t) (va_A [(a, .inr (4, [.null, .int (nI 0), .int (nI 0)]))] sz)) 0 0 (va_A [(a, .inr (4, [.null, .int (nI 0), .int (nI 0)]))] sz) := by
  refine Met.ofW (cc := cX5_init) (maxL := 4) (ret := none) (by decide) rfl ?_
  intro p e s m args below meth cd s₁ B hml hv
  obtain ⟨hargs, hsz, hP, hD, hG⟩ := hv
  have hx := B.exec
  have hb := B.bytes
  have hrt := B.returns
  have hts := atoms_spec (ws := (ws_ yX5_init cX5_init 4 none)) B.pre
  have hts : ∀ w ∈ lw_all, w.before _ s = true := fun w h => hts w (List.mem_cons_of_mem _ h)
  have hown : s.vm.findClass RX5 = some m.cls := findClass_of_methodNamed B.named
  have hlocks := B.notSynchronized
  have hin : meth.name = "<init>" := (name_of_methodNamed B.named B.method).1
  subst hsz
  have hD := hD.self (sz := s.heap.size)
  have hA : ∀ q : Nat, s.heap.size ≤ q → va_A [(a, .inr (4, [.null, .int (nI 0), .int (nI 0)]))] s.heap.size q := fun q h => Or.inr h
  generalize va_A [(a, .inr (4, [.null, .int (nI 0), .int (nI 0)]))] s.heap.size = A at hD hA ⊢
  have hS : va_S A s.heap s.heap [] := va_S.rf
  have hE : entryFrame m args 4 = F0 m 0 ((lg_sl ([.ref a, .ref b, .int (nI x), .int (nI y)]) ++ List.replicate (4 - (lg_sl ([.ref a, .ref b, .int (nI x), .int (nI y)])).length) Slot.unset).toArray) [] := by rw [hargs]; exact lg_entry_eq m _ 4
  have hl := lv_entry ([.ref a, .ref b, .int (nI x), .int (nI y)]) (n := 4) (Nat.le_of_ble_eq_true rfl)
  rw [hE]
  clear hE
  generalize (lg_sl ([.ref a, .ref b, .int (nI x), .int (nI y)]) ++ List.replicate (4 - (lg_sl ([.ref a, .ref b, .int (nI x), .int (nI y)])).length) Slot.unset).toArray = ls at hl ⊢
  have hl : lv_has ls 4 [(0, .ref a), (1, .ref b), (2, .int (nI x)), (3, .int (nI y))] := hl
  generalize hQ : MQ _ _ _ _ _ _ _ = Q
  refine lv_aload_n hx hb dX5_init_0 rfl (lv_at hl 0 rfl) ?_
  refine W.objInit hx hb hown (hts _ q573) (hts _ q105) (hts _ q106) rfl (by rw [hml]; exact hl.1) rfl dX5_init_1 (Nat.le_of_ble_eq_true rfl) (Nat.le_of_ble_eq_true rfl) ?_
  refine W.eq (g2 := F0 m 4 ls []) rfl ?_
  refine lv_aload_n hx hb dX5_init_4 rfl (lv_at hl 0 rfl) ?_
  refine lv_aload_n hx hb dX5_init_5 rfl (lv_at hl 1 rfl) ?_
  refine va_putF (D := D) (ci := 4) (v := .ref b) (C := RX5) (T := TX5) (N := 3) hx hb hts in_X5 tyX5 tyX5_ok nmX5 hown hG.1 hP hD hS 0 rfl rfl 0 (by decide) (hts _ q574) (fun _ h => h) rfl hin rfl rfl (rfl) (rfl) (Nat.le_of_ble_eq_true rfl) dX5_init_6 (fun H locs hP hD hS => ?_)
  have hP : va_P D CL [(a, .inr (4, [.ref b, .int (nI 0), .int (nI 0)]))] H := hP
  have hD : va_D A [(a, .inr (4, [.ref b, .int (nI 0), .int (nI 0)]))] := hD
  refine lv_aload_n hx hb dX5_init_9 rfl (lv_at hl 0 rfl) ?_
  refine lv_iload_n hx hb dX5_init_10 rfl (lv_at hl 2 rfl) ?_
  refine va_putF (D := D) (ci := 4) (v := .int (nI x)) (C := RX5) (T := TX5) (N := 3) hx hb hts in_X5 tyX5 tyX5_ok nmX5 hown hG.1 hP hD hS 0 rfl rfl 1 (by decide) (hts _ q576) (fun _ h => h) rfl hin rfl rfl (rfl) (rfl) (Nat.le_of_ble_eq_true rfl) dX5_init_11 (fun H locs hP hD hS => ?_)
  have hP : va_P D CL [(a, .inr (4, [.ref b, .int (nI x), .int (nI 0)]))] H := hP
  have hD : va_D A [(a, .inr (4, [.ref b, .int (nI x), .int (nI 0)]))] := hD
  refine lv_aload_n hx hb dX5_init_14 rfl (lv_at hl 0 rfl) ?_
  refine lv_iload_n hx hb dX5_init_15 rfl (lv_at hl 3 rfl) ?_
  refine va_putF (D := D) (ci := 4) (v := .int (nI y)) (C := RX5) (T := TX5) (N := 3) hx hb hts in_X5 tyX5 tyX5_ok nmX5 hown hG.1 hP hD hS 0 rfl rfl 2 (by decide) (hts _ q578) (fun _ h => h) rfl hin rfl rfl (rfl) (rfl) (Nat.le_of_ble_eq_true rfl) dX5_init_16 (fun H locs hP hD hS => ?_)
  have hP : va_P D CL [(a, .inr (4, [.ref b, .int (nI x), .int (nI y)]))] H := hP
  have hD : va_D A [(a, .inr (4, [.ref b, .int (nI x), .int (nI y)]))] := hD
  subst hQ
  have hP9 : va_P D CL [(a, .inr (4, [.ref b, .int (nI x), .int (nI y)]))] H := hP.sub [0] rfl
  have hD9 : va_D A [(a, .inr (4, [.ref b, .int (nI x), .int (nI y)]))] := hD.sub [0] (by decide) rfl
  exact W.vret hx hb hrt (fun t ht hW => ⟨⟨(), rfl, trivial, by rw [ht]; exact hP9, hD9, GK.warm hW hG⟩, hS.F ht⟩) hS.2.2 dX5_init_19

abbrev r_X6_init : Room := { frames := 1, cells := 0, slots := 0, locals := 20 }
set_option maxHeartbeats 1000000 in
theorem c_X6_init (lh : Launch) (D : va_G) (dA : Nat → ClassId) (sz : Nat) (a : Nat) (x : Nat) (b : Nat) : Met lh yX6_init (ws_ yX6_init cX6_init 3 none) r_X6_init (PX (fun U H => H.size = sz ∧ va_P D CL [(a, .inr (5, [.int (nI 0), .null]))] H ∧ va_D nT [(a, .inr (5, [.int (nI 0), .null]))] ∧ GK D dA U) [.ref a, .int (nI x), .ref b]) (va_Qv (fun u : Unit => True) (fun (u : Unit) t => va_P D CL [(a, .inr (5, [.int (nI x), .ref b]))] t.heap ∧ va_D (va_A [(a, .inr (5, [.int (nI 0), .null]))] sz) [(a, .inr (5, [.int (nI x), .ref b]))] ∧ GK D dA t) (va_A [(a, .inr (5, [.int (nI 0), .null]))] sz)) 0 0 (va_A [(a, .inr (5, [.int (nI 0), .null]))] sz) := by
  refine Met.ofW (cc := cX6_init) (maxL := 3) (ret := none) (by decide) rfl ?_
  intro p e s m args below meth cd s₁ B hml hv
  obtain ⟨hargs, hsz, hP, hD, hG⟩ := hv
  have hx := B.exec
  have hb := B.bytes
  have hrt := B.returns
  have hts := atoms_spec (ws := (ws_ yX6_init cX6_init 3 none)) B.pre
  have hts : ∀ w ∈ lw_all, w.before _ s = true := fun w h => hts w (List.mem_cons_of_mem _ h)
  have hown : s.vm.findClass RX6 = some m.cls := findClass_of_methodNamed B.named
  have hlocks := B.notSynchronized
  have hin : meth.name = "<init>" := (name_of_methodNamed B.named B.method).1
  subst hsz
  have hD := hD.self (sz := s.heap.size)
  have hA : ∀ q : Nat, s.heap.size ≤ q → va_A [(a, .inr (5, [.int (nI 0), .null]))] s.heap.size q := fun q h => Or.inr h
  generalize va_A [(a, .inr (5, [.int (nI 0), .null]))] s.heap.size = A at hD hA ⊢
  have hS : va_S A s.heap s.heap [] := va_S.rf
  have hE : entryFrame m args 3 = F0 m 0 ((lg_sl ([.ref a, .int (nI x), .ref b]) ++ List.replicate (3 - (lg_sl ([.ref a, .int (nI x), .ref b])).length) Slot.unset).toArray) [] := by rw [hargs]; exact lg_entry_eq m _ 3
  have hl := lv_entry ([.ref a, .int (nI x), .ref b]) (n := 3) (Nat.le_of_ble_eq_true rfl)
  rw [hE]
  clear hE
  generalize (lg_sl ([.ref a, .int (nI x), .ref b]) ++ List.replicate (3 - (lg_sl ([.ref a, .int (nI x), .ref b])).length) Slot.unset).toArray = ls at hl ⊢
  have hl : lv_has ls 3 [(0, .ref a), (1, .int (nI x)), (2, .ref b)] := hl
  generalize hQ : MQ _ _ _ _ _ _ _ = Q
  refine lv_aload_n hx hb dX6_init_0 rfl (lv_at hl 0 rfl) ?_
  refine W.objInit hx hb hown (hts _ q1126) (hts _ q105) (hts _ q106) rfl (by rw [hml]; exact hl.1) rfl dX6_init_1 (Nat.le_of_ble_eq_true rfl) (Nat.le_of_ble_eq_true rfl) ?_
  refine W.eq (g2 := F0 m 4 ls []) rfl ?_
  refine lv_aload_n hx hb dX6_init_4 rfl (lv_at hl 0 rfl) ?_
  refine lv_iload_n hx hb dX6_init_5 rfl (lv_at hl 1 rfl) ?_
  refine va_putF (D := D) (ci := 5) (v := .int (nI x)) (C := RX6) (T := TX6) (N := 2) hx hb hts in_X6 tyX6 tyX6_ok nmX6 hown hG.1 hP hD hS 0 rfl rfl 0 (by decide) (hts _ q1127) (fun _ h => h) rfl hin rfl rfl (rfl) (rfl) (Nat.le_of_ble_eq_true rfl) dX6_init_6 (fun H locs hP hD hS => ?_)
  have hP : va_P D CL [(a, .inr (5, [.int (nI x), .null]))] H := hP
  have hD : va_D A [(a, .inr (5, [.int (nI x), .null]))] := hD
  refine lv_aload_n hx hb dX6_init_9 rfl (lv_at hl 0 rfl) ?_
  refine lv_aload_n hx hb dX6_init_10 rfl (lv_at hl 2 rfl) ?_
  refine va_putF (D := D) (ci := 5) (v := .ref b) (C := RX6) (T := TX6) (N := 2) hx hb hts in_X6 tyX6 tyX6_ok nmX6 hown hG.1 hP hD hS 0 rfl rfl 1 (by decide) (hts _ q1129) (fun _ h => h) rfl hin rfl rfl (rfl) (rfl) (Nat.le_of_ble_eq_true rfl) dX6_init_11 (fun H locs hP hD hS => ?_)
  have hP : va_P D CL [(a, .inr (5, [.int (nI x), .ref b]))] H := hP
  have hD : va_D A [(a, .inr (5, [.int (nI x), .ref b]))] := hD
  subst hQ
  have hP9 : va_P D CL [(a, .inr (5, [.int (nI x), .ref b]))] H := hP.sub [0] rfl
  have hD9 : va_D A [(a, .inr (5, [.int (nI x), .ref b]))] := hD.sub [0] (by decide) rfl
  exact W.vret hx hb hrt (fun t ht hW => ⟨⟨(), rfl, trivial, by rw [ht]; exact hP9, hD9, GK.warm hW hG⟩, hS.F ht⟩) hS.2.2 dX6_init_14

abbrev r_X9_init : Room := { frames := 2, cells := 0, slots := 0, locals := 40 }
set_option maxHeartbeats 1000000 in
theorem c_X9_init (lh : Launch) (D : va_G) (dA : Nat → ClassId) (sz : Nat) (a : Nat) (x : Nat) (y : Nat) (z : Nat) : Met lh yX9_init (ws_ yX9_init cX9_init 4 none) r_X9_init (PX (fun U H => H.size = sz ∧ va_P D CL [(a, .inr (8, [.int (nI 0), .int (nI 0), .int (nI 0)]))] H ∧ va_D nT [(a, .inr (8, [.int (nI 0), .int (nI 0), .int (nI 0)]))] ∧ GK D dA U) [.ref a, .int (nI x), .int (nI y), .int (nI z)]) (va_Qv (fun u : Unit => True) (fun (u : Unit) t => va_P D CL [(a, .inr (8, [.int (nI x), .int (nI y), .int (nI z)]))] t.heap ∧ va_D (va_A [(a, .inr (8, [.int (nI 0), .int (nI 0), .int (nI 0)]))] sz) [(a, .inr (8, [.int (nI x), .int (nI y), .int (nI z)]))] ∧ GK D dA t) (va_A [(a, .inr (8, [.int (nI 0), .int (nI 0), .int (nI 0)]))] sz)) 0 0 (va_A [(a, .inr (8, [.int (nI 0), .int (nI 0), .int (nI 0)]))] sz) := by
  refine Met.ofW (cc := cX9_init) (maxL := 4) (ret := none) (by decide) rfl ?_
  intro p e s m args below meth cd s₁ B hml hv
  obtain ⟨hargs, hsz, hP, hD, hG⟩ := hv
  have hx := B.exec
  have hb := B.bytes
  have hrt := B.returns
  have hts := atoms_spec (ws := (ws_ yX9_init cX9_init 4 none)) B.pre
  have hts : ∀ w ∈ lw_all, w.before _ s = true := fun w h => hts w (List.mem_cons_of_mem _ h)
  have hown : s.vm.findClass RX9 = some m.cls := findClass_of_methodNamed B.named
  have hlocks := B.notSynchronized
  have hin : meth.name = "<init>" := (name_of_methodNamed B.named B.method).1
  subst hsz
  have hD := hD.self (sz := s.heap.size)
  have hA : ∀ q : Nat, s.heap.size ≤ q → va_A [(a, .inr (8, [.int (nI 0), .int (nI 0), .int (nI 0)]))] s.heap.size q := fun q h => Or.inr h
  generalize va_A [(a, .inr (8, [.int (nI 0), .int (nI 0), .int (nI 0)]))] s.heap.size = A at hD hA ⊢
  have hS : va_S A s.heap s.heap [] := va_S.rf
  have hE : entryFrame m args 4 = F0 m 0 ((lg_sl ([.ref a, .int (nI x), .int (nI y), .int (nI z)]) ++ List.replicate (4 - (lg_sl ([.ref a, .int (nI x), .int (nI y), .int (nI z)])).length) Slot.unset).toArray) [] := by rw [hargs]; exact lg_entry_eq m _ 4
  have hl := lv_entry ([.ref a, .int (nI x), .int (nI y), .int (nI z)]) (n := 4) (Nat.le_of_ble_eq_true rfl)
  rw [hE]
  clear hE
  generalize (lg_sl ([.ref a, .int (nI x), .int (nI y), .int (nI z)]) ++ List.replicate (4 - (lg_sl ([.ref a, .int (nI x), .int (nI y), .int (nI z)])).length) Slot.unset).toArray = ls at hl ⊢
  have hl : lv_has ls 4 [(0, .ref a), (1, .int (nI x)), (2, .int (nI y)), (3, .int (nI z))] := hl
  generalize hQ : MQ _ _ _ _ _ _ _ = Q
  refine lv_aload_n hx hb dX9_init_0 rfl (lv_at hl 0 rfl) ?_
  have hPs : va_P D CL ([] ++ [(a, .inr (8, [.int (nI 0), .int (nI 0), .int (nI 0)]))]) s.heap := hP.sub [0] rfl
  refine va_csv (va_Run.call (va_runI (As := []) (rest := []) ⟨hx, hb, hml, hown, hts⟩ (c_J17_init lh D dA a) (cwI 0 hts (lw_meth q988) rfl rfl rfl (hts _ q88) (hts _ q986) (hts _ q987) rfl (by decide +kernel) ⟨Nat.le_of_ble_eq_true rfl, Nat.le_of_ble_eq_true rfl⟩) ⟨PX.blind (Mv.and Mv.heap Mv.gk), PX.pre (Mv.and Mv.heap Mv.gk) ⟨(va_P_left hPs), hG⟩⟩ rfl rfl hl.1 rfl (lv_room (Nat.le_of_ble_eq_true rfl)) dX9_init_1 ⟨Nat.le_of_ble_eq_true rfl, Nat.le_of_ble_eq_true rfl⟩)) (fun _ => ?_)
  refine lv_aload_n hx hb dX9_init_4 rfl (lv_at hl 0 rfl) ?_
  refine lv_iload_n hx hb dX9_init_5 rfl (lv_at hl 1 rfl) ?_
  refine va_putF (D := D) (ci := 8) (v := .int (nI x)) (C := RX9) (T := TX9) (N := 3) hx hb hts in_X9 tyX9 tyX9_ok nmX9 hown hG.1 hP hD hS 0 rfl rfl 0 (by decide) (hts _ q990) (fun _ h => h) rfl hin rfl rfl (rfl) (rfl) (Nat.le_of_ble_eq_true rfl) dX9_init_6 (fun H locs hP hD hS => ?_)
  have hP : va_P D CL [(a, .inr (8, [.int (nI x), .int (nI 0), .int (nI 0)]))] H := hP
  have hD : va_D A [(a, .inr (8, [.int (nI x), .int (nI 0), .int (nI 0)]))] := hD
  refine lv_aload_n hx hb dX9_init_9 rfl (lv_at hl 0 rfl) ?_
  refine lv_iload_n hx hb dX9_init_10 rfl (lv_at hl 2 rfl) ?_
  refine va_putF (D := D) (ci := 8) (v := .int (nI y)) (C := RX9) (T := TX9) (N := 3) hx hb hts in_X9 tyX9 tyX9_ok nmX9 hown hG.1 hP hD hS 0 rfl rfl 1 (by decide) (hts _ q991) (fun _ h => h) rfl hin rfl rfl (rfl) (rfl) (Nat.le_of_ble_eq_true rfl) dX9_init_11 (fun H locs hP hD hS => ?_)
  have hP : va_P D CL [(a, .inr (8, [.int (nI x), .int (nI y), .int (nI 0)]))] H := hP
  have hD : va_D A [(a, .inr (8, [.int (nI x), .int (nI y), .int (nI 0)]))] := hD
  refine lv_aload_n hx hb dX9_init_14 rfl (lv_at hl 0 rfl) ?_
  refine lv_iload_n hx hb dX9_init_15 rfl (lv_at hl 3 rfl) ?_
  refine va_putF (D := D) (ci := 8) (v := .int (nI z)) (C := RX9) (T := TX9) (N := 3) hx hb hts in_X9 tyX9 tyX9_ok nmX9 hown hG.1 hP hD hS 0 rfl rfl 2 (by decide) (hts _ q992) (fun _ h => h) rfl hin rfl rfl (rfl) (rfl) (Nat.le_of_ble_eq_true rfl) dX9_init_16 (fun H locs hP hD hS => ?_)
  have hP : va_P D CL [(a, .inr (8, [.int (nI x), .int (nI y), .int (nI z)]))] H := hP
  have hD : va_D A [(a, .inr (8, [.int (nI x), .int (nI y), .int (nI z)]))] := hD
  subst hQ
  have hP9 : va_P D CL [(a, .inr (8, [.int (nI x), .int (nI y), .int (nI z)]))] H := hP.sub [0] rfl
  have hD9 : va_D A [(a, .inr (8, [.int (nI x), .int (nI y), .int (nI z)]))] := hD.sub [0] (by decide) rfl
  exact W.vret hx hb hrt (fun t ht hW => ⟨⟨(), rfl, trivial, by rw [ht]; exact hP9, hD9, GK.warm hW hG⟩, hS.F ht⟩) hS.2.2 dX9_init_19
