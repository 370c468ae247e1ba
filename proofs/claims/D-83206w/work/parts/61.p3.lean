set_option maxRecDepth 100000
theorem w_J2_add_2 {R : Room} {s : State} {args : Array Value} {own : String} {idx : Nat} (hts : ∀ w ∈ lw_all, w.before args s = true) (h1 : Cond.methodLink own idx yJ2_add_2 ∈ lw_all) {rm : Room} {mc ms : Nat} (hrc : rm.cells = mc) (hrs : rm.slots = ms) (hR : rm.frames + 1 ≤ R.frames ∧ 8 + (4 + 11) + rm.locals ≤ R.locals) : CallW R s args own RJ2 idx yJ2_add_2 cJ2_add_2 4 none (ws_ yJ2_add_2 cJ2_add_2 4 none) rm mc ms 3 := cwV 3 hts (lw_V h1 q371 qs1 q65 q372) rfl hrc hrs (by decide +kernel) hR

theorem w_J2_add {R : Room} {s : State} {args : Array Value} {own : String} {idx : Nat} (hts : ∀ w ∈ lw_all, w.before args s = true) (h1 : Cond.methodLink own idx yJ2_add ∈ lw_all) {rm : Room} {mc ms : Nat} (hrc : rm.cells = mc) (hrs : rm.slots = ms) (hR : rm.frames + 1 ≤ R.frames ∧ 8 + (2 + 11) + rm.locals ≤ R.locals) : CallW R s args own RJ2 idx yJ2_add cJ2_add 2 (some .boolean) (ws_ yJ2_add cJ2_add 2 (some .boolean)) rm mc ms 1 := cwV 1 hts (lw_V h1 q366 q367 q65 q368) rfl hrc hrs (by decide +kernel) hR

theorem w_J2_grow_2 {R : Room} {s : State} {args : Array Value} {own : String} {idx : Nat} (hts : ∀ w ∈ lw_all, w.before args s = true) (h1 : Cond.methodLink own idx yJ2_grow_2 ∈ lw_all) {rm : Room} {mc ms : Nat} (hrc : rm.cells = mc) (hrs : rm.slots = ms) (hR : rm.frames + 1 ≤ R.frames ∧ 8 + (4 + 11) + rm.locals ≤ R.locals) : CallW R s args own RJ2 idx yJ2_grow_2 cJ2_grow_2 4 (some ((.array (.object "java/lang/Object")))) (ws_ yJ2_grow_2 cJ2_grow_2 4 (some ((.array (.object "java/lang/Object"))))) rm mc ms 1 := cwV 1 hts (lw_V h1 q379 qs3 q65 q380) rfl hrc hrs (by decide +kernel) hR

theorem w_J2_grow {R : Room} {s : State} {args : Array Value} {own : String} {idx : Nat} (hts : ∀ w ∈ lw_all, w.before args s = true) (h1 : Cond.methodLink own idx yJ2_grow ∈ lw_all) {rm : Room} {mc ms : Nat} (hrc : rm.cells = mc) (hrs : rm.slots = ms) (hR : rm.frames + 1 ≤ R.frames ∧ 8 + (1 + 11) + rm.locals ≤ R.locals) : CallW R s args own RJ2 idx yJ2_grow cJ2_grow 1 (some ((.array (.object "java/lang/Object")))) (ws_ yJ2_grow cJ2_grow 1 (some ((.array (.object "java/lang/Object"))))) rm mc ms 0 := cwV 0 hts (lw_V h1 q375 qs2 q65 q376) rfl hrc hrs (by decide +kernel) hR

abbrev r_J2_grow_2_F : Room := { frames := 1, cells := 1, slots := 10, locals := 21 }
set_option maxHeartbeats 1000000 in
theorem c_J2_grow_2_F (lh : Launch) (D : va_G) (dA : Nat → ClassId) (sz : Nat) (a : Nat) (m0 : Int32) (K : Nat → Nat) : Met lh yJ2_grow_2 (ws_ yJ2_grow_2 cJ2_grow_2 4 (some ((.array (.object "java/lang/Object"))))) r_J2_grow_2_F (PX (fun U H => H.size = sz ∧ va_P D CL [(a, .inr (15, [.int m0, .ref (K 50), .int (nI 0)]))] H ∧ va_D nT [(a, .inr (15, [.int m0, .ref (K 50), .int (nI 0)]))] ∧ GK D dA U ∧ KL K (va_A [(a, .inr (15, [.int m0, .ref (K 50), .int (nI 0)]))] sz) U H) [.ref a, .int (nI 1)]) (va_Qq (fun (r : Option Nat) (u : Nat) => r = some (u)) (fun (u : Nat) t => va_P D CL [(a, .inr (15, [.int m0, .ref u, .int (nI 0)])), (u, .inl (dA 4, 10, rfA (fun _ => none)))] t.heap ∧ va_D (va_A [(a, .inr (15, [.int m0, .ref (K 50), .int (nI 0)]))] sz) [(a, .inr (15, [.int m0, .ref u, .int (nI 0)])), (u, .inl (dA 4, 10, rfA (fun _ => none)))] ∧ GK D dA t) (va_A [(a, .inr (15, [.int m0, .ref (K 50), .int (nI 0)]))] sz)) 1 10 (va_A [(a, .inr (15, [.int m0, .ref (K 50), .int (nI 0)]))] sz) := by
  refine Met.ofW (cc := cJ2_grow_2) (maxL := 4) (ret := (some ((.array (.object "java/lang/Object"))))) (by decide) rfl ?_
  intro p e s m args below meth cd s₁ B hml hv
  obtain ⟨hargs, hsz, hP, hD, hG, hKL⟩ := hv
  have hx := B.exec
  have hb := B.bytes
  have hrt := B.returns
  have hts := atoms_spec (ws := (ws_ yJ2_grow_2 cJ2_grow_2 4 (some ((.array (.object "java/lang/Object")))))) B.pre
  have hts : ∀ w ∈ lw_all, w.before _ s = true := fun w h => hts w (List.mem_cons_of_mem _ h)
  have hown : s.vm.findClass RJ2 = some m.cls := findClass_of_methodNamed B.named
  have hlocks := B.notSynchronized
  subst hsz
  have hD := hD.self (sz := s.heap.size)
  have hA : ∀ q : Nat, s.heap.size ≤ q → va_A [(a, .inr (15, [.int m0, .ref (K 50), .int (nI 0)]))] s.heap.size q := fun q h => Or.inr h
  generalize va_A [(a, .inr (15, [.int m0, .ref (K 50), .int (nI 0)]))] s.heap.size = A at hD hA hKL ⊢
  have hS : va_S A s.heap s.heap [] := va_S.rf
  have hE : entryFrame m args 4 = F0 m 0 ((lg_sl ([.ref a, .int (nI 1)]) ++ List.replicate (4 - (lg_sl ([.ref a, .int (nI 1)])).length) Slot.unset).toArray) [] := by rw [hargs]; exact lg_entry_eq m _ 4
  have hl := lv_entry ([.ref a, .int (nI 1)]) (n := 4) (Nat.le_of_ble_eq_true rfl)
  rw [hE]
  clear hE
  generalize (lg_sl ([.ref a, .int (nI 1)]) ++ List.replicate (4 - (lg_sl ([.ref a, .int (nI 1)])).length) Slot.unset).toArray = ls at hl ⊢
  have hl : lv_has ls 4 [(0, .ref a), (1, .int (nI 1))] := hl
  generalize hQ : MQ _ _ _ _ _ _ _ = Q
  refine lv_aload_n hx hb dJ2_grow_2_0 rfl (lv_at hl 0 rfl) ?_
  refine va_get (D := D) (ci := 15) (v := .ref (K 50)) (C := RJ2) (T := TJ2) (N := 3) hx hb hts in_J2 hown hG.1 hP 0 rfl rfl 1 (by decide) (hts _ q123) (fun _ h => h) rfl dJ2_grow_2_1 ?_
  refine KL_len hx hb hKL hS dJ2_grow_2_4 ?_
  refine lv_istore_n (lv' := [(2, .int (nI 0)), (0, .ref a), (1, .int (nI 1))]) hx hb dJ2_grow_2_5 rfl hl (by decide) rfl (fun ls hl => ?_)
  refine lv_iload_n hx hb dJ2_grow_2_6 rfl (lv_at hl 0 rfl) ?_
  refine kn_zgt (tgt := 20) hx hb dJ2_grow_2_7 (by decide) (by decide) (fun c_7 => ?_) (fun c_7 => ?_)
  · omega
  · refine lv_aload_n hx hb dJ2_grow_2_10 rfl (lv_at hl 1 rfl) ?_
    refine va_get (D := D) (ci := 15) (v := .ref (K 50)) (C := RJ2) (T := TJ2) (N := 3) hx hb hts in_J2 hown hG.1 hP 0 rfl rfl 1 (by decide) (hts _ q123) (fun _ h => h) rfl dJ2_grow_2_11 ?_
    refine KL_get hx hb hKL hS hown (hts _ q121) dJ2_grow_2_14 ?_
    refine lv_acmp_eq (rx := (some (K 50))) (ry := (some (K 50))) (tgt := 45) hx hb dJ2_grow_2_17 (by decide) (fun c_17 => ?_) (fun c_17 => ?_)
    · refine lv_aload_n hx hb dJ2_grow_2_45 rfl (lv_at hl 1 rfl) ?_
      refine lv_bipush (v := nI 10) hx hb dJ2_grow_2_46 (by decide) ?_
      refine lv_iload_n hx hb dJ2_grow_2_48 rfl (lv_at hl 2 rfl) ?_
      refine va_mmax hx hb (hml.trans hl.1.symm) hown (hts _ q430) (hts _ q385) (hts _ q75) (hts _ q386) (Nat.le_of_ble_eq_true rfl) (Nat.le_of_ble_eq_true rfl) (Nat.le_of_ble_eq_true rfl) (Nat.le_of_ble_eq_true rfl) dJ2_grow_2_49 ?_
      refine kx_int (y := nI 10) (by decide) ?_
      refine P_newq hx hb hG hown (hts _ q431) hP hD hS hA (n := 10) (by decide) (by decide) (Nat.le_of_ble_eq_true rfl) (Nat.le_of_ble_eq_true rfl) dJ2_grow_2_52 (fun q52 H hP hD hS => ?_)
      have hP : va_P D CL [(a, .inr (15, [.int m0, .ref (K 50), .int (nI 0)])), (q52, .inl (dA 4, 10, rfA (fun _ => none)))] H := hP
      have hD : va_D A [(a, .inr (15, [.int m0, .ref (K 50), .int (nI 0)])), (q52, .inl (dA 4, 10, rfA (fun _ => none)))] := hD
      refine lv_dup_x1 hx hb dJ2_grow_2_55 rfl rfl ?_
      refine va_put (D := D) (ci := 15) (v := .ref q52) (C := RJ2) (T := TJ2) (N := 3) hx hb hts in_J2 tyJ2 tyJ2_ok nmJ2 hown hG.1 hP hD hS 0 rfl rfl 1 (by decide) (hts _ q123) (fun _ h => h) rfl rfl (rfl) (rfl) (Nat.le_of_ble_eq_true rfl) dJ2_grow_2_56 (fun H locs hP hD hS => ?_)
      have hP : va_P D CL [(a, .inr (15, [.int m0, .ref q52, .int (nI 0)])), (q52, .inl (dA 4, 10, rfA (fun _ => none)))] H := hP
      have hD : va_D A [(a, .inr (15, [.int m0, .ref q52, .int (nI 0)])), (q52, .inl (dA 4, 10, rfA (fun _ => none)))] := hD
      subst hQ
      have hP9 : va_P D CL [(a, .inr (15, [.int m0, .ref q52, .int (nI 0)])), (q52, .inl (dA 4, 10, rfA (fun _ => none)))] H := hP.sub [0, 1] rfl
      have hD9 : va_D A [(a, .inr (15, [.int m0, .ref q52, .int (nI 0)])), (q52, .inl (dA 4, 10, rfA (fun _ => none)))] := hD.sub [0, 1] (by decide) rfl
      exact W.aret (v := va_rf (some (q52))) hx hb hrt (Or.inr ⟨_, rfl⟩) (va_rf_or _) (fun t ht hW => ⟨⟨(some (q52)), (q52), rfl, rfl, by rw [ht]; exact hP9, hD9, GK.warm hW hG⟩, hS.F ht⟩) hS.2.2 dJ2_grow_2_59
    · exact absurd rfl c_17

abbrev r_J2_grow_F : Room := { frames := 2, cells := 1, slots := 10, locals := 44 }
set_option maxHeartbeats 1000000 in
theorem c_J2_grow_F (lh : Launch) (D : va_G) (dA : Nat → ClassId) (sz : Nat) (a : Nat) (m0 : Int32) (K : Nat → Nat) : Met lh yJ2_grow (ws_ yJ2_grow cJ2_grow 1 (some ((.array (.object "java/lang/Object"))))) r_J2_grow_F (PX (fun U H => H.size = sz ∧ va_P D CL [(a, .inr (15, [.int m0, .ref (K 50), .int (nI 0)]))] H ∧ va_D nT [(a, .inr (15, [.int m0, .ref (K 50), .int (nI 0)]))] ∧ GK D dA U ∧ KL K (va_A [(a, .inr (15, [.int m0, .ref (K 50), .int (nI 0)]))] sz) U H) [.ref a]) (va_Qq (fun (r : Option Nat) (u : Nat) => r = some (u)) (fun (u : Nat) t => va_P D CL [(a, .inr (15, [.int m0, .ref u, .int (nI 0)])), (u, .inl (dA 4, 10, rfA (fun _ => none)))] t.heap ∧ va_D (va_A [(a, .inr (15, [.int m0, .ref (K 50), .int (nI 0)]))] sz) [(a, .inr (15, [.int m0, .ref u, .int (nI 0)])), (u, .inl (dA 4, 10, rfA (fun _ => none)))] ∧ GK D dA t) (va_A [(a, .inr (15, [.int m0, .ref (K 50), .int (nI 0)]))] sz)) 1 10 (va_A [(a, .inr (15, [.int m0, .ref (K 50), .int (nI 0)]))] sz) := by
  refine Met.ofW (cc := cJ2_grow) (maxL := 1) (ret := (some ((.array (.object "java/lang/Object"))))) (by decide) rfl ?_
  intro p e s m args below meth cd s₁ B hml hv
  obtain ⟨hargs, hsz, hP, hD, hG, hKL⟩ := hv
  have hx := B.exec
  have hb := B.bytes
  have hrt := B.returns
  have hts := atoms_spec (ws := (ws_ yJ2_grow cJ2_grow 1 (some ((.array (.object "java/lang/Object")))))) B.pre
  have hts : ∀ w ∈ lw_all, w.before _ s = true := fun w h => hts w (List.mem_cons_of_mem _ h)
  have hown : s.vm.findClass RJ2 = some m.cls := findClass_of_methodNamed B.named
  have hlocks := B.notSynchronized
  subst hsz
  have hD := hD.self (sz := s.heap.size)
  have hA : ∀ q : Nat, s.heap.size ≤ q → va_A [(a, .inr (15, [.int m0, .ref (K 50), .int (nI 0)]))] s.heap.size q := fun q h => Or.inr h
  generalize va_A [(a, .inr (15, [.int m0, .ref (K 50), .int (nI 0)]))] s.heap.size = A at hD hA hKL ⊢
  have hS : va_S A s.heap s.heap [] := va_S.rf
  have hE : entryFrame m args 1 = F0 m 0 ((lg_sl ([.ref a]) ++ List.replicate (1 - (lg_sl ([.ref a])).length) Slot.unset).toArray) [] := by rw [hargs]; exact lg_entry_eq m _ 1
  have hl := lv_entry ([.ref a]) (n := 1) (Nat.le_of_ble_eq_true rfl)
  rw [hE]
  clear hE
  generalize (lg_sl ([.ref a]) ++ List.replicate (1 - (lg_sl ([.ref a])).length) Slot.unset).toArray = ls at hl ⊢
  have hl : lv_has ls 1 [(0, .ref a)] := hl
  generalize hQ : MQ _ _ _ _ _ _ _ = Q
  refine lv_aload_n hx hb dJ2_grow_0 rfl (lv_at hl 0 rfl) ?_
  refine lv_aload_n hx hb dJ2_grow_1 rfl (lv_at hl 0 rfl) ?_
  refine va_get (D := D) (ci := 15) (v := .int (nI 0)) (C := RJ2) (T := TJ2) (N := 3) hx hb hts in_J2 hown hG.1 hP 0 rfl rfl 2 (by decide) (hts _ q124) (fun _ h => h) rfl dJ2_grow_2 ?_
  refine lv_iconst (v := nI 1) hx hb dJ2_grow_5 (by decide) ?_
  refine kn_add hx hb dJ2_grow_6 ?_
  refine kx_int (y := nI 1) rfl ?_
  have hPs : va_P D CL ([(a, .inr (15, [.int m0, .ref (K 50), .int (nI 0)]))] ++ []) s.heap := hP.sub [0] rfl
  have hDs : va_D A ([(a, .inr (15, [.int m0, .ref (K 50), .int (nI 0)]))] ++ []) := hD.sub [0] (by decide) rfl
  have hz9 := hS.1
  refine va_callq (va_runV (As := [.int (nI 1)]) (rest := []) ⟨hx, hb, hml, hown, hts⟩ (c_J2_grow_2_F lh D dA s.heap.size a m0 K) (w_J2_grow_2 hts q377 rfl rfl ⟨Nat.le_of_ble_eq_true rfl, Nat.le_of_ble_eq_true rfl⟩) ⟨PX.blind (Mv.and Mv.heap (Mv.and Mv.heap (Mv.and Mv.heap (Mv.and Mv.gk KL.mv)))), (va_recv hG.1 hP (ci := 15) (q0 := 0) rfl rfl), PX.pre (Mv.and Mv.heap (Mv.and Mv.heap (Mv.and Mv.heap (Mv.and Mv.gk KL.mv)))) ⟨rfl, (va_P_left hPs), (va_D_left hDs), hG, (KL.at hKL hS (va_A_up hDs hA hS.1))⟩⟩ rfl rfl hl.1 rfl (lv_room (Nat.le_of_ble_eq_true rfl)) dJ2_grow_7 ⟨Nat.le_of_ble_eq_true rfl, Nat.le_of_ble_eq_true rfl⟩) hS (fun q _ => (va_A_up hDs hA hS.1) q) ((va_A_up hDs hA hS.1)) (fun rr u t H1 locs ht hvm hp hB hz hk hS => ?_)
  generalize u = u7 at hp hB
  obtain ⟨hP1, hD1, -⟩ := hB
  rw [ht] at hP1
  obtain ⟨hP, hD⟩ := vp_join hPs hDs hP1 hD1 hk hA hz9
  clear ht hvm hz hk hP1 hD1 hPs hDs hz9
  generalize H1 = H at hP hS ⊢
  have hP : va_P D CL [(a, .inr (15, [.int m0, .ref u7, .int (nI 0)])), (u7, .inl (dA 4, 10, rfA (fun _ => none)))] H := hP
  have hD : va_D A [(a, .inr (15, [.int m0, .ref u7, .int (nI 0)])), (u7, .inl (dA 4, 10, rfA (fun _ => none)))] := hD
  have hrr := hp
  try dsimp only at hrr
  subst hrr
  show W p lh e r_J2_grow_F s m args below meth cd _ _ _ _ Q (F0 m _ ls (.ref u7 :: _))
  subst hQ
  have hP9 : va_P D CL [(a, .inr (15, [.int m0, .ref u7, .int (nI 0)])), (u7, .inl (dA 4, 10, rfA (fun _ => none)))] H := hP.sub [0, 1] rfl
  have hD9 : va_D A [(a, .inr (15, [.int m0, .ref u7, .int (nI 0)])), (u7, .inl (dA 4, 10, rfA (fun _ => none)))] := hD.sub [0, 1] (by decide) rfl
  exact W.aret (v := va_rf (some (u7))) hx hb hrt (Or.inr ⟨_, rfl⟩) (va_rf_or _) (fun t ht hW => ⟨⟨(some (u7)), (u7), rfl, rfl, by rw [ht]; exact hP9, hD9, GK.warm hW hG⟩, hS.F ht⟩) hS.2.2 dJ2_grow_10

abbrev r_J2_grow_2_G (n : Nat) : Room := { frames := 3, cells := 1, slots := (n + n / 2), locals := 84 }
set_option maxHeartbeats 1000000 in
theorem c_J2_grow_2_G (lh : Launch) (D : va_G) (dA : Nat → ClassId) (sz : Nat) (a : Nat) (m0 : Int32) (ea : Nat) (n : Nat) (f : Nat → Option Nat) (K : Nat → Nat) (C : String) (h1 : 2 ≤ n) (h2 : n < 2 ^ 19) (h3 : Cond.castable C "java/lang/Object" ∈ lw_tbl) : Met lh yJ2_grow_2 (ws_ yJ2_grow_2 cJ2_grow_2 4 (some ((.array (.object "java/lang/Object"))))) (r_J2_grow_2_G n) (PX (fun U H => H.size = sz ∧ va_P D CL [(a, .inr (15, [.int m0, .ref ea, .int (nI n)])), (ea, .inl (dA 4, n, rfA f))] H ∧ va_D nT [(a, .inr (15, [.int m0, .ref ea, .int (nI n)])), (ea, .inl (dA 4, n, rfA f))] ∧ GK D dA U ∧ KL K (va_A [(a, .inr (15, [.int m0, .ref ea, .int (nI n)])), (ea, .inl (dA 4, n, rfA f))] sz) U H ∧ EL (va_A [(a, .inr (15, [.int m0, .ref ea, .int (nI n)])), (ea, .inl (dA 4, n, rfA f))] sz) C f n U H) [.ref a, .int (nI (n + 1))]) (va_Qq (fun (r : Option Nat) (u : Nat) => r = some (u)) (fun (u : Nat) t => va_P D CL [(a, .inr (15, [.int m0, .ref u, .int (nI n)])), (ea, .inl (dA 4, n, rfA f)), (u, .inl (dA 4, (n + n / 2), rfA (va_cpy f (fun _ => none) 0 0 n)))] t.heap ∧ va_D (va_A [(a, .inr (15, [.int m0, .ref ea, .int (nI n)])), (ea, .inl (dA 4, n, rfA f))] sz) [(a, .inr (15, [.int m0, .ref u, .int (nI n)])), (ea, .inl (dA 4, n, rfA f)), (u, .inl (dA 4, (n + n / 2), rfA (va_cpy f (fun _ => none) 0 0 n)))] ∧ GK D dA t) (va_A [(a, .inr (15, [.int m0, .ref ea, .int (nI n)])), (ea, .inl (dA 4, n, rfA f))] sz)) 1 (n + n / 2) (va_A [(a, .inr (15, [.int m0, .ref ea, .int (nI n)])), (ea, .inl (dA 4, n, rfA f))] sz) := by
  refine Met.ofW (cc := cJ2_grow_2) (maxL := 4) (ret := (some ((.array (.object "java/lang/Object"))))) (by decide) rfl ?_
  intro p e s m args below meth cd s₁ B hml hv
  obtain ⟨hargs, hsz, hP, hD, hG, hKL, hEL⟩ := hv
  have hx := B.exec
  have hb := B.bytes
  have hrt := B.returns
  have hts := atoms_spec (ws := (ws_ yJ2_grow_2 cJ2_grow_2 4 (some ((.array (.object "java/lang/Object")))))) B.pre
  have hts : ∀ w ∈ lw_all, w.before _ s = true := fun w h => hts w (List.mem_cons_of_mem _ h)
  have hown : s.vm.findClass RJ2 = some m.cls := findClass_of_methodNamed B.named
  have hlocks := B.notSynchronized
  subst hsz
  have hD := hD.self (sz := s.heap.size)
  have hA : ∀ q : Nat, s.heap.size ≤ q → va_A [(a, .inr (15, [.int m0, .ref ea, .int (nI n)])), (ea, .inl (dA 4, n, rfA f))] s.heap.size q := fun q h => Or.inr h
  generalize va_A [(a, .inr (15, [.int m0, .ref ea, .int (nI n)])), (ea, .inl (dA 4, n, rfA f))] s.heap.size = A at hD hA hKL hEL ⊢
  have hS : va_S A s.heap s.heap [] := va_S.rf
  have hE : entryFrame m args 4 = F0 m 0 ((lg_sl ([.ref a, .int (nI (n + 1))]) ++ List.replicate (4 - (lg_sl ([.ref a, .int (nI (n + 1))])).length) Slot.unset).toArray) [] := by rw [hargs]; exact lg_entry_eq m _ 4
  have hl := lv_entry ([.ref a, .int (nI (n + 1))]) (n := 4) (Nat.le_of_ble_eq_true rfl)
  rw [hE]
  clear hE
  generalize (lg_sl ([.ref a, .int (nI (n + 1))]) ++ List.replicate (4 - (lg_sl ([.ref a, .int (nI (n + 1))])).length) Slot.unset).toArray = ls at hl ⊢
  have hl : lv_has ls 4 [(0, .ref a), (1, .int (nI (n + 1)))] := hl
  generalize hQ : MQ _ _ _ _ _ _ _ = Q
  refine lv_aload_n hx hb dJ2_grow_2_0 rfl (lv_at hl 0 rfl) ?_
  refine va_get (D := D) (ci := 15) (v := .ref ea) (C := RJ2) (T := TJ2) (N := 3) hx hb hts in_J2 hown hG.1 hP 0 rfl rfl 1 (by decide) (hts _ q123) (fun _ h => h) rfl dJ2_grow_2_1 ?_
  refine va_alen (v := nI n) hx hb hG.1 hP 1 4 rfl rfl rfl dJ2_grow_2_4 ?_
  refine lv_istore_n (lv' := [(2, .int (nI n)), (0, .ref a), (1, .int (nI (n + 1)))]) hx hb dJ2_grow_2_5 rfl hl (by decide) rfl (fun ls hl => ?_)
  refine lv_iload_n hx hb dJ2_grow_2_6 rfl (lv_at hl 0 rfl) ?_
  refine kn_zgt (tgt := 20) hx hb dJ2_grow_2_7 (by decide) (by omega) (fun c_7 => ?_) (fun c_7 => ?_)
  · refine lv_iload_n hx hb dJ2_grow_2_20 rfl (lv_at hl 0 rfl) ?_
    refine lv_iload_n hx hb dJ2_grow_2_21 rfl (lv_at hl 2 rfl) ?_
    refine lv_iload_n hx hb dJ2_grow_2_22 rfl (lv_at hl 0 rfl) ?_
    refine kn_sub hx hb dJ2_grow_2_23 (by omega) ?_
    refine kx_int (y := nI 1) (congrArg nI (by omega)) ?_
    refine lv_iload_n hx hb dJ2_grow_2_24 rfl (lv_at hl 0 rfl) ?_
    refine lv_iconst (v := nI 1) hx hb dJ2_grow_2_25 (by decide) ?_
    refine lv_ishr hx hb dJ2_grow_2_26 ?_
    refine kx_int (y := nI (n / 2)) (shr1 (by omega)) ?_
    refine vp_callSi (W.runS (As := [.int (nI n), .int (nI 1), .int (nI (n / 2))]) (rest := []) ⟨hx, hb, hml, hown, hts⟩ (c_J8_newLength lh n 1 (n / 2) (show n < 2 ^ 30 from by first | omega | assumption | exact hB_up (by assumption) (by omega)) (show 1 < 2 ^ 29 from by first | omega | assumption | exact hB_up (by assumption) (by omega)) (show (n / 2) < 2 ^ 29 from by first | omega | assumption | exact hB_up (by assumption) (by omega)) (show 0 < n + 1 from by first | omega | assumption | exact hB_up (by assumption) (by omega))) (w_J8_newLength hts q381 rfl rfl ⟨Nat.le_of_ble_eq_true rfl, Nat.le_of_ble_eq_true rfl⟩) ⟨P0.blind, P0.pre⟩ rfl rfl hl.1 rfl (lv_room (Nat.le_of_ble_eq_true rfl)) dJ2_grow_2_27 ⟨Nat.le_of_ble_eq_true rfl, Nat.le_of_ble_eq_true rfl⟩) (fun rr hrr => ?_)
    subst hrr
    refine kx_int (y := nI (n + n / 2)) (congrArg nI (by split <;> omega)) ?_
    refine lv_istore_n (lv' := [(3, .int (nI (n + n / 2))), (2, .int (nI n)), (0, .ref a), (1, .int (nI (n + 1)))]) hx hb dJ2_grow_2_30 rfl hl (by decide) rfl (fun ls hl => ?_)
    refine lv_aload_n hx hb dJ2_grow_2_31 rfl (lv_at hl 2 rfl) ?_
    refine lv_aload_n hx hb dJ2_grow_2_32 rfl (lv_at hl 2 rfl) ?_
    refine va_get (D := D) (ci := 15) (v := .ref ea) (C := RJ2) (T := TJ2) (N := 3) hx hb hts in_J2 hown hG.1 hP 0 rfl rfl 1 (by decide) (hts _ q123) (fun _ h => h) rfl dJ2_grow_2_33 ?_
    refine lv_iload_n hx hb dJ2_grow_2_36 rfl (lv_at hl 0 rfl) ?_
    have hPs : va_P D CL ([(ea, .inl (dA 4, n, rfA f))] ++ [(a, .inr (15, [.int m0, .ref ea, .int (nI n)]))]) s.heap := hP.sub [1, 0] rfl
    have hDs : va_D A ([(ea, .inl (dA 4, n, rfA f))] ++ [(a, .inr (15, [.int m0, .ref ea, .int (nI n)]))]) := hD.sub [1, 0] (by decide) rfl
    have hz9 := hS.1
    refine va_callq (va_runS (As := [.ref ea, .int (nI (n + n / 2))]) (rest := [.ref a]) ⟨hx, hb, hml, hown, hts⟩ (c_J10_copyOf lh D dA s.heap.size ea n f (n + n / 2) K C (by omega) (by omega) (h3)) (w_J10_copyOf hts q391 rfl rfl ⟨Nat.le_of_ble_eq_true rfl, Nat.le_of_ble_eq_true rfl⟩) ⟨PX.blind (Mv.and Mv.heap (Mv.and Mv.heap (Mv.and Mv.heap (Mv.and Mv.gk (Mv.and KL.mv EL.mv))))), PX.pre (Mv.and Mv.heap (Mv.and Mv.heap (Mv.and Mv.heap (Mv.and Mv.gk (Mv.and KL.mv EL.mv))))) ⟨rfl, (va_P_left hPs), (va_D_left hDs), hG, (KL.at hKL hS (va_A_up hDs hA hS.1)), (EL.at hEL hS (va_A_up hDs hA hS.1))⟩⟩ rfl rfl hl.1 rfl (lv_room (Nat.le_of_ble_eq_true rfl)) dJ2_grow_2_37 ⟨Nat.le_of_ble_eq_true rfl, by show _ ≤ (n + n / 2); omega⟩) hS (fun q _ => (va_A_up hDs hA hS.1) q) ((va_A_up hDs hA hS.1)) (fun rr u t H1 locs ht hvm hp hB hz hk hS => ?_)
    generalize u = u37 at hp hB
    obtain ⟨hP1, hD1, -⟩ := hB
    rw [ht] at hP1
    obtain ⟨hP, hD⟩ := vp_join hPs hDs hP1 hD1 hk hA hz9
    clear ht hvm hz hk hP1 hD1 hPs hDs hz9
    generalize H1 = H at hP hS ⊢
    have hP : va_P D CL [(ea, .inl (dA 4, n, rfA f)), (u37, .inl (dA 4, (n + n / 2), rfA (va_cpy f (fun _ => none) 0 0 n))), (a, .inr (15, [.int m0, .ref ea, .int (nI n)]))] H := hP
    have hD : va_D A [(ea, .inl (dA 4, n, rfA f)), (u37, .inl (dA 4, (n + n / 2), rfA (va_cpy f (fun _ => none) 0 0 n))), (a, .inr (15, [.int m0, .ref ea, .int (nI n)]))] := hD
    have hrr := hp
    try dsimp only at hrr
    subst hrr
    show W p lh e (r_J2_grow_2_G n) s m args below meth cd _ _ _ _ Q (F0 m _ ls (.ref u37 :: _))
    refine lv_dup_x1 hx hb dJ2_grow_2_40 rfl rfl ?_
    refine va_put (D := D) (ci := 15) (v := .ref u37) (C := RJ2) (T := TJ2) (N := 3) hx hb hts in_J2 tyJ2 tyJ2_ok nmJ2 hown hG.1 hP hD hS 2 rfl rfl 1 (by decide) (hts _ q123) (fun _ h => h) rfl rfl (rfl) (rfl) (Nat.le_of_ble_eq_true rfl) dJ2_grow_2_41 (fun H locs hP hD hS => ?_)
    have hP : va_P D CL [(ea, .inl (dA 4, n, rfA f)), (u37, .inl (dA 4, (n + n / 2), rfA (va_cpy f (fun _ => none) 0 0 n))), (a, .inr (15, [.int m0, .ref u37, .int (nI n)]))] H := hP
    have hD : va_D A [(ea, .inl (dA 4, n, rfA f)), (u37, .inl (dA 4, (n + n / 2), rfA (va_cpy f (fun _ => none) 0 0 n))), (a, .inr (15, [.int m0, .ref u37, .int (nI n)]))] := hD
    subst hQ
    refine W.widen (k := 1) (n := (n + n / 2)) (by first | decide | omega) (by first | decide | omega) ?_
    have hP9 : va_P D CL [(a, .inr (15, [.int m0, .ref u37, .int (nI n)])), (ea, .inl (dA 4, n, rfA f)), (u37, .inl (dA 4, (n + n / 2), rfA (va_cpy f (fun _ => none) 0 0 n)))] H := hP.sub [2, 0, 1] rfl
    have hD9 : va_D A [(a, .inr (15, [.int m0, .ref u37, .int (nI n)])), (ea, .inl (dA 4, n, rfA f)), (u37, .inl (dA 4, (n + n / 2), rfA (va_cpy f (fun _ => none) 0 0 n)))] := hD.sub [2, 0, 1] (by decide) rfl
    exact W.aret (v := va_rf (some (u37))) hx hb hrt (Or.inr ⟨_, rfl⟩) (va_rf_or _) (fun t ht hW => ⟨⟨(some (u37)), (u37), rfl, rfl, by rw [ht]; exact hP9, hD9, GK.warm hW hG⟩, hS.F ht⟩) hS.2.2 dJ2_grow_2_44
  · omega

abbrev r_J2_grow_G (n : Nat) : Room := { frames := 4, cells := 1, slots := (n + n / 2), locals := 107 }
set_option maxHeartbeats 1000000 in
theorem c_J2_grow_G (lh : Launch) (D : va_G) (dA : Nat → ClassId) (sz : Nat) (a : Nat) (m0 : Int32) (ea : Nat) (n : Nat) (f : Nat → Option Nat) (K : Nat → Nat) (C : String) (h1 : 2 ≤ n) (h2 : n < 2 ^ 19) (h3 : Cond.castable C "java/lang/Object" ∈ lw_tbl) : Met lh yJ2_grow (ws_ yJ2_grow cJ2_grow 1 (some ((.array (.object "java/lang/Object"))))) (r_J2_grow_G n) (PX (fun U H => H.size = sz ∧ va_P D CL [(a, .inr (15, [.int m0, .ref ea, .int (nI n)])), (ea, .inl (dA 4, n, rfA f))] H ∧ va_D nT [(a, .inr (15, [.int m0, .ref ea, .int (nI n)])), (ea, .inl (dA 4, n, rfA f))] ∧ GK D dA U ∧ KL K (va_A [(a, .inr (15, [.int m0, .ref ea, .int (nI n)])), (ea, .inl (dA 4, n, rfA f))] sz) U H ∧ EL (va_A [(a, .inr (15, [.int m0, .ref ea, .int (nI n)])), (ea, .inl (dA 4, n, rfA f))] sz) C f n U H) [.ref a]) (va_Qq (fun (r : Option Nat) (u : Nat) => r = some (u)) (fun (u : Nat) t => va_P D CL [(a, .inr (15, [.int m0, .ref u, .int (nI n)])), (ea, .inl (dA 4, n, rfA f)), (u, .inl (dA 4, (n + n / 2), rfA (va_cpy f (fun _ => none) 0 0 n)))] t.heap ∧ va_D (va_A [(a, .inr (15, [.int m0, .ref ea, .int (nI n)])), (ea, .inl (dA 4, n, rfA f))] sz) [(a, .inr (15, [.int m0, .ref u, .int (nI n)])), (ea, .inl (dA 4, n, rfA f)), (u, .inl (dA 4, (n + n / 2), rfA (va_cpy f (fun _ => none) 0 0 n)))] ∧ GK D dA t) (va_A [(a, .inr (15, [.int m0, .ref ea, .int (nI n)])), (ea, .inl (dA 4, n, rfA f))] sz)) 1 (n + n / 2) (va_A [(a, .inr (15, [.int m0, .ref ea, .int (nI n)])), (ea, .inl (dA 4, n, rfA f))] sz) := by
  refine Met.ofW (cc := cJ2_grow) (maxL := 1) (ret := (some ((.array (.object "java/lang/Object"))))) (by decide) rfl ?_
  intro p e s m args below meth cd s₁ B hml hv
  obtain ⟨hargs, hsz, hP, hD, hG, hKL, hEL⟩ := hv
  have hx := B.exec
  have hb := B.bytes
  have hrt := B.returns
  have hts := atoms_spec (ws := (ws_ yJ2_grow cJ2_grow 1 (some ((.array (.object "java/lang/Object")))))) B.pre
  have hts : ∀ w ∈ lw_all, w.before _ s = true := fun w h => hts w (List.mem_cons_of_mem _ h)
  have hown : s.vm.findClass RJ2 = some m.cls := findClass_of_methodNamed B.named
  have hlocks := B.notSynchronized
  subst hsz
  have hD := hD.self (sz := s.heap.size)
  have hA : ∀ q : Nat, s.heap.size ≤ q → va_A [(a, .inr (15, [.int m0, .ref ea, .int (nI n)])), (ea, .inl (dA 4, n, rfA f))] s.heap.size q := fun q h => Or.inr h
  generalize va_A [(a, .inr (15, [.int m0, .ref ea, .int (nI n)])), (ea, .inl (dA 4, n, rfA f))] s.heap.size = A at hD hA hKL hEL ⊢
  have hS : va_S A s.heap s.heap [] := va_S.rf
  have hE : entryFrame m args 1 = F0 m 0 ((lg_sl ([.ref a]) ++ List.replicate (1 - (lg_sl ([.ref a])).length) Slot.unset).toArray) [] := by rw [hargs]; exact lg_entry_eq m _ 1
  have hl := lv_entry ([.ref a]) (n := 1) (Nat.le_of_ble_eq_true rfl)
  rw [hE]
  clear hE
  generalize (lg_sl ([.ref a]) ++ List.replicate (1 - (lg_sl ([.ref a])).length) Slot.unset).toArray = ls at hl ⊢
  have hl : lv_has ls 1 [(0, .ref a)] := hl
  generalize hQ : MQ _ _ _ _ _ _ _ = Q
  refine lv_aload_n hx hb dJ2_grow_0 rfl (lv_at hl 0 rfl) ?_
  refine lv_aload_n hx hb dJ2_grow_1 rfl (lv_at hl 0 rfl) ?_
  refine va_get (D := D) (ci := 15) (v := .int (nI n)) (C := RJ2) (T := TJ2) (N := 3) hx hb hts in_J2 hown hG.1 hP 0 rfl rfl 2 (by decide) (hts _ q124) (fun _ h => h) rfl dJ2_grow_2 ?_
  refine lv_iconst (v := nI 1) hx hb dJ2_grow_5 (by decide) ?_
  refine kn_add hx hb dJ2_grow_6 ?_
  have hPs : va_P D CL ([(a, .inr (15, [.int m0, .ref ea, .int (nI n)])), (ea, .inl (dA 4, n, rfA f))] ++ []) s.heap := hP.sub [0, 1] rfl
  have hDs : va_D A ([(a, .inr (15, [.int m0, .ref ea, .int (nI n)])), (ea, .inl (dA 4, n, rfA f))] ++ []) := hD.sub [0, 1] (by decide) rfl
  have hz9 := hS.1
  refine va_callq (va_runV (As := [.int (nI (n + 1))]) (rest := []) ⟨hx, hb, hml, hown, hts⟩ (c_J2_grow_2_G lh D dA s.heap.size a m0 ea n f K C (h1) (h2) (h3)) (w_J2_grow_2 hts q377 rfl rfl ⟨Nat.le_of_ble_eq_true rfl, Nat.le_of_ble_eq_true rfl⟩) ⟨PX.blind (Mv.and Mv.heap (Mv.and Mv.heap (Mv.and Mv.heap (Mv.and Mv.gk (Mv.and KL.mv EL.mv))))), (va_recv hG.1 hP (ci := 15) (q0 := 0) rfl rfl), PX.pre (Mv.and Mv.heap (Mv.and Mv.heap (Mv.and Mv.heap (Mv.and Mv.gk (Mv.and KL.mv EL.mv))))) ⟨rfl, (va_P_left hPs), (va_D_left hDs), hG, (KL.at hKL hS (va_A_up hDs hA hS.1)), (EL.at hEL hS (va_A_up hDs hA hS.1))⟩⟩ rfl rfl hl.1 rfl (lv_room (Nat.le_of_ble_eq_true rfl)) dJ2_grow_7 ⟨Nat.le_of_ble_eq_true rfl, by show _ ≤ (n + n / 2); omega⟩) hS (fun q _ => (va_A_up hDs hA hS.1) q) ((va_A_up hDs hA hS.1)) (fun rr u t H1 locs ht hvm hp hB hz hk hS => ?_)
  generalize u = u7 at hp hB
  obtain ⟨hP1, hD1, -⟩ := hB
  rw [ht] at hP1
  obtain ⟨hP, hD⟩ := vp_join hPs hDs hP1 hD1 hk hA hz9
  clear ht hvm hz hk hP1 hD1 hPs hDs hz9
  generalize H1 = H at hP hS ⊢
  have hP : va_P D CL [(a, .inr (15, [.int m0, .ref u7, .int (nI n)])), (ea, .inl (dA 4, n, rfA f)), (u7, .inl (dA 4, (n + n / 2), rfA (va_cpy f (fun _ => none) 0 0 n)))] H := hP
  have hD : va_D A [(a, .inr (15, [.int m0, .ref u7, .int (nI n)])), (ea, .inl (dA 4, n, rfA f)), (u7, .inl (dA 4, (n + n / 2), rfA (va_cpy f (fun _ => none) 0 0 n)))] := hD
  have hrr := hp
  try dsimp only at hrr
  subst hrr
  show W p lh e (r_J2_grow_G n) s m args below meth cd _ _ _ _ Q (F0 m _ ls (.ref u7 :: _))
  subst hQ
  refine W.widen (k := 1) (n := (n + n / 2)) (by first | decide | omega) (by first | decide | omega) ?_
  have hP9 : va_P D CL [(a, .inr (15, [.int m0, .ref u7, .int (nI n)])), (ea, .inl (dA 4, n, rfA f)), (u7, .inl (dA 4, (n + n / 2), rfA (va_cpy f (fun _ => none) 0 0 n)))] H := hP.sub [0, 1, 2] rfl
  have hD9 : va_D A [(a, .inr (15, [.int m0, .ref u7, .int (nI n)])), (ea, .inl (dA 4, n, rfA f)), (u7, .inl (dA 4, (n + n / 2), rfA (va_cpy f (fun _ => none) 0 0 n)))] := hD.sub [0, 1, 2] (by decide) rfl
  exact W.aret (v := va_rf (some (u7))) hx hb hrt (Or.inr ⟨_, rfl⟩) (va_rf_or _) (fun t ht hW => ⟨⟨(some (u7)), (u7), rfl, rfl, by rw [ht]; exact hP9, hD9, GK.warm hW hG⟩, hS.F ht⟩) hS.2.2 dJ2_grow_10

abbrev r_J2_add_2_R : Room := { frames := 0, cells := 0, slots := 0, locals := 0 }
set_option maxHeartbeats 1000000 in
theorem c_J2_add_2_R (lh : Launch) (D : va_G) (dA : Nat → ClassId) (sz : Nat) (a : Nat) (m0 : Int32) (ea : Nat) (n : Nat) (cap : Nat) (f : Nat → Option Nat) (v : Nat) (ci : Nat) (fs : List Value) (rr : vw_C) (h1 : n < cap) (h2 : cap < 2 ^ 31) (h3 : CL[ci]? = some rr) (h4 : Cond.castable rr.1 "java/lang/Object" ∈ lw_tbl) : Met lh yJ2_add_2 (ws_ yJ2_add_2 cJ2_add_2 4 none) r_J2_add_2_R (PX (fun U H => H.size = sz ∧ va_P D CL [(a, .inr (15, [.int m0, .ref ea, .int (nI n)])), (ea, .inl (dA 4, cap, rfA f)), (v, .inr (ci, fs))] H ∧ va_D nT [(a, .inr (15, [.int m0, .ref ea, .int (nI n)])), (ea, .inl (dA 4, cap, rfA f)), (v, .inr (ci, fs))] ∧ GK D dA U) [.ref a, .ref v, .ref ea, .int (nI n)]) (va_Qv (fun u : Unit => True) (fun (u : Unit) t => va_P D CL [(a, .inr (15, [.int m0, .ref ea, .int (nI (n + 1))])), (ea, .inl (dA 4, cap, rfA (va_up f n (some v)))), (v, .inr (ci, fs))] t.heap ∧ va_D (va_A [(a, .inr (15, [.int m0, .ref ea, .int (nI n)])), (ea, .inl (dA 4, cap, rfA f)), (v, .inr (ci, fs))] sz) [(a, .inr (15, [.int m0, .ref ea, .int (nI (n + 1))])), (ea, .inl (dA 4, cap, rfA (va_up f n (some v)))), (v, .inr (ci, fs))] ∧ GK D dA t) (va_A [(a, .inr (15, [.int m0, .ref ea, .int (nI n)])), (ea, .inl (dA 4, cap, rfA f)), (v, .inr (ci, fs))] sz)) 0 0 (va_A [(a, .inr (15, [.int m0, .ref ea, .int (nI n)])), (ea, .inl (dA 4, cap, rfA f)), (v, .inr (ci, fs))] sz) := by
  refine Met.ofW (cc := cJ2_add_2) (maxL := 4) (ret := none) (by decide) rfl ?_
  intro p e s m args below meth cd s₁ B hml hv
  obtain ⟨hargs, hsz, hP, hD, hG⟩ := hv
  have hx := B.exec
  have hb := B.bytes
  have hrt := B.returns
  have hts := atoms_spec (ws := (ws_ yJ2_add_2 cJ2_add_2 4 none)) B.pre
  have hts : ∀ w ∈ lw_all, w.before _ s = true := fun w h => hts w (List.mem_cons_of_mem _ h)
  have hown : s.vm.findClass RJ2 = some m.cls := findClass_of_methodNamed B.named
  have hlocks := B.notSynchronized
  subst hsz
  have hD := hD.self (sz := s.heap.size)
  have hA : ∀ q : Nat, s.heap.size ≤ q → va_A [(a, .inr (15, [.int m0, .ref ea, .int (nI n)])), (ea, .inl (dA 4, cap, rfA f)), (v, .inr (ci, fs))] s.heap.size q := fun q h => Or.inr h
  generalize va_A [(a, .inr (15, [.int m0, .ref ea, .int (nI n)])), (ea, .inl (dA 4, cap, rfA f)), (v, .inr (ci, fs))] s.heap.size = A at hD hA ⊢
  have hS : va_S A s.heap s.heap [] := va_S.rf
  have hE : entryFrame m args 4 = F0 m 0 ((lg_sl ([.ref a, .ref v, .ref ea, .int (nI n)]) ++ List.replicate (4 - (lg_sl ([.ref a, .ref v, .ref ea, .int (nI n)])).length) Slot.unset).toArray) [] := by rw [hargs]; exact lg_entry_eq m _ 4
  have hl := lv_entry ([.ref a, .ref v, .ref ea, .int (nI n)]) (n := 4) (Nat.le_of_ble_eq_true rfl)
  rw [hE]
  clear hE
  generalize (lg_sl ([.ref a, .ref v, .ref ea, .int (nI n)]) ++ List.replicate (4 - (lg_sl ([.ref a, .ref v, .ref ea, .int (nI n)])).length) Slot.unset).toArray = ls at hl ⊢
  have hl : lv_has ls 4 [(0, .ref a), (1, .ref v), (2, .ref ea), (3, .int (nI n))] := hl
  generalize hQ : MQ _ _ _ _ _ _ _ = Q
  refine lv_iload_n hx hb dJ2_add_2_0 rfl (lv_at hl 3 rfl) ?_
  refine lv_aload_n hx hb dJ2_add_2_1 rfl (lv_at hl 2 rfl) ?_
  refine va_alen (v := nI cap) hx hb hG.1 hP 1 4 rfl rfl rfl dJ2_add_2_2 ?_
  refine kn_cne (tgt := 11) hx hb dJ2_add_2_3 (by decide) (by omega) (by omega) (fun c_3 => ?_) (fun c_3 => ?_)
  · refine lv_aload_n hx hb dJ2_add_2_11 rfl (lv_at hl 2 rfl) ?_
    refine lv_iload_n hx hb dJ2_add_2_12 rfl (lv_at hl 3 rfl) ?_
    refine lv_aload_n hx hb dJ2_add_2_13 rfl (lv_at hl 1 rfl) ?_
    refine va_astqO hx hb hG.1 hP hD hS 1 4 2 ci rfl rfl (hG.2.1 _ h4 rfl) rfl h3 (vp_in_nI (show n < cap from by omega) (by omega)) dJ2_add_2_14 (fun H locs hP hD hS => ?_)
    rw [nI_clamp (show n < 2 ^ 31 from by omega)] at hP hD
    have hP : va_P D CL [(a, .inr (15, [.int m0, .ref ea, .int (nI n)])), (ea, .inl (dA 4, cap, rfA (va_up f n (some v)))), (v, .inr (ci, fs))] H := hP
    have hD : va_D A [(a, .inr (15, [.int m0, .ref ea, .int (nI n)])), (ea, .inl (dA 4, cap, rfA (va_up f n (some v)))), (v, .inr (ci, fs))] := hD
    refine lv_aload_n hx hb dJ2_add_2_15 rfl (lv_at hl 0 rfl) ?_
    refine lv_iload_n hx hb dJ2_add_2_16 rfl (lv_at hl 3 rfl) ?_
    refine lv_iconst (v := nI 1) hx hb dJ2_add_2_17 (by decide) ?_
    refine kn_add hx hb dJ2_add_2_18 ?_
    refine va_put (D := D) (ci := 15) (v := .int (nI (n + 1))) (C := RJ2) (T := TJ2) (N := 3) hx hb hts in_J2 tyJ2 tyJ2_ok nmJ2 hown hG.1 hP hD hS 0 rfl rfl 2 (by decide) (hts _ q124) (fun _ h => h) rfl rfl (rfl) (rfl) (Nat.le_of_ble_eq_true rfl) dJ2_add_2_19 (fun H locs hP hD hS => ?_)
    have hP : va_P D CL [(a, .inr (15, [.int m0, .ref ea, .int (nI (n + 1))])), (ea, .inl (dA 4, cap, rfA (va_up f n (some v)))), (v, .inr (ci, fs))] H := hP
    have hD : va_D A [(a, .inr (15, [.int m0, .ref ea, .int (nI (n + 1))])), (ea, .inl (dA 4, cap, rfA (va_up f n (some v)))), (v, .inr (ci, fs))] := hD
    subst hQ
    have hP9 : va_P D CL [(a, .inr (15, [.int m0, .ref ea, .int (nI (n + 1))])), (ea, .inl (dA 4, cap, rfA (va_up f n (some v)))), (v, .inr (ci, fs))] H := hP.sub [0, 1, 2] rfl
    have hD9 : va_D A [(a, .inr (15, [.int m0, .ref ea, .int (nI (n + 1))])), (ea, .inl (dA 4, cap, rfA (va_up f n (some v)))), (v, .inr (ci, fs))] := hD.sub [0, 1, 2] (by decide) rfl
    exact W.vret hx hb hrt (fun t ht hW => ⟨⟨(), rfl, trivial, by rw [ht]; exact hP9, hD9, GK.warm hW hG⟩, hS.F ht⟩) hS.2.2 dJ2_add_2_22
  · omega

abbrev r_J2_add_R : Room := { frames := 1, cells := 0, slots := 0, locals := 23 }
set_option maxHeartbeats 1000000 in
theorem c_J2_add_R (lh : Launch) (D : va_G) (dA : Nat → ClassId) (sz : Nat) (a : Nat) (m0 : Int32) (ea : Nat) (n : Nat) (cap : Nat) (f : Nat → Option Nat) (v : Nat) (ci : Nat) (fs : List Value) (rr : vw_C) (h1 : n < cap) (h2 : cap < 2 ^ 31) (h3 : CL[ci]? = some rr) (h4 : Cond.castable rr.1 "java/lang/Object" ∈ lw_tbl) : Met lh yJ2_add (ws_ yJ2_add cJ2_add 2 (some .boolean)) r_J2_add_R (PX (fun U H => H.size = sz ∧ va_P D CL [(a, .inr (15, [.int m0, .ref ea, .int (nI n)])), (ea, .inl (dA 4, cap, rfA f)), (v, .inr (ci, fs))] H ∧ va_D nT [(a, .inr (15, [.int m0, .ref ea, .int (nI n)])), (ea, .inl (dA 4, cap, rfA f)), (v, .inr (ci, fs))] ∧ GK D dA U) [.ref a, .ref v]) (va_Qi (fun (r : Int32) (u : Unit) => r = nI 1) (fun (u : Unit) t => va_P D CL [(a, .inr (15, [.int (m0 + nI 1), .ref ea, .int (nI (n + 1))])), (ea, .inl (dA 4, cap, rfA (va_up f n (some v)))), (v, .inr (ci, fs))] t.heap ∧ va_D (va_A [(a, .inr (15, [.int m0, .ref ea, .int (nI n)])), (ea, .inl (dA 4, cap, rfA f)), (v, .inr (ci, fs))] sz) [(a, .inr (15, [.int (m0 + nI 1), .ref ea, .int (nI (n + 1))])), (ea, .inl (dA 4, cap, rfA (va_up f n (some v)))), (v, .inr (ci, fs))] ∧ GK D dA t) (va_A [(a, .inr (15, [.int m0, .ref ea, .int (nI n)])), (ea, .inl (dA 4, cap, rfA f)), (v, .inr (ci, fs))] sz)) 0 0 (va_A [(a, .inr (15, [.int m0, .ref ea, .int (nI n)])), (ea, .inl (dA 4, cap, rfA f)), (v, .inr (ci, fs))] sz) := by
  refine Met.ofW (cc := cJ2_add) (maxL := 2) (ret := (some .boolean)) (by decide) rfl ?_
  intro p e s m args below meth cd s₁ B hml hv
  obtain ⟨hargs, hsz, hP, hD, hG⟩ := hv
  have hx := B.exec
  have hb := B.bytes
  have hrt := B.returns
  have hts := atoms_spec (ws := (ws_ yJ2_add cJ2_add 2 (some .boolean))) B.pre
  have hts : ∀ w ∈ lw_all, w.before _ s = true := fun w h => hts w (List.mem_cons_of_mem _ h)
  have hown : s.vm.findClass RJ2 = some m.cls := findClass_of_methodNamed B.named
  have hlocks := B.notSynchronized
  subst hsz
  have hD := hD.self (sz := s.heap.size)
  have hA : ∀ q : Nat, s.heap.size ≤ q → va_A [(a, .inr (15, [.int m0, .ref ea, .int (nI n)])), (ea, .inl (dA 4, cap, rfA f)), (v, .inr (ci, fs))] s.heap.size q := fun q h => Or.inr h
  generalize va_A [(a, .inr (15, [.int m0, .ref ea, .int (nI n)])), (ea, .inl (dA 4, cap, rfA f)), (v, .inr (ci, fs))] s.heap.size = A at hD hA ⊢
  have hS : va_S A s.heap s.heap [] := va_S.rf
  have hE : entryFrame m args 2 = F0 m 0 ((lg_sl ([.ref a, .ref v]) ++ List.replicate (2 - (lg_sl ([.ref a, .ref v])).length) Slot.unset).toArray) [] := by rw [hargs]; exact lg_entry_eq m _ 2
  have hl := lv_entry ([.ref a, .ref v]) (n := 2) (Nat.le_of_ble_eq_true rfl)
  rw [hE]
  clear hE
  generalize (lg_sl ([.ref a, .ref v]) ++ List.replicate (2 - (lg_sl ([.ref a, .ref v])).length) Slot.unset).toArray = ls at hl ⊢
  have hl : lv_has ls 2 [(0, .ref a), (1, .ref v)] := hl
  generalize hQ : MQ _ _ _ _ _ _ _ = Q
  refine lv_aload_n hx hb dJ2_add_0 rfl (lv_at hl 0 rfl) ?_
  refine lv_dup hx hb dJ2_add_1 rfl ?_
  refine va_get (D := D) (ci := 15) (v := .int m0) (C := RJ2) (T := TJ2) (N := 3) hx hb hts in_J2 hown hG.1 hP 0 rfl rfl 0 (by decide) (hts _ q126) (u_same (hts _ q127)) rfl dJ2_add_2 ?_
  refine lv_iconst (v := nI 1) hx hb dJ2_add_5 (by decide) ?_
  refine lv_iadd hx hb dJ2_add_6 ?_
  refine va_put (D := D) (ci := 15) (v := .int (m0 + (nI 1))) (C := RJ2) (T := TJ2) (N := 3) hx hb hts in_J2 tyJ2 tyJ2_ok nmJ2 hown hG.1 hP hD hS 0 rfl rfl 0 (by decide) (hts _ q126) (u_same (hts _ q127)) rfl rfl (rfl) (rfl) (Nat.le_of_ble_eq_true rfl) dJ2_add_7 (fun H locs hP hD hS => ?_)
  have hP : va_P D CL [(a, .inr (15, [.int (m0 + (nI 1)), .ref ea, .int (nI n)])), (ea, .inl (dA 4, cap, rfA f)), (v, .inr (ci, fs))] H := hP
  have hD : va_D A [(a, .inr (15, [.int (m0 + (nI 1)), .ref ea, .int (nI n)])), (ea, .inl (dA 4, cap, rfA f)), (v, .inr (ci, fs))] := hD
  refine lv_aload_n hx hb dJ2_add_10 rfl (lv_at hl 0 rfl) ?_
  refine lv_aload_n hx hb dJ2_add_11 rfl (lv_at hl 1 rfl) ?_
  refine lv_aload_n hx hb dJ2_add_12 rfl (lv_at hl 0 rfl) ?_
  refine va_get (D := D) (ci := 15) (v := .ref ea) (C := RJ2) (T := TJ2) (N := 3) hx hb hts in_J2 hown hG.1 hP 0 rfl rfl 1 (by decide) (hts _ q123) (fun _ h => h) rfl dJ2_add_13 ?_
  refine lv_aload_n hx hb dJ2_add_16 rfl (lv_at hl 0 rfl) ?_
  refine va_get (D := D) (ci := 15) (v := .int (nI n)) (C := RJ2) (T := TJ2) (N := 3) hx hb hts in_J2 hown hG.1 hP 0 rfl rfl 2 (by decide) (hts _ q124) (fun _ h => h) rfl dJ2_add_17 ?_
  have hPs : va_P D CL ([(a, .inr (15, [.int (m0 + (nI 1)), .ref ea, .int (nI n)])), (ea, .inl (dA 4, cap, rfA f)), (v, .inr (ci, fs))] ++ []) H := hP.sub [0, 1, 2] rfl
  have hDs : va_D A ([(a, .inr (15, [.int (m0 + (nI 1)), .ref ea, .int (nI n)])), (ea, .inl (dA 4, cap, rfA f)), (v, .inr (ci, fs))] ++ []) := hD.sub [0, 1, 2] (by decide) rfl
  have hz9 := hS.1
  refine va_callv (va_runV (As := [.ref v, .ref ea, .int (nI n)]) (rest := []) ⟨hx, hb, hml, hown, hts⟩ (c_J2_add_2_R lh D dA H.size a (m0 + (nI 1)) ea n cap f v ci fs rr (show n < cap from by first | omega | assumption) (show cap < 2 ^ 31 from by first | omega | assumption) (h3) (h4)) (w_J2_add_2 hts q369 rfl rfl ⟨Nat.le_of_ble_eq_true rfl, Nat.le_of_ble_eq_true rfl⟩) ⟨PX.blind (Mv.and Mv.heap (Mv.and Mv.heap (Mv.and Mv.heap Mv.gk))), (va_recv hG.1 hP (ci := 15) (q0 := 0) rfl rfl), PX.pre (Mv.and Mv.heap (Mv.and Mv.heap (Mv.and Mv.heap Mv.gk))) ⟨rfl, (va_P_left hPs), (va_D_left hDs), hG⟩⟩ rfl rfl hl.1 rfl (lv_room (Nat.le_of_ble_eq_true rfl)) dJ2_add_20 ⟨Nat.le_of_ble_eq_true rfl, Nat.le_of_ble_eq_true rfl⟩) hS (fun q _ => (va_A_up hDs hA hS.1) q) ((va_A_up hDs hA hS.1)) (fun u t H1 locs ht hvm hp hB hz hk hS => ?_)
  obtain ⟨hP1, hD1, -⟩ := hB
  rw [ht] at hP1
  obtain ⟨hP, hD⟩ := vp_join hPs hDs hP1 hD1 hk hA hz9
  clear ht hvm hz hk hP1 hD1 hPs hDs hz9
  generalize H1 = H at hP hS ⊢
  have hP : va_P D CL [(a, .inr (15, [.int (m0 + (nI 1)), .ref ea, .int (nI (n + 1))])), (ea, .inl (dA 4, cap, rfA (va_up f n (some v)))), (v, .inr (ci, fs))] H := hP
  have hD : va_D A [(a, .inr (15, [.int (m0 + (nI 1)), .ref ea, .int (nI (n + 1))])), (ea, .inl (dA 4, cap, rfA (va_up f n (some v)))), (v, .inr (ci, fs))] := hD
  refine lv_iconst (v := nI 1) hx hb dJ2_add_23 (by decide) ?_
  subst hQ
  have hP9 : va_P D CL [(a, .inr (15, [.int (m0 + nI 1), .ref ea, .int (nI (n + 1))])), (ea, .inl (dA 4, cap, rfA (va_up f n (some v)))), (v, .inr (ci, fs))] H := hP.sub [0, 1, 2] rfl
  have hD9 : va_D A [(a, .inr (15, [.int (m0 + nI 1), .ref ea, .int (nI (n + 1))])), (ea, .inl (dA 4, cap, rfA (va_up f n (some v)))), (v, .inr (ci, fs))] := hD.sub [0, 1, 2] (by decide) rfl
  exact W.zret (v := nI 1) hx hb hrt rfl (fun t ht hW => ⟨⟨_, (), rfl, (by first | rfl | exact ⟨rfl, rfl⟩), by rw [ht]; exact hP9, hD9, GK.warm hW hG⟩, hS.F ht⟩) hS.2.2 dJ2_add_24

abbrev r_J2_add_2_F : Room := { frames := 3, cells := 1, slots := 10, locals := 64 }
set_option maxHeartbeats 1000000 in
theorem c_J2_add_2_F (lh : Launch) (D : va_G) (dA : Nat → ClassId) (sz : Nat) (a : Nat) (m0 : Int32) (K : Nat → Nat) (v : Nat) (ci : Nat) (fs : List Value) (rr : vw_C) (h1 : CL[ci]? = some rr) (h2 : Cond.castable rr.1 "java/lang/Object" ∈ lw_tbl) : Met lh yJ2_add_2 (ws_ yJ2_add_2 cJ2_add_2 4 none) r_J2_add_2_F (PX (fun U H => H.size = sz ∧ va_P D CL [(a, .inr (15, [.int m0, .ref (K 50), .int (nI 0)])), (v, .inr (ci, fs))] H ∧ va_D nT [(a, .inr (15, [.int m0, .ref (K 50), .int (nI 0)])), (v, .inr (ci, fs))] ∧ GK D dA U ∧ KL K (va_A [(a, .inr (15, [.int m0, .ref (K 50), .int (nI 0)])), (v, .inr (ci, fs))] sz) U H) [.ref a, .ref v, .ref (K 50), .int (nI 0)]) (va_Qv (fun u : Nat => True) (fun (u : Nat) t => va_P D CL [(a, .inr (15, [.int m0, .ref u, .int (nI 1)])), (u, .inl (dA 4, 10, rfA (va_up (fun _ => none) 0 (some v)))), (v, .inr (ci, fs))] t.heap ∧ va_D (va_A [(a, .inr (15, [.int m0, .ref (K 50), .int (nI 0)])), (v, .inr (ci, fs))] sz) [(a, .inr (15, [.int m0, .ref u, .int (nI 1)])), (u, .inl (dA 4, 10, rfA (va_up (fun _ => none) 0 (some v)))), (v, .inr (ci, fs))] ∧ GK D dA t) (va_A [(a, .inr (15, [.int m0, .ref (K 50), .int (nI 0)])), (v, .inr (ci, fs))] sz)) 1 10 (va_A [(a, .inr (15, [.int m0, .ref (K 50), .int (nI 0)])), (v, .inr (ci, fs))] sz) := by
  refine Met.ofW (cc := cJ2_add_2) (maxL := 4) (ret := none) (by decide) rfl ?_
  intro p e s m args below meth cd s₁ B hml hv
  obtain ⟨hargs, hsz, hP, hD, hG, hKL⟩ := hv
  have hx := B.exec
  have hb := B.bytes
  have hrt := B.returns
  have hts := atoms_spec (ws := (ws_ yJ2_add_2 cJ2_add_2 4 none)) B.pre
  have hts : ∀ w ∈ lw_all, w.before _ s = true := fun w h => hts w (List.mem_cons_of_mem _ h)
  have hown : s.vm.findClass RJ2 = some m.cls := findClass_of_methodNamed B.named
  have hlocks := B.notSynchronized
  subst hsz
  have hD := hD.self (sz := s.heap.size)
  have hA : ∀ q : Nat, s.heap.size ≤ q → va_A [(a, .inr (15, [.int m0, .ref (K 50), .int (nI 0)])), (v, .inr (ci, fs))] s.heap.size q := fun q h => Or.inr h
  generalize va_A [(a, .inr (15, [.int m0, .ref (K 50), .int (nI 0)])), (v, .inr (ci, fs))] s.heap.size = A at hD hA hKL ⊢
  have hS : va_S A s.heap s.heap [] := va_S.rf
  have hE : entryFrame m args 4 = F0 m 0 ((lg_sl ([.ref a, .ref v, .ref (K 50), .int (nI 0)]) ++ List.replicate (4 - (lg_sl ([.ref a, .ref v, .ref (K 50), .int (nI 0)])).length) Slot.unset).toArray) [] := by rw [hargs]; exact lg_entry_eq m _ 4
  have hl := lv_entry ([.ref a, .ref v, .ref (K 50), .int (nI 0)]) (n := 4) (Nat.le_of_ble_eq_true rfl)
  rw [hE]
  clear hE
  generalize (lg_sl ([.ref a, .ref v, .ref (K 50), .int (nI 0)]) ++ List.replicate (4 - (lg_sl ([.ref a, .ref v, .ref (K 50), .int (nI 0)])).length) Slot.unset).toArray = ls at hl ⊢
  have hl : lv_has ls 4 [(0, .ref a), (1, .ref v), (2, .ref (K 50)), (3, .int (nI 0))] := hl
  generalize hQ : MQ _ _ _ _ _ _ _ = Q
  refine lv_iload_n hx hb dJ2_add_2_0 rfl (lv_at hl 3 rfl) ?_
  refine lv_aload_n hx hb dJ2_add_2_1 rfl (lv_at hl 2 rfl) ?_
  refine KL_len hx hb hKL hS dJ2_add_2_2 ?_
  refine kn_cne (tgt := 11) hx hb dJ2_add_2_3 (by decide) (by decide) (by decide) (fun c => absurd c (by decide)) (fun _ => ?_)
  refine lv_aload_n hx hb dJ2_add_2_6 rfl (lv_at hl 0 rfl) ?_
  have hPs : va_P D CL ([(a, .inr (15, [.int m0, .ref (K 50), .int (nI 0)]))] ++ [(v, .inr (ci, fs))]) s.heap := hP.sub [0, 1] rfl
  have hDs : va_D A ([(a, .inr (15, [.int m0, .ref (K 50), .int (nI 0)]))] ++ [(v, .inr (ci, fs))]) := hD.sub [0, 1] (by decide) rfl
  have hz9 := hS.1
  refine va_callq (va_runV (As := []) (rest := []) ⟨hx, hb, hml, hown, hts⟩ (c_J2_grow_F lh D dA s.heap.size a m0 K) (w_J2_grow hts q373 rfl rfl ⟨Nat.le_of_ble_eq_true rfl, Nat.le_of_ble_eq_true rfl⟩) ⟨PX.blind (Mv.and Mv.heap (Mv.and Mv.heap (Mv.and Mv.heap (Mv.and Mv.gk KL.mv)))), (va_recv hG.1 hP (ci := 15) (q0 := 0) rfl rfl), PX.pre (Mv.and Mv.heap (Mv.and Mv.heap (Mv.and Mv.heap (Mv.and Mv.gk KL.mv)))) ⟨rfl, (va_P_left hPs), (va_D_left hDs), hG, (KL.at hKL hS (va_A_up hDs hA hS.1))⟩⟩ rfl rfl hl.1 rfl (lv_room (Nat.le_of_ble_eq_true rfl)) dJ2_add_2_7 ⟨Nat.le_of_ble_eq_true rfl, Nat.le_of_ble_eq_true rfl⟩) hS (fun q _ => (va_A_up hDs hA hS.1) q) ((va_A_up hDs hA hS.1)) (fun rr u t H1 locs ht hvm hp hB hz hk hS => ?_)
  generalize u = u7 at hp hB
  obtain ⟨hP1, hD1, -⟩ := hB
  rw [ht] at hP1
  obtain ⟨hP, hD⟩ := vp_join hPs hDs hP1 hD1 hk hA hz9
  clear ht hvm hz hk hP1 hD1 hPs hDs hz9
  generalize H1 = H at hP hS ⊢
  have hP : va_P D CL [(a, .inr (15, [.int m0, .ref u7, .int (nI 0)])), (u7, .inl (dA 4, 10, rfA (fun _ => none))), (v, .inr (ci, fs))] H := hP
  have hD : va_D A [(a, .inr (15, [.int m0, .ref u7, .int (nI 0)])), (u7, .inl (dA 4, 10, rfA (fun _ => none))), (v, .inr (ci, fs))] := hD
  have hrr := hp
  try dsimp only at hrr
  subst hrr
  show W p lh e r_J2_add_2_F s m args below meth cd _ _ _ _ Q (F0 m _ ls (.ref u7 :: _))
  refine lv_astore_n (lv' := [(2, .ref u7), (0, .ref a), (1, .ref v), (3, .int (nI 0))]) hx hb dJ2_add_2_10 rfl hl (by decide) rfl (fun ls hl => ?_)
  refine lv_aload_n hx hb dJ2_add_2_11 rfl (lv_at hl 0 rfl) ?_
  refine lv_iload_n hx hb dJ2_add_2_12 rfl (lv_at hl 3 rfl) ?_
  refine lv_aload_n hx hb dJ2_add_2_13 rfl (lv_at hl 2 rfl) ?_
  refine va_astqO hx hb hG.1 hP hD hS 1 4 2 ci rfl rfl (hG.2.1 _ h2 rfl) rfl h1 (vp_in_nI (show 0 < 10 from by omega) (by omega)) dJ2_add_2_14 (fun H locs hP hD hS => ?_)
  rw [nI_clamp (show 0 < 2 ^ 31 from by omega)] at hP hD
  have hP : va_P D CL [(a, .inr (15, [.int m0, .ref u7, .int (nI 0)])), (u7, .inl (dA 4, 10, rfA (va_up (fun _ => none) 0 (some v)))), (v, .inr (ci, fs))] H := hP
  have hD : va_D A [(a, .inr (15, [.int m0, .ref u7, .int (nI 0)])), (u7, .inl (dA 4, 10, rfA (va_up (fun _ => none) 0 (some v)))), (v, .inr (ci, fs))] := hD
  refine lv_aload_n hx hb dJ2_add_2_15 rfl (lv_at hl 1 rfl) ?_
  refine lv_iload_n hx hb dJ2_add_2_16 rfl (lv_at hl 3 rfl) ?_
  refine lv_iconst (v := nI 1) hx hb dJ2_add_2_17 (by decide) ?_
  refine kn_add hx hb dJ2_add_2_18 ?_
  refine kx_int (y := nI 1) rfl ?_
  refine va_put (D := D) (ci := 15) (v := .int (nI 1)) (C := RJ2) (T := TJ2) (N := 3) hx hb hts in_J2 tyJ2 tyJ2_ok nmJ2 hown hG.1 hP hD hS 0 rfl rfl 2 (by decide) (hts _ q124) (fun _ h => h) rfl rfl (rfl) (rfl) (Nat.le_of_ble_eq_true rfl) dJ2_add_2_19 (fun H locs hP hD hS => ?_)
  have hP : va_P D CL [(a, .inr (15, [.int m0, .ref u7, .int (nI 1)])), (u7, .inl (dA 4, 10, rfA (va_up (fun _ => none) 0 (some v)))), (v, .inr (ci, fs))] H := hP
  have hD : va_D A [(a, .inr (15, [.int m0, .ref u7, .int (nI 1)])), (u7, .inl (dA 4, 10, rfA (va_up (fun _ => none) 0 (some v)))), (v, .inr (ci, fs))] := hD
  subst hQ
  have hP9 : va_P D CL [(a, .inr (15, [.int m0, .ref u7, .int (nI 1)])), (u7, .inl (dA 4, 10, rfA (va_up (fun _ => none) 0 (some v)))), (v, .inr (ci, fs))] H := hP.sub [0, 1, 2] rfl
  have hD9 : va_D A [(a, .inr (15, [.int m0, .ref u7, .int (nI 1)])), (u7, .inl (dA 4, 10, rfA (va_up (fun _ => none) 0 (some v)))), (v, .inr (ci, fs))] := hD.sub [0, 1, 2] (by decide) rfl
  exact W.vret hx hb hrt (fun t ht hW => ⟨⟨(u7), rfl, trivial, by rw [ht]; exact hP9, hD9, GK.warm hW hG⟩, hS.F ht⟩) hS.2.2 dJ2_add_2_22

abbrev r_J2_add_F : Room := { frames := 4, cells := 1, slots := 10, locals := 87 }
set_option maxHeartbeats 1000000 in
theorem c_J2_add_F (lh : Launch) (D : va_G) (dA : Nat → ClassId) (sz : Nat) (a : Nat) (m0 : Int32) (K : Nat → Nat) (v : Nat) (ci : Nat) (fs : List Value) (rr : vw_C) (h1 : CL[ci]? = some rr) (h2 : Cond.castable rr.1 "java/lang/Object" ∈ lw_tbl) : Met lh yJ2_add (ws_ yJ2_add cJ2_add 2 (some .boolean)) r_J2_add_F (PX (fun U H => H.size = sz ∧ va_P D CL [(a, .inr (15, [.int m0, .ref (K 50), .int (nI 0)])), (v, .inr (ci, fs))] H ∧ va_D nT [(a, .inr (15, [.int m0, .ref (K 50), .int (nI 0)])), (v, .inr (ci, fs))] ∧ GK D dA U ∧ KL K (va_A [(a, .inr (15, [.int m0, .ref (K 50), .int (nI 0)])), (v, .inr (ci, fs))] sz) U H) [.ref a, .ref v]) (va_Qi (fun (r : Int32) (u : Nat) => r = nI 1) (fun (u : Nat) t => va_P D CL [(a, .inr (15, [.int (m0 + nI 1), .ref u, .int (nI 1)])), (u, .inl (dA 4, 10, rfA (va_up (fun _ => none) 0 (some v)))), (v, .inr (ci, fs))] t.heap ∧ va_D (va_A [(a, .inr (15, [.int m0, .ref (K 50), .int (nI 0)])), (v, .inr (ci, fs))] sz) [(a, .inr (15, [.int (m0 + nI 1), .ref u, .int (nI 1)])), (u, .inl (dA 4, 10, rfA (va_up (fun _ => none) 0 (some v)))), (v, .inr (ci, fs))] ∧ GK D dA t) (va_A [(a, .inr (15, [.int m0, .ref (K 50), .int (nI 0)])), (v, .inr (ci, fs))] sz)) 1 10 (va_A [(a, .inr (15, [.int m0, .ref (K 50), .int (nI 0)])), (v, .inr (ci, fs))] sz) := by
  refine Met.ofW (cc := cJ2_add) (maxL := 2) (ret := (some .boolean)) (by decide) rfl ?_
  intro p e s m args below meth cd s₁ B hml hv
  obtain ⟨hargs, hsz, hP, hD, hG, hKL⟩ := hv
  have hx := B.exec
  have hb := B.bytes
  have hrt := B.returns
  have hts := atoms_spec (ws := (ws_ yJ2_add cJ2_add 2 (some .boolean))) B.pre
  have hts : ∀ w ∈ lw_all, w.before _ s = true := fun w h => hts w (List.mem_cons_of_mem _ h)
  have hown : s.vm.findClass RJ2 = some m.cls := findClass_of_methodNamed B.named
  have hlocks := B.notSynchronized
  subst hsz
  have hD := hD.self (sz := s.heap.size)
  have hA : ∀ q : Nat, s.heap.size ≤ q → va_A [(a, .inr (15, [.int m0, .ref (K 50), .int (nI 0)])), (v, .inr (ci, fs))] s.heap.size q := fun q h => Or.inr h
  generalize va_A [(a, .inr (15, [.int m0, .ref (K 50), .int (nI 0)])), (v, .inr (ci, fs))] s.heap.size = A at hD hA hKL ⊢
  have hS : va_S A s.heap s.heap [] := va_S.rf
  have hE : entryFrame m args 2 = F0 m 0 ((lg_sl ([.ref a, .ref v]) ++ List.replicate (2 - (lg_sl ([.ref a, .ref v])).length) Slot.unset).toArray) [] := by rw [hargs]; exact lg_entry_eq m _ 2
  have hl := lv_entry ([.ref a, .ref v]) (n := 2) (Nat.le_of_ble_eq_true rfl)
  rw [hE]
  clear hE
  generalize (lg_sl ([.ref a, .ref v]) ++ List.replicate (2 - (lg_sl ([.ref a, .ref v])).length) Slot.unset).toArray = ls at hl ⊢
  have hl : lv_has ls 2 [(0, .ref a), (1, .ref v)] := hl
  generalize hQ : MQ _ _ _ _ _ _ _ = Q
  refine lv_aload_n hx hb dJ2_add_0 rfl (lv_at hl 0 rfl) ?_
  refine lv_dup hx hb dJ2_add_1 rfl ?_
  refine va_get (D := D) (ci := 15) (v := .int m0) (C := RJ2) (T := TJ2) (N := 3) hx hb hts in_J2 hown hG.1 hP 0 rfl rfl 0 (by decide) (hts _ q126) (u_same (hts _ q127)) rfl dJ2_add_2 ?_
  refine lv_iconst (v := nI 1) hx hb dJ2_add_5 (by decide) ?_
  refine lv_iadd hx hb dJ2_add_6 ?_
  refine va_put (D := D) (ci := 15) (v := .int (m0 + (nI 1))) (C := RJ2) (T := TJ2) (N := 3) hx hb hts in_J2 tyJ2 tyJ2_ok nmJ2 hown hG.1 hP hD hS 0 rfl rfl 0 (by decide) (hts _ q126) (u_same (hts _ q127)) rfl rfl (rfl) (rfl) (Nat.le_of_ble_eq_true rfl) dJ2_add_7 (fun H locs hP hD hS => ?_)
  have hP : va_P D CL [(a, .inr (15, [.int (m0 + (nI 1)), .ref (K 50), .int (nI 0)])), (v, .inr (ci, fs))] H := hP
  have hD : va_D A [(a, .inr (15, [.int (m0 + (nI 1)), .ref (K 50), .int (nI 0)])), (v, .inr (ci, fs))] := hD
  refine lv_aload_n hx hb dJ2_add_10 rfl (lv_at hl 0 rfl) ?_
  refine lv_aload_n hx hb dJ2_add_11 rfl (lv_at hl 1 rfl) ?_
  refine lv_aload_n hx hb dJ2_add_12 rfl (lv_at hl 0 rfl) ?_
  refine va_get (D := D) (ci := 15) (v := .ref (K 50)) (C := RJ2) (T := TJ2) (N := 3) hx hb hts in_J2 hown hG.1 hP 0 rfl rfl 1 (by decide) (hts _ q123) (fun _ h => h) rfl dJ2_add_13 ?_
  refine lv_aload_n hx hb dJ2_add_16 rfl (lv_at hl 0 rfl) ?_
  refine va_get (D := D) (ci := 15) (v := .int (nI 0)) (C := RJ2) (T := TJ2) (N := 3) hx hb hts in_J2 hown hG.1 hP 0 rfl rfl 2 (by decide) (hts _ q124) (fun _ h => h) rfl dJ2_add_17 ?_
  have hPs : va_P D CL ([(a, .inr (15, [.int (m0 + (nI 1)), .ref (K 50), .int (nI 0)])), (v, .inr (ci, fs))] ++ []) H := hP.sub [0, 1] rfl
  have hDs : va_D A ([(a, .inr (15, [.int (m0 + (nI 1)), .ref (K 50), .int (nI 0)])), (v, .inr (ci, fs))] ++ []) := hD.sub [0, 1] (by decide) rfl
  have hz9 := hS.1
  refine va_callv (va_runV (As := [.ref v, .ref (K 50), .int (nI 0)]) (rest := []) ⟨hx, hb, hml, hown, hts⟩ (c_J2_add_2_F lh D dA H.size a (m0 + (nI 1)) K v ci fs rr (h1) (h2)) (w_J2_add_2 hts q369 rfl rfl ⟨Nat.le_of_ble_eq_true rfl, Nat.le_of_ble_eq_true rfl⟩) ⟨PX.blind (Mv.and Mv.heap (Mv.and Mv.heap (Mv.and Mv.heap (Mv.and Mv.gk KL.mv)))), (va_recv hG.1 hP (ci := 15) (q0 := 0) rfl rfl), PX.pre (Mv.and Mv.heap (Mv.and Mv.heap (Mv.and Mv.heap (Mv.and Mv.gk KL.mv)))) ⟨rfl, (va_P_left hPs), (va_D_left hDs), hG, (KL.at hKL hS (va_A_up hDs hA hS.1))⟩⟩ rfl rfl hl.1 rfl (lv_room (Nat.le_of_ble_eq_true rfl)) dJ2_add_20 ⟨Nat.le_of_ble_eq_true rfl, Nat.le_of_ble_eq_true rfl⟩) hS (fun q _ => (va_A_up hDs hA hS.1) q) ((va_A_up hDs hA hS.1)) (fun u t H1 locs ht hvm hp hB hz hk hS => ?_)
  generalize u = u20 at hp hB
  obtain ⟨hP1, hD1, -⟩ := hB
  rw [ht] at hP1
  obtain ⟨hP, hD⟩ := vp_join hPs hDs hP1 hD1 hk hA hz9
  clear ht hvm hz hk hP1 hD1 hPs hDs hz9
  generalize H1 = H at hP hS ⊢
  have hP : va_P D CL [(a, .inr (15, [.int (m0 + (nI 1)), .ref u20, .int (nI 1)])), (u20, .inl (dA 4, 10, rfA (va_up (fun _ => none) 0 (some v)))), (v, .inr (ci, fs))] H := hP
  have hD : va_D A [(a, .inr (15, [.int (m0 + (nI 1)), .ref u20, .int (nI 1)])), (u20, .inl (dA 4, 10, rfA (va_up (fun _ => none) 0 (some v)))), (v, .inr (ci, fs))] := hD
  refine lv_iconst (v := nI 1) hx hb dJ2_add_23 (by decide) ?_
  subst hQ
  have hP9 : va_P D CL [(a, .inr (15, [.int (m0 + nI 1), .ref u20, .int (nI 1)])), (u20, .inl (dA 4, 10, rfA (va_up (fun _ => none) 0 (some v)))), (v, .inr (ci, fs))] H := hP.sub [0, 1, 2] rfl
  have hD9 : va_D A [(a, .inr (15, [.int (m0 + nI 1), .ref u20, .int (nI 1)])), (u20, .inl (dA 4, 10, rfA (va_up (fun _ => none) 0 (some v)))), (v, .inr (ci, fs))] := hD.sub [0, 1, 2] (by decide) rfl
  exact W.zret (v := nI 1) hx hb hrt rfl (fun t ht hW => ⟨⟨_, (u20), rfl, (by first | rfl | exact ⟨rfl, rfl⟩), by rw [ht]; exact hP9, hD9, GK.warm hW hG⟩, hS.F ht⟩) hS.2.2 dJ2_add_24

abbrev r_J2_add_2_G (n : Nat) : Room := { frames := 5, cells := 1, slots := (n + n / 2), locals := 127 }
set_option maxHeartbeats 1000000 in
theorem c_J2_add_2_G (lh : Launch) (D : va_G) (dA : Nat → ClassId) (sz : Nat) (a : Nat) (m0 : Int32) (ea : Nat) (n : Nat) (f : Nat → Option Nat) (K : Nat → Nat) (C : String) (v : Nat) (ci : Nat) (fs : List Value) (rr : vw_C) (h1 : 2 ≤ n) (h2 : n < 2 ^ 19) (h3 : Cond.castable C "java/lang/Object" ∈ lw_tbl) (h4 : CL[ci]? = some rr) (h5 : Cond.castable rr.1 "java/lang/Object" ∈ lw_tbl) : Met lh yJ2_add_2 (ws_ yJ2_add_2 cJ2_add_2 4 none) (r_J2_add_2_G n) (PX (fun U H => H.size = sz ∧ va_P D CL [(a, .inr (15, [.int m0, .ref ea, .int (nI n)])), (ea, .inl (dA 4, n, rfA f)), (v, .inr (ci, fs))] H ∧ va_D nT [(a, .inr (15, [.int m0, .ref ea, .int (nI n)])), (ea, .inl (dA 4, n, rfA f)), (v, .inr (ci, fs))] ∧ GK D dA U ∧ KL K (va_A [(a, .inr (15, [.int m0, .ref ea, .int (nI n)])), (ea, .inl (dA 4, n, rfA f)), (v, .inr (ci, fs))] sz) U H ∧ EL (va_A [(a, .inr (15, [.int m0, .ref ea, .int (nI n)])), (ea, .inl (dA 4, n, rfA f)), (v, .inr (ci, fs))] sz) C f n U H) [.ref a, .ref v, .ref ea, .int (nI n)]) (va_Qv (fun u : Nat => True) (fun (u : Nat) t => va_P D CL [(a, .inr (15, [.int m0, .ref u, .int (nI (n + 1))])), (ea, .inl (dA 4, n, rfA f)), (u, .inl (dA 4, (n + n / 2), rfA (va_up (va_cpy f (fun _ => none) 0 0 n) n (some v)))), (v, .inr (ci, fs))] t.heap ∧ va_D (va_A [(a, .inr (15, [.int m0, .ref ea, .int (nI n)])), (ea, .inl (dA 4, n, rfA f)), (v, .inr (ci, fs))] sz) [(a, .inr (15, [.int m0, .ref u, .int (nI (n + 1))])), (ea, .inl (dA 4, n, rfA f)), (u, .inl (dA 4, (n + n / 2), rfA (va_up (va_cpy f (fun _ => none) 0 0 n) n (some v)))), (v, .inr (ci, fs))] ∧ GK D dA t) (va_A [(a, .inr (15, [.int m0, .ref ea, .int (nI n)])), (ea, .inl (dA 4, n, rfA f)), (v, .inr (ci, fs))] sz)) 1 (n + n / 2) (va_A [(a, .inr (15, [.int m0, .ref ea, .int (nI n)])), (ea, .inl (dA 4, n, rfA f)), (v, .inr (ci, fs))] sz) := by
  refine Met.ofW (cc := cJ2_add_2) (maxL := 4) (ret := none) (by decide) rfl ?_
  intro p e s m args below meth cd s₁ B hml hv
  obtain ⟨hargs, hsz, hP, hD, hG, hKL, hEL⟩ := hv
  have hx := B.exec
  have hb := B.bytes
  have hrt := B.returns
  have hts := atoms_spec (ws := (ws_ yJ2_add_2 cJ2_add_2 4 none)) B.pre
  have hts : ∀ w ∈ lw_all, w.before _ s = true := fun w h => hts w (List.mem_cons_of_mem _ h)
  have hown : s.vm.findClass RJ2 = some m.cls := findClass_of_methodNamed B.named
  have hlocks := B.notSynchronized
  subst hsz
  have hD := hD.self (sz := s.heap.size)
  have hA : ∀ q : Nat, s.heap.size ≤ q → va_A [(a, .inr (15, [.int m0, .ref ea, .int (nI n)])), (ea, .inl (dA 4, n, rfA f)), (v, .inr (ci, fs))] s.heap.size q := fun q h => Or.inr h
  generalize va_A [(a, .inr (15, [.int m0, .ref ea, .int (nI n)])), (ea, .inl (dA 4, n, rfA f)), (v, .inr (ci, fs))] s.heap.size = A at hD hA hKL hEL ⊢
  have hS : va_S A s.heap s.heap [] := va_S.rf
  have hE : entryFrame m args 4 = F0 m 0 ((lg_sl ([.ref a, .ref v, .ref ea, .int (nI n)]) ++ List.replicate (4 - (lg_sl ([.ref a, .ref v, .ref ea, .int (nI n)])).length) Slot.unset).toArray) [] := by rw [hargs]; exact lg_entry_eq m _ 4
  have hl := lv_entry ([.ref a, .ref v, .ref ea, .int (nI n)]) (n := 4) (Nat.le_of_ble_eq_true rfl)
  rw [hE]
  clear hE
  generalize (lg_sl ([.ref a, .ref v, .ref ea, .int (nI n)]) ++ List.replicate (4 - (lg_sl ([.ref a, .ref v, .ref ea, .int (nI n)])).length) Slot.unset).toArray = ls at hl ⊢
  have hl : lv_has ls 4 [(0, .ref a), (1, .ref v), (2, .ref ea), (3, .int (nI n))] := hl
  generalize hQ : MQ _ _ _ _ _ _ _ = Q
  refine lv_iload_n hx hb dJ2_add_2_0 rfl (lv_at hl 3 rfl) ?_
  refine lv_aload_n hx hb dJ2_add_2_1 rfl (lv_at hl 2 rfl) ?_
  refine va_alen (v := nI n) hx hb hG.1 hP 1 4 rfl rfl rfl dJ2_add_2_2 ?_
  refine kn_cne (tgt := 11) hx hb dJ2_add_2_3 (by decide) (by omega) (by omega) (fun c_3 => ?_) (fun c_3 => ?_)
  · omega
  · refine lv_aload_n hx hb dJ2_add_2_6 rfl (lv_at hl 0 rfl) ?_
    have hPs : va_P D CL ([(a, .inr (15, [.int m0, .ref ea, .int (nI n)])), (ea, .inl (dA 4, n, rfA f))] ++ [(v, .inr (ci, fs))]) s.heap := hP.sub [0, 1, 2] rfl
    have hDs : va_D A ([(a, .inr (15, [.int m0, .ref ea, .int (nI n)])), (ea, .inl (dA 4, n, rfA f))] ++ [(v, .inr (ci, fs))]) := hD.sub [0, 1, 2] (by decide) rfl
    have hz9 := hS.1
    refine va_callq (va_runV (As := []) (rest := []) ⟨hx, hb, hml, hown, hts⟩ (c_J2_grow_G lh D dA s.heap.size a m0 ea n f K C (h1) (h2) (h3)) (w_J2_grow hts q373 rfl rfl ⟨Nat.le_of_ble_eq_true rfl, Nat.le_of_ble_eq_true rfl⟩) ⟨PX.blind (Mv.and Mv.heap (Mv.and Mv.heap (Mv.and Mv.heap (Mv.and Mv.gk (Mv.and KL.mv EL.mv))))), (va_recv hG.1 hP (ci := 15) (q0 := 0) rfl rfl), PX.pre (Mv.and Mv.heap (Mv.and Mv.heap (Mv.and Mv.heap (Mv.and Mv.gk (Mv.and KL.mv EL.mv))))) ⟨rfl, (va_P_left hPs), (va_D_left hDs), hG, (KL.at hKL hS (va_A_up hDs hA hS.1)), (EL.at hEL hS (va_A_up hDs hA hS.1))⟩⟩ rfl rfl hl.1 rfl (lv_room (Nat.le_of_ble_eq_true rfl)) dJ2_add_2_7 ⟨Nat.le_of_ble_eq_true rfl, by show _ ≤ (n + n / 2); omega⟩) hS (fun q _ => (va_A_up hDs hA hS.1) q) ((va_A_up hDs hA hS.1)) (fun rr u t H1 locs ht hvm hp hB hz hk hS => ?_)
    generalize u = u7 at hp hB
    obtain ⟨hP1, hD1, -⟩ := hB
    rw [ht] at hP1
    obtain ⟨hP, hD⟩ := vp_join hPs hDs hP1 hD1 hk hA hz9
    clear ht hvm hz hk hP1 hD1 hPs hDs hz9
    generalize H1 = H at hP hS ⊢
    have hP : va_P D CL [(a, .inr (15, [.int m0, .ref u7, .int (nI n)])), (ea, .inl (dA 4, n, rfA f)), (u7, .inl (dA 4, (n + n / 2), rfA (va_cpy f (fun _ => none) 0 0 n))), (v, .inr (ci, fs))] H := hP
    have hD : va_D A [(a, .inr (15, [.int m0, .ref u7, .int (nI n)])), (ea, .inl (dA 4, n, rfA f)), (u7, .inl (dA 4, (n + n / 2), rfA (va_cpy f (fun _ => none) 0 0 n))), (v, .inr (ci, fs))] := hD
    have hrr := hp
    try dsimp only at hrr
    subst hrr
    show W p lh e (r_J2_add_2_G n) s m args below meth cd _ _ _ _ Q (F0 m _ ls (.ref u7 :: _))
    refine lv_astore_n (lv' := [(2, .ref u7), (0, .ref a), (1, .ref v), (3, .int (nI n))]) hx hb dJ2_add_2_10 rfl hl (by decide) rfl (fun ls hl => ?_)
    refine lv_aload_n hx hb dJ2_add_2_11 rfl (lv_at hl 0 rfl) ?_
    refine lv_iload_n hx hb dJ2_add_2_12 rfl (lv_at hl 3 rfl) ?_
    refine lv_aload_n hx hb dJ2_add_2_13 rfl (lv_at hl 2 rfl) ?_
    refine va_astqO hx hb hG.1 hP hD hS 2 4 3 ci rfl rfl (hG.2.1 _ h5 rfl) rfl h4 (vp_in_nI (show n < (n + n / 2) from by omega) (by omega)) dJ2_add_2_14 (fun H locs hP hD hS => ?_)
    rw [nI_clamp (show n < 2 ^ 31 from by omega)] at hP hD
    have hP : va_P D CL [(a, .inr (15, [.int m0, .ref u7, .int (nI n)])), (ea, .inl (dA 4, n, rfA f)), (u7, .inl (dA 4, (n + n / 2), rfA (va_up (va_cpy f (fun _ => none) 0 0 n) n (some v)))), (v, .inr (ci, fs))] H := hP
    have hD : va_D A [(a, .inr (15, [.int m0, .ref u7, .int (nI n)])), (ea, .inl (dA 4, n, rfA f)), (u7, .inl (dA 4, (n + n / 2), rfA (va_up (va_cpy f (fun _ => none) 0 0 n) n (some v)))), (v, .inr (ci, fs))] := hD
    refine lv_aload_n hx hb dJ2_add_2_15 rfl (lv_at hl 1 rfl) ?_
    refine lv_iload_n hx hb dJ2_add_2_16 rfl (lv_at hl 3 rfl) ?_
    refine lv_iconst (v := nI 1) hx hb dJ2_add_2_17 (by decide) ?_
    refine kn_add hx hb dJ2_add_2_18 ?_
    refine va_put (D := D) (ci := 15) (v := .int (nI (n + 1))) (C := RJ2) (T := TJ2) (N := 3) hx hb hts in_J2 tyJ2 tyJ2_ok nmJ2 hown hG.1 hP hD hS 0 rfl rfl 2 (by decide) (hts _ q124) (fun _ h => h) rfl rfl (rfl) (rfl) (Nat.le_of_ble_eq_true rfl) dJ2_add_2_19 (fun H locs hP hD hS => ?_)
    have hP : va_P D CL [(a, .inr (15, [.int m0, .ref u7, .int (nI (n + 1))])), (ea, .inl (dA 4, n, rfA f)), (u7, .inl (dA 4, (n + n / 2), rfA (va_up (va_cpy f (fun _ => none) 0 0 n) n (some v)))), (v, .inr (ci, fs))] H := hP
    have hD : va_D A [(a, .inr (15, [.int m0, .ref u7, .int (nI (n + 1))])), (ea, .inl (dA 4, n, rfA f)), (u7, .inl (dA 4, (n + n / 2), rfA (va_up (va_cpy f (fun _ => none) 0 0 n) n (some v)))), (v, .inr (ci, fs))] := hD
    subst hQ
    refine W.widen (k := 1) (n := (n + n / 2)) (by first | decide | omega) (by first | decide | omega) ?_
    have hP9 : va_P D CL [(a, .inr (15, [.int m0, .ref u7, .int (nI (n + 1))])), (ea, .inl (dA 4, n, rfA f)), (u7, .inl (dA 4, (n + n / 2), rfA (va_up (va_cpy f (fun _ => none) 0 0 n) n (some v)))), (v, .inr (ci, fs))] H := hP.sub [0, 1, 2, 3] rfl
    have hD9 : va_D A [(a, .inr (15, [.int m0, .ref u7, .int (nI (n + 1))])), (ea, .inl (dA 4, n, rfA f)), (u7, .inl (dA 4, (n + n / 2), rfA (va_up (va_cpy f (fun _ => none) 0 0 n) n (some v)))), (v, .inr (ci, fs))] := hD.sub [0, 1, 2, 3] (by decide) rfl
    exact W.vret hx hb hrt (fun t ht hW => ⟨⟨(u7), rfl, trivial, by rw [ht]; exact hP9, hD9, GK.warm hW hG⟩, hS.F ht⟩) hS.2.2 dJ2_add_2_22

abbrev r_J2_add_G (n : Nat) : Room := { frames := 6, cells := 1, slots := (n + n / 2), locals := 150 }
set_option maxHeartbeats 1000000 in
theorem c_J2_add_G (lh : Launch) (D : va_G) (dA : Nat → ClassId) (sz : Nat) (a : Nat) (m0 : Int32) (ea : Nat) (n : Nat) (f : Nat → Option Nat) (K : Nat → Nat) (C : String) (v : Nat) (ci : Nat) (fs : List Value) (rr : vw_C) (h1 : 2 ≤ n) (h2 : n < 2 ^ 19) (h3 : Cond.castable C "java/lang/Object" ∈ lw_tbl) (h4 : CL[ci]? = some rr) (h5 : Cond.castable rr.1 "java/lang/Object" ∈ lw_tbl) : Met lh yJ2_add (ws_ yJ2_add cJ2_add 2 (some .boolean)) (r_J2_add_G n) (PX (fun U H => H.size = sz ∧ va_P D CL [(a, .inr (15, [.int m0, .ref ea, .int (nI n)])), (ea, .inl (dA 4, n, rfA f)), (v, .inr (ci, fs))] H ∧ va_D nT [(a, .inr (15, [.int m0, .ref ea, .int (nI n)])), (ea, .inl (dA 4, n, rfA f)), (v, .inr (ci, fs))] ∧ GK D dA U ∧ KL K (va_A [(a, .inr (15, [.int m0, .ref ea, .int (nI n)])), (ea, .inl (dA 4, n, rfA f)), (v, .inr (ci, fs))] sz) U H ∧ EL (va_A [(a, .inr (15, [.int m0, .ref ea, .int (nI n)])), (ea, .inl (dA 4, n, rfA f)), (v, .inr (ci, fs))] sz) C f n U H) [.ref a, .ref v]) (va_Qi (fun (r : Int32) (u : Nat) => r = nI 1) (fun (u : Nat) t => va_P D CL [(a, .inr (15, [.int (m0 + nI 1), .ref u, .int (nI (n + 1))])), (ea, .inl (dA 4, n, rfA f)), (u, .inl (dA 4, (n + n / 2), rfA (va_up (va_cpy f (fun _ => none) 0 0 n) n (some v)))), (v, .inr (ci, fs))] t.heap ∧ va_D (va_A [(a, .inr (15, [.int m0, .ref ea, .int (nI n)])), (ea, .inl (dA 4, n, rfA f)), (v, .inr (ci, fs))] sz) [(a, .inr (15, [.int (m0 + nI 1), .ref u, .int (nI (n + 1))])), (ea, .inl (dA 4, n, rfA f)), (u, .inl (dA 4, (n + n / 2), rfA (va_up (va_cpy f (fun _ => none) 0 0 n) n (some v)))), (v, .inr (ci, fs))] ∧ GK D dA t) (va_A [(a, .inr (15, [.int m0, .ref ea, .int (nI n)])), (ea, .inl (dA 4, n, rfA f)), (v, .inr (ci, fs))] sz)) 1 (n + n / 2) (va_A [(a, .inr (15, [.int m0, .ref ea, .int (nI n)])), (ea, .inl (dA 4, n, rfA f)), (v, .inr (ci, fs))] sz) := by
  refine Met.ofW (cc := cJ2_add) (maxL := 2) (ret := (some .boolean)) (by decide) rfl ?_
  intro p e s m args below meth cd s₁ B hml hv
  obtain ⟨hargs, hsz, hP, hD, hG, hKL, hEL⟩ := hv
  have hx := B.exec
  have hb := B.bytes
  have hrt := B.returns
  have hts := atoms_spec (ws := (ws_ yJ2_add cJ2_add 2 (some .boolean))) B.pre
  have hts : ∀ w ∈ lw_all, w.before _ s = true := fun w h => hts w (List.mem_cons_of_mem _ h)
  have hown : s.vm.findClass RJ2 = some m.cls := findClass_of_methodNamed B.named
  have hlocks := B.notSynchronized
  subst hsz
  have hD := hD.self (sz := s.heap.size)
  have hA : ∀ q : Nat, s.heap.size ≤ q → va_A [(a, .inr (15, [.int m0, .ref ea, .int (nI n)])), (ea, .inl (dA 4, n, rfA f)), (v, .inr (ci, fs))] s.heap.size q := fun q h => Or.inr h
  generalize va_A [(a, .inr (15, [.int m0, .ref ea, .int (nI n)])), (ea, .inl (dA 4, n, rfA f)), (v, .inr (ci, fs))] s.heap.size = A at hD hA hKL hEL ⊢
  have hS : va_S A s.heap s.heap [] := va_S.rf
  have hE : entryFrame m args 2 = F0 m 0 ((lg_sl ([.ref a, .ref v]) ++ List.replicate (2 - (lg_sl ([.ref a, .ref v])).length) Slot.unset).toArray) [] := by rw [hargs]; exact lg_entry_eq m _ 2
  have hl := lv_entry ([.ref a, .ref v]) (n := 2) (Nat.le_of_ble_eq_true rfl)
  rw [hE]
  clear hE
  generalize (lg_sl ([.ref a, .ref v]) ++ List.replicate (2 - (lg_sl ([.ref a, .ref v])).length) Slot.unset).toArray = ls at hl ⊢
  have hl : lv_has ls 2 [(0, .ref a), (1, .ref v)] := hl
  generalize hQ : MQ _ _ _ _ _ _ _ = Q
  refine lv_aload_n hx hb dJ2_add_0 rfl (lv_at hl 0 rfl) ?_
  refine lv_dup hx hb dJ2_add_1 rfl ?_
  refine va_get (D := D) (ci := 15) (v := .int m0) (C := RJ2) (T := TJ2) (N := 3) hx hb hts in_J2 hown hG.1 hP 0 rfl rfl 0 (by decide) (hts _ q126) (u_same (hts _ q127)) rfl dJ2_add_2 ?_
  refine lv_iconst (v := nI 1) hx hb dJ2_add_5 (by decide) ?_
  refine lv_iadd hx hb dJ2_add_6 ?_
  refine va_put (D := D) (ci := 15) (v := .int (m0 + (nI 1))) (C := RJ2) (T := TJ2) (N := 3) hx hb hts in_J2 tyJ2 tyJ2_ok nmJ2 hown hG.1 hP hD hS 0 rfl rfl 0 (by decide) (hts _ q126) (u_same (hts _ q127)) rfl rfl (rfl) (rfl) (Nat.le_of_ble_eq_true rfl) dJ2_add_7 (fun H locs hP hD hS => ?_)
  have hP : va_P D CL [(a, .inr (15, [.int (m0 + (nI 1)), .ref ea, .int (nI n)])), (ea, .inl (dA 4, n, rfA f)), (v, .inr (ci, fs))] H := hP
  have hD : va_D A [(a, .inr (15, [.int (m0 + (nI 1)), .ref ea, .int (nI n)])), (ea, .inl (dA 4, n, rfA f)), (v, .inr (ci, fs))] := hD
  refine lv_aload_n hx hb dJ2_add_10 rfl (lv_at hl 0 rfl) ?_
  refine lv_aload_n hx hb dJ2_add_11 rfl (lv_at hl 1 rfl) ?_
  refine lv_aload_n hx hb dJ2_add_12 rfl (lv_at hl 0 rfl) ?_
  refine va_get (D := D) (ci := 15) (v := .ref ea) (C := RJ2) (T := TJ2) (N := 3) hx hb hts in_J2 hown hG.1 hP 0 rfl rfl 1 (by decide) (hts _ q123) (fun _ h => h) rfl dJ2_add_13 ?_
  refine lv_aload_n hx hb dJ2_add_16 rfl (lv_at hl 0 rfl) ?_
  refine va_get (D := D) (ci := 15) (v := .int (nI n)) (C := RJ2) (T := TJ2) (N := 3) hx hb hts in_J2 hown hG.1 hP 0 rfl rfl 2 (by decide) (hts _ q124) (fun _ h => h) rfl dJ2_add_17 ?_
  have hPs : va_P D CL ([(a, .inr (15, [.int (m0 + (nI 1)), .ref ea, .int (nI n)])), (ea, .inl (dA 4, n, rfA f)), (v, .inr (ci, fs))] ++ []) H := hP.sub [0, 1, 2] rfl
  have hDs : va_D A ([(a, .inr (15, [.int (m0 + (nI 1)), .ref ea, .int (nI n)])), (ea, .inl (dA 4, n, rfA f)), (v, .inr (ci, fs))] ++ []) := hD.sub [0, 1, 2] (by decide) rfl
  have hz9 := hS.1
  refine va_callv (va_runV (As := [.ref v, .ref ea, .int (nI n)]) (rest := []) ⟨hx, hb, hml, hown, hts⟩ (c_J2_add_2_G lh D dA H.size a (m0 + (nI 1)) ea n f K C v ci fs rr (h1) (h2) (h3) (h4) (h5)) (w_J2_add_2 hts q369 rfl rfl ⟨Nat.le_of_ble_eq_true rfl, Nat.le_of_ble_eq_true rfl⟩) ⟨PX.blind (Mv.and Mv.heap (Mv.and Mv.heap (Mv.and Mv.heap (Mv.and Mv.gk (Mv.and KL.mv EL.mv))))), (va_recv hG.1 hP (ci := 15) (q0 := 0) rfl rfl), PX.pre (Mv.and Mv.heap (Mv.and Mv.heap (Mv.and Mv.heap (Mv.and Mv.gk (Mv.and KL.mv EL.mv))))) ⟨rfl, (va_P_left hPs), (va_D_left hDs), hG, (KL.at hKL hS (va_A_up hDs hA hS.1)), (EL.at hEL hS (va_A_up hDs hA hS.1))⟩⟩ rfl rfl hl.1 rfl (lv_room (Nat.le_of_ble_eq_true rfl)) dJ2_add_20 ⟨Nat.le_of_ble_eq_true rfl, by show _ ≤ (n + n / 2); omega⟩) hS (fun q _ => (va_A_up hDs hA hS.1) q) ((va_A_up hDs hA hS.1)) (fun u t H1 locs ht hvm hp hB hz hk hS => ?_)
  generalize u = u20 at hp hB
  obtain ⟨hP1, hD1, -⟩ := hB
  rw [ht] at hP1
  obtain ⟨hP, hD⟩ := vp_join hPs hDs hP1 hD1 hk hA hz9
  clear ht hvm hz hk hP1 hD1 hPs hDs hz9
  generalize H1 = H at hP hS ⊢
  have hP : va_P D CL [(a, .inr (15, [.int (m0 + (nI 1)), .ref u20, .int (nI (n + 1))])), (ea, .inl (dA 4, n, rfA f)), (u20, .inl (dA 4, (n + n / 2), rfA (va_up (va_cpy f (fun _ => none) 0 0 n) n (some v)))), (v, .inr (ci, fs))] H := hP
  have hD : va_D A [(a, .inr (15, [.int (m0 + (nI 1)), .ref u20, .int (nI (n + 1))])), (ea, .inl (dA 4, n, rfA f)), (u20, .inl (dA 4, (n + n / 2), rfA (va_up (va_cpy f (fun _ => none) 0 0 n) n (some v)))), (v, .inr (ci, fs))] := hD
  refine lv_iconst (v := nI 1) hx hb dJ2_add_23 (by decide) ?_
  subst hQ
  refine W.widen (k := 1) (n := (n + n / 2)) (by first | decide | omega) (by first | decide | omega) ?_
  have hP9 : va_P D CL [(a, .inr (15, [.int (m0 + nI 1), .ref u20, .int (nI (n + 1))])), (ea, .inl (dA 4, n, rfA f)), (u20, .inl (dA 4, (n + n / 2), rfA (va_up (va_cpy f (fun _ => none) 0 0 n) n (some v)))), (v, .inr (ci, fs))] H := hP.sub [0, 1, 2, 3] rfl
  have hD9 : va_D A [(a, .inr (15, [.int (m0 + nI 1), .ref u20, .int (nI (n + 1))])), (ea, .inl (dA 4, n, rfA f)), (u20, .inl (dA 4, (n + n / 2), rfA (va_up (va_cpy f (fun _ => none) 0 0 n) n (some v)))), (v, .inr (ci, fs))] := hD.sub [0, 1, 2, 3] (by decide) rfl
  exact W.zret (v := nI 1) hx hb hrt rfl (fun t ht hW => ⟨⟨_, (u20), rfl, (by first | rfl | exact ⟨rfl, rfl⟩), by rw [ht]; exact hP9, hD9, GK.warm hW hG⟩, hS.F ht⟩) hS.2.2 dJ2_add_24
