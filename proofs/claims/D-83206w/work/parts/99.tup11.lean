set_option maxRecDepth 100000
abbrev r_J10_copyOf_2_M (k : Nat) : Room := { frames := 1, cells := 1, slots := k, locals := 40 }
set_option maxHeartbeats 1000000 in
theorem c_J10_copyOf_2_M (lh : Launch) (D : va_G) (dA : Nat → ClassId) (sz : Nat) (ea : Nat) (n : Nat) (f : Nat → Option Nat) (k : Nat) (K : Nat → Nat) (h1 : n ≤ k) (h2 : k < 2 ^ 20) : Met lh yJ10_copyOf_2 (ws_ yJ10_copyOf_2 cJ10_copyOf_2 4 (some ((.array (.object "java/lang/Object"))))) (r_J10_copyOf_2_M k) (PX (fun U H => H.size = sz ∧ va_P D CL [(ea, .inl (dA 4, n, rfA f))] H ∧ va_D nT [(ea, .inl (dA 4, n, rfA f))] ∧ GK D dA U ∧ KL K (va_A [(ea, .inl (dA 4, n, rfA f))] sz) U H ∧ EM (va_A [(ea, .inl (dA 4, n, rfA f))] sz) f n U H) [.ref ea, .int (nI k), .ref (K 51)]) (va_Qq (fun (r : Option Nat) (u : Nat) => r = some (u)) (fun (u : Nat) t => va_P D CL [(ea, .inl (dA 4, n, rfA f)), (u, .inl (dA 4, k, rfA (va_cpy f (fun _ => none) 0 0 n)))] t.heap ∧ va_D (va_A [(ea, .inl (dA 4, n, rfA f))] sz) [(ea, .inl (dA 4, n, rfA f)), (u, .inl (dA 4, k, rfA (va_cpy f (fun _ => none) 0 0 n)))] ∧ GK D dA t) (va_A [(ea, .inl (dA 4, n, rfA f))] sz)) 1 k (va_A [(ea, .inl (dA 4, n, rfA f))] sz) := by
  refine Met.ofW (cc := cJ10_copyOf_2) (maxL := 4) (ret := (some ((.array (.object "java/lang/Object"))))) (by decide) rfl ?_
  intro p e s m args below meth cd s₁ B hml hv
  obtain ⟨hargs, hsz, hP, hD, hG, hKL, hEM⟩ := hv
  have hx := B.exec
  have hb := B.bytes
  have hrt := B.returns
  have hts := atoms_spec (ws := (ws_ yJ10_copyOf_2 cJ10_copyOf_2 4 (some ((.array (.object "java/lang/Object")))))) B.pre
  have hts : ∀ w ∈ lw_all, w.before _ s = true := fun w h => hts w (List.mem_cons_of_mem _ h)
  have hown : s.vm.findClass RJ10 = some m.cls := findClass_of_methodNamed B.named
  have hlocks := B.notSynchronized
  subst hsz
  have hD := hD.self (sz := s.heap.size)
  have hA : ∀ q : Nat, s.heap.size ≤ q → va_A [(ea, .inl (dA 4, n, rfA f))] s.heap.size q := fun q h => Or.inr h
  generalize va_A [(ea, .inl (dA 4, n, rfA f))] s.heap.size = A at hD hA hKL hEM ⊢
  have hS : va_S A s.heap s.heap [] := va_S.rf
  have hE : entryFrame m args 4 = F0 m 0 ((lg_sl ([.ref ea, .int (nI k), .ref (K 51)]) ++ List.replicate (4 - (lg_sl ([.ref ea, .int (nI k), .ref (K 51)])).length) Slot.unset).toArray) [] := by rw [hargs]; exact lg_entry_eq m _ 4
  have hl := lv_entry ([.ref ea, .int (nI k), .ref (K 51)]) (n := 4) (Nat.le_of_ble_eq_true rfl)
  rw [hE]
  clear hE
  generalize (lg_sl ([.ref ea, .int (nI k), .ref (K 51)]) ++ List.replicate (4 - (lg_sl ([.ref ea, .int (nI k), .ref (K 51)])).length) Slot.unset).toArray = ls at hl ⊢
  have hl : lv_has ls 4 [(0, .ref ea), (1, .int (nI k)), (2, .ref (K 51))] := hl
  generalize hQ : MQ _ _ _ _ _ _ _ = Q
  refine lv_aload_n hx hb dJ10_copyOf_2_0 rfl (lv_at hl 2 rfl) ?_
  refine va_ldcM hx hb hown (hts _ q421) hKL.2.2 dJ10_copyOf_2_1 ?_
  refine lv_acmp_ne (rx := (some (K 51))) (ry := (some (K 51))) (tgt := 13) hx hb dJ10_copyOf_2_3 (by decide) (fun c_3 => ?_) (fun c_3 => ?_)
  · exact absurd rfl c_3
  · refine lv_iload_n hx hb dJ10_copyOf_2_6 rfl (lv_at hl 1 rfl) ?_
    refine P_newq hx hb hG hown (hts _ q423) hP hD hS hA (n := k) (by omega) (by omega) (Nat.le_of_ble_eq_true rfl) (by show 0 + k ≤ k; omega) dJ10_copyOf_2_7 (fun q7 H hP hD hS => ?_)
    have hP : va_P D CL [(ea, .inl (dA 4, n, rfA f)), (q7, .inl (dA 4, k, rfA (fun _ => none)))] H := hP
    have hD : va_D A [(ea, .inl (dA 4, n, rfA f)), (q7, .inl (dA 4, k, rfA (fun _ => none)))] := hD
    refine lv_goto (tgt := 24) hx hb dJ10_copyOf_2_10 (by decide) ?_
    refine lv_astore_n (lv' := [(3, .ref q7), (0, .ref ea), (1, .int (nI k)), (2, .ref (K 51))]) hx hb dJ10_copyOf_2_24 rfl hl (by decide) rfl (fun ls hl => ?_)
    refine lv_aload_n hx hb dJ10_copyOf_2_25 rfl (lv_at hl 1 rfl) ?_
    refine lv_iconst (v := nI 0) hx hb dJ10_copyOf_2_26 (by decide) ?_
    refine lv_aload_n hx hb dJ10_copyOf_2_27 rfl (lv_at hl 0 rfl) ?_
    refine lv_iconst (v := nI 0) hx hb dJ10_copyOf_2_28 (by decide) ?_
    refine lv_aload_n hx hb dJ10_copyOf_2_29 rfl (lv_at hl 1 rfl) ?_
    refine va_alen (v := nI n) hx hb hG.1 hP 0 4 rfl rfl rfl dJ10_copyOf_2_30 ?_
    refine lv_iload_n hx hb dJ10_copyOf_2_31 rfl (lv_at hl 2 rfl) ?_
    refine va_mmin hx hb (hml.trans hl.1.symm) hown (hts _ q424) (hts _ q425) (hts _ q75) (hts _ q426) (Nat.le_of_ble_eq_true rfl) (Nat.le_of_ble_eq_true rfl) (Nat.le_of_ble_eq_true rfl) (by show _ ≤ k; omega) dJ10_copyOf_2_32 ?_
    refine kx_int (y := nI n) ((mi_n (a := n) (b := k) (by omega) (by omega)).trans (congrArg nI (by split <;> omega))) ?_
    refine va_copyM hx hb (hml.trans hl.1.symm) hown (hts _ q427) (hts _ q429) (hts _ q428) (hts _ q77) hG.1 hP hD hS 0 1 4 4 rfl rfl rfl rfl (nI_pos (by omega)) (nI_pos (by omega)) (nI_pos (by omega)) (by rw [nI_clamp (by omega), nI_clamp (by omega)]; omega) (by rw [nI_clamp (by omega), nI_clamp (by omega)]; omega) (by rw [nI_clamp (by omega), nI_clamp (by omega)]; intro i hi y hy; rw [Nat.zero_add] at hy; exact EM.any hG (EM.at hEM hS (B := A) (fun _ q => q)) hi hy) (Nat.le_of_ble_eq_true rfl) (Nat.le_of_ble_eq_true rfl) dJ10_copyOf_2_35 (fun H locs hP hD hS => ?_)
    rw [nI_clamp (show 0 < 2 ^ 31 by omega), nI_clamp (show n < 2 ^ 31 by omega)] at hP hD
    have hP : va_P D CL [(ea, .inl (dA 4, n, rfA f)), (q7, .inl (dA 4, k, rfA (va_cpy f (fun _ => none) 0 0 n)))] H := hP
    have hD : va_D A [(ea, .inl (dA 4, n, rfA f)), (q7, .inl (dA 4, k, rfA (va_cpy f (fun _ => none) 0 0 n)))] := hD
    refine lv_aload_n hx hb dJ10_copyOf_2_38 rfl (lv_at hl 0 rfl) ?_
    subst hQ
    refine W.widen (k := 1) (n := k) (by first | decide | omega) (by first | decide | omega) ?_
    have hP9 : va_P D CL [(ea, .inl (dA 4, n, rfA f)), (q7, .inl (dA 4, k, rfA (va_cpy f (fun _ => none) 0 0 n)))] H := hP.sub [0, 1] rfl
    have hD9 : va_D A [(ea, .inl (dA 4, n, rfA f)), (q7, .inl (dA 4, k, rfA (va_cpy f (fun _ => none) 0 0 n)))] := hD.sub [0, 1] (by decide) rfl
    exact W.aret (v := va_rf (some (q7))) hx hb hrt (Or.inr ⟨_, rfl⟩) (va_rf_or _) (fun t ht hW => ⟨⟨(some (q7)), (q7), rfl, rfl, by rw [ht]; exact hP9, hD9, GK.warm hW hG⟩, hS.F ht⟩) hS.2.2 dJ10_copyOf_2_39

abbrev r_J10_copyOf_M (k : Nat) : Room := { frames := 2, cells := 1, slots := k, locals := 63 }
set_option maxHeartbeats 1000000 in
theorem c_J10_copyOf_M (lh : Launch) (D : va_G) (dA : Nat → ClassId) (sz : Nat) (ea : Nat) (n : Nat) (f : Nat → Option Nat) (k : Nat) (K : Nat → Nat) (h1 : n ≤ k) (h2 : k < 2 ^ 20) : Met lh yJ10_copyOf (ws_ yJ10_copyOf cJ10_copyOf 2 (some ((.array (.object "java/lang/Object"))))) (r_J10_copyOf_M k) (PX (fun U H => H.size = sz ∧ va_P D CL [(ea, .inl (dA 4, n, rfA f))] H ∧ va_D nT [(ea, .inl (dA 4, n, rfA f))] ∧ GK D dA U ∧ KL K (va_A [(ea, .inl (dA 4, n, rfA f))] sz) U H ∧ EM (va_A [(ea, .inl (dA 4, n, rfA f))] sz) f n U H) [.ref ea, .int (nI k)]) (va_Qq (fun (r : Option Nat) (u : Nat) => r = some (u)) (fun (u : Nat) t => va_P D CL [(ea, .inl (dA 4, n, rfA f)), (u, .inl (dA 4, k, rfA (va_cpy f (fun _ => none) 0 0 n)))] t.heap ∧ va_D (va_A [(ea, .inl (dA 4, n, rfA f))] sz) [(ea, .inl (dA 4, n, rfA f)), (u, .inl (dA 4, k, rfA (va_cpy f (fun _ => none) 0 0 n)))] ∧ GK D dA t) (va_A [(ea, .inl (dA 4, n, rfA f))] sz)) 1 k (va_A [(ea, .inl (dA 4, n, rfA f))] sz) := by
  refine Met.ofW (cc := cJ10_copyOf) (maxL := 2) (ret := (some ((.array (.object "java/lang/Object"))))) (by decide) rfl ?_
  intro p e s m args below meth cd s₁ B hml hv
  obtain ⟨hargs, hsz, hP, hD, hG, hKL, hEM⟩ := hv
  have hx := B.exec
  have hb := B.bytes
  have hrt := B.returns
  have hts := atoms_spec (ws := (ws_ yJ10_copyOf cJ10_copyOf 2 (some ((.array (.object "java/lang/Object")))))) B.pre
  have hts : ∀ w ∈ lw_all, w.before _ s = true := fun w h => hts w (List.mem_cons_of_mem _ h)
  have hown : s.vm.findClass RJ10 = some m.cls := findClass_of_methodNamed B.named
  have hlocks := B.notSynchronized
  subst hsz
  have hD := hD.self (sz := s.heap.size)
  have hA : ∀ q : Nat, s.heap.size ≤ q → va_A [(ea, .inl (dA 4, n, rfA f))] s.heap.size q := fun q h => Or.inr h
  generalize va_A [(ea, .inl (dA 4, n, rfA f))] s.heap.size = A at hD hA hKL hEM ⊢
  have hS : va_S A s.heap s.heap [] := va_S.rf
  have hE : entryFrame m args 2 = F0 m 0 ((lg_sl ([.ref ea, .int (nI k)]) ++ List.replicate (2 - (lg_sl ([.ref ea, .int (nI k)])).length) Slot.unset).toArray) [] := by rw [hargs]; exact lg_entry_eq m _ 2
  have hl := lv_entry ([.ref ea, .int (nI k)]) (n := 2) (Nat.le_of_ble_eq_true rfl)
  rw [hE]
  clear hE
  generalize (lg_sl ([.ref ea, .int (nI k)]) ++ List.replicate (2 - (lg_sl ([.ref ea, .int (nI k)])).length) Slot.unset).toArray = ls at hl ⊢
  have hl : lv_has ls 2 [(0, .ref ea), (1, .int (nI k))] := hl
  generalize hQ : MQ _ _ _ _ _ _ _ = Q
  refine lv_aload_n hx hb dJ10_copyOf_0 rfl (lv_at hl 0 rfl) ?_
  refine lv_iload_n hx hb dJ10_copyOf_1 rfl (lv_at hl 1 rfl) ?_
  refine lv_aload_n hx hb dJ10_copyOf_2 rfl (lv_at hl 0 rfl) ?_
  refine va_getC hx hb (hml.trans hl.1.symm) hown (hts _ q394) (va_Nw.use rfl (hG.2.1 _ q1738 rfl)) (hts _ q1737) (hts _ q395) (hts _ q417) hKL.2.2 ⟨_, hP 0 _ rfl, rfl, va_nmO (hG.1.2 4 _ rfl).2 rfl⟩ (Nat.le_of_ble_eq_true rfl) (Nat.le_of_ble_eq_true rfl) dJ10_copyOf_3 ?_
  have hPs : va_P D CL ([(ea, .inl (dA 4, n, rfA f))] ++ []) s.heap := hP.sub [0] rfl
  have hDs : va_D A ([(ea, .inl (dA 4, n, rfA f))] ++ []) := hD.sub [0] (by decide) rfl
  have hz9 := hS.1
  refine va_callq (va_runS (As := [.ref ea, .int (nI k), .ref (K 51)]) (rest := []) ⟨hx, hb, hml, hown, hts⟩ (c_J10_copyOf_2_M lh D dA s.heap.size ea n f k K (h1) (h2)) (w_J10_copyOf_2 hts q418 rfl rfl ⟨Nat.le_of_ble_eq_true rfl, Nat.le_of_ble_eq_true rfl⟩) ⟨PX.blind (Mv.and Mv.heap (Mv.and Mv.heap (Mv.and Mv.heap (Mv.and Mv.gk (Mv.and KL.mv EM.mv))))), PX.pre (Mv.and Mv.heap (Mv.and Mv.heap (Mv.and Mv.heap (Mv.and Mv.gk (Mv.and KL.mv EM.mv))))) ⟨rfl, (va_P_left hPs), (va_D_left hDs), hG, (KL.at hKL hS (va_A_up hDs hA hS.1)), (EM.at hEM hS (va_A_up hDs hA hS.1))⟩⟩ rfl rfl hl.1 rfl (lv_room (Nat.le_of_ble_eq_true rfl)) dJ10_copyOf_6 ⟨Nat.le_of_ble_eq_true rfl, by show 0 + k ≤ k; omega⟩) hS (fun q _ => (va_A_up hDs hA hS.1) q) ((va_A_up hDs hA hS.1)) (fun rr u t H1 locs ht hvm hp hB hz hk hS => ?_)
  generalize u = u6 at hp hB
  obtain ⟨hP1, hD1, -⟩ := hB
  rw [ht] at hP1
  obtain ⟨hP, hD⟩ := vp_join hPs hDs hP1 hD1 hk hA hz9
  clear ht hvm hz hk hP1 hD1 hPs hDs hz9
  generalize H1 = H at hP hS ⊢
  have hP : va_P D CL [(ea, .inl (dA 4, n, rfA f)), (u6, .inl (dA 4, k, rfA (va_cpy f (fun _ => none) 0 0 n)))] H := hP
  have hD : va_D A [(ea, .inl (dA 4, n, rfA f)), (u6, .inl (dA 4, k, rfA (va_cpy f (fun _ => none) 0 0 n)))] := hD
  have hrr := hp
  try dsimp only at hrr
  subst hrr
  show W p lh e (r_J10_copyOf_M k) s m args below meth cd _ _ _ _ Q (F0 m _ ls (.ref u6 :: _))
  subst hQ
  refine W.widen (k := 1) (n := k) (by first | decide | omega) (by first | decide | omega) ?_
  have hP9 : va_P D CL [(ea, .inl (dA 4, n, rfA f)), (u6, .inl (dA 4, k, rfA (va_cpy f (fun _ => none) 0 0 n)))] H := hP.sub [0, 1] rfl
  have hD9 : va_D A [(ea, .inl (dA 4, n, rfA f)), (u6, .inl (dA 4, k, rfA (va_cpy f (fun _ => none) 0 0 n)))] := hD.sub [0, 1] (by decide) rfl
  exact W.aret (v := va_rf (some (u6))) hx hb hrt (Or.inr ⟨_, rfl⟩) (va_rf_or _) (fun t ht hW => ⟨⟨(some (u6)), (u6), rfl, rfl, by rw [ht]; exact hP9, hD9, GK.warm hW hG⟩, hS.F ht⟩) hS.2.2 dJ10_copyOf_9

abbrev r_J2_grow_2_M (n : Nat) : Room := { frames := 3, cells := 1, slots := (n + n / 2), locals := 84 }
set_option maxHeartbeats 1000000 in
theorem c_J2_grow_2_M (lh : Launch) (D : va_G) (dA : Nat → ClassId) (sz : Nat) (a : Nat) (m0 : Int32) (ea : Nat) (n : Nat) (f : Nat → Option Nat) (K : Nat → Nat) (h1 : 2 ≤ n) (h2 : n < 2 ^ 19) : Met lh yJ2_grow_2 (ws_ yJ2_grow_2 cJ2_grow_2 4 (some ((.array (.object "java/lang/Object"))))) (r_J2_grow_2_M n) (PX (fun U H => H.size = sz ∧ va_P D CL [(a, .inr (15, [.int m0, .ref ea, .int (nI n)])), (ea, .inl (dA 4, n, rfA f))] H ∧ va_D nT [(a, .inr (15, [.int m0, .ref ea, .int (nI n)])), (ea, .inl (dA 4, n, rfA f))] ∧ GK D dA U ∧ KL K (va_A [(a, .inr (15, [.int m0, .ref ea, .int (nI n)])), (ea, .inl (dA 4, n, rfA f))] sz) U H ∧ EM (va_A [(a, .inr (15, [.int m0, .ref ea, .int (nI n)])), (ea, .inl (dA 4, n, rfA f))] sz) f n U H) [.ref a, .int (nI (n + 1))]) (va_Qq (fun (r : Option Nat) (u : Nat) => r = some (u)) (fun (u : Nat) t => va_P D CL [(a, .inr (15, [.int m0, .ref u, .int (nI n)])), (ea, .inl (dA 4, n, rfA f)), (u, .inl (dA 4, (n + n / 2), rfA (va_cpy f (fun _ => none) 0 0 n)))] t.heap ∧ va_D (va_A [(a, .inr (15, [.int m0, .ref ea, .int (nI n)])), (ea, .inl (dA 4, n, rfA f))] sz) [(a, .inr (15, [.int m0, .ref u, .int (nI n)])), (ea, .inl (dA 4, n, rfA f)), (u, .inl (dA 4, (n + n / 2), rfA (va_cpy f (fun _ => none) 0 0 n)))] ∧ GK D dA t) (va_A [(a, .inr (15, [.int m0, .ref ea, .int (nI n)])), (ea, .inl (dA 4, n, rfA f))] sz)) 1 (n + n / 2) (va_A [(a, .inr (15, [.int m0, .ref ea, .int (nI n)])), (ea, .inl (dA 4, n, rfA f))] sz) := by
  refine Met.ofW (cc := cJ2_grow_2) (maxL := 4) (ret := (some ((.array (.object "java/lang/Object"))))) (by decide) rfl ?_
  intro p e s m args below meth cd s₁ B hml hv
  obtain ⟨hargs, hsz, hP, hD, hG, hKL, hEM⟩ := hv
  have hx := B.exec
  have hb := B.bytes
  have hrt := B.returns
  have hts := atoms_spec (ws := (ws_ yJ2_grow_2 cJ2_grow_2 4 (some ((.array (.object "java/lang/Object")))))) B.pre
  have hts : ∀ w ∈ lw_all, w.before _ s = true := fun w h => hts w (List.mem_cons_of_mem _ h)
  have hown : s.vm.findClass RJ2 = some m.cls := findClass_of_methodNamed B.named
  have hlocks := B.notSynchronized
  subst hsz
  have hD := hD.self (sz := s.heap.size)
  have hA : ∀ q : Nat, s.heap.size ≤ q → va_A [(a, .inr (15, [.int m0, .ref ea, .int (nI n)])), (ea, .inl (dA 4, n, rfA f))] s.heap.size q := fun q h => Or.inr h
  generalize va_A [(a, .inr (15, [.int m0, .ref ea, .int (nI n)])), (ea, .inl (dA 4, n, rfA f))] s.heap.size = A at hD hA hKL hEM ⊢
  have hS : va_S A s.heap s.heap [] := va_S.rf
  have hE : entryFrame m args 4 = F0 m 0 ((lg_sl ([.ref a, .int (nI (n + 1))]) ++ List.replicate (4 - (lg_sl ([.ref a, .int (nI (n + 1))])).length) Slot.unset).toArray) [] := by rw [hargs]; exact lg_entry_eq m _ 4
  have hl := lv_entry ([.ref a, .int (nI (n + 1))]) (n := 4) (Nat.le_of_ble_eq_true rfl)
  rw [hE]
  clear hE
  generalize (lg_sl ([.ref a, .int (nI (n + 1))]) ++ List.replicate (4 - (lg_sl ([.ref a, .int (nI (n + 1))])).length) Slot.unset).toArray = ls at hl ⊢
  have hl : lv_has ls 4 [(0, .ref a), (1, .int (nI (n + 1)))] := hl
  generalize hQ : MQ _ _ _ _ _ _ _ = Q
  refine lv_aload_n hx hb dJ2_grow_2_0 rfl (lv_at hl 0 rfl) ?_
  refine va_get (D := D) (ci := 15) (v := .ref ea) (C := RJ2) (T := TJ2) (N := 3) hx hb hts in_J2 hown hG.1 hP 0 rfl rfl 1 (by decide) (hts _ q123) (fun _ h => h) rfl dJ2_grow_2_1 ?_
  refine va_alen (v := nI n) hx hb hG.1 hP 1 4 rfl rfl rfl dJ2_grow_2_4 ?_
  refine lv_istore_n (lv' := [(2, .int (nI n)), (0, .ref a), (1, .int (nI (n + 1)))]) hx hb dJ2_grow_2_5 rfl hl (by decide) rfl (fun ls hl => ?_)
  refine lv_iload_n hx hb dJ2_grow_2_6 rfl (lv_at hl 0 rfl) ?_
  refine kn_zgt (tgt := 20) hx hb dJ2_grow_2_7 (by decide) (by omega) (fun c_7 => ?_) (fun c_7 => ?_)
  · refine lv_iload_n hx hb dJ2_grow_2_20 rfl (lv_at hl 0 rfl) ?_
    refine lv_iload_n hx hb dJ2_grow_2_21 rfl (lv_at hl 2 rfl) ?_
    refine lv_iload_n hx hb dJ2_grow_2_22 rfl (lv_at hl 0 rfl) ?_
    refine kn_sub hx hb dJ2_grow_2_23 (by omega) ?_
    refine kx_int (y := nI 1) (congrArg nI (by omega)) ?_
    refine lv_iload_n hx hb dJ2_grow_2_24 rfl (lv_at hl 0 rfl) ?_
    refine lv_iconst (v := nI 1) hx hb dJ2_grow_2_25 (by decide) ?_
    refine lv_ishr hx hb dJ2_grow_2_26 ?_
    refine kx_int (y := nI (n / 2)) (shr1 (by omega)) ?_
    refine vp_callSi (W.runS (As := [.int (nI n), .int (nI 1), .int (nI (n / 2))]) (rest := []) ⟨hx, hb, hml, hown, hts⟩ (c_J8_newLength lh n 1 (n / 2) (show n < 2 ^ 30 from by first | omega | assumption | exact hB_up (by assumption) (by omega)) (show 1 < 2 ^ 29 from by first | omega | assumption | exact hB_up (by assumption) (by omega)) (show (n / 2) < 2 ^ 29 from by first | omega | assumption | exact hB_up (by assumption) (by omega)) (show 0 < n + 1 from by first | omega | assumption | exact hB_up (by assumption) (by omega))) (w_J8_newLength hts q381 rfl rfl ⟨Nat.le_of_ble_eq_true rfl, Nat.le_of_ble_eq_true rfl⟩) ⟨P0.blind, P0.pre⟩ rfl rfl hl.1 rfl (lv_room (Nat.le_of_ble_eq_true rfl)) dJ2_grow_2_27 ⟨Nat.le_of_ble_eq_true rfl, Nat.le_of_ble_eq_true rfl⟩) (fun rr hrr => ?_)
    subst hrr
    refine kx_int (y := nI (n + n / 2)) (congrArg nI (by split <;> omega)) ?_
    refine lv_istore_n (lv' := [(3, .int (nI (n + n / 2))), (2, .int (nI n)), (0, .ref a), (1, .int (nI (n + 1)))]) hx hb dJ2_grow_2_30 rfl hl (by decide) rfl (fun ls hl => ?_)
    refine lv_aload_n hx hb dJ2_grow_2_31 rfl (lv_at hl 2 rfl) ?_
    refine lv_aload_n hx hb dJ2_grow_2_32 rfl (lv_at hl 2 rfl) ?_
    refine va_get (D := D) (ci := 15) (v := .ref ea) (C := RJ2) (T := TJ2) (N := 3) hx hb hts in_J2 hown hG.1 hP 0 rfl rfl 1 (by decide) (hts _ q123) (fun _ h => h) rfl dJ2_grow_2_33 ?_
    refine lv_iload_n hx hb dJ2_grow_2_36 rfl (lv_at hl 0 rfl) ?_
    have hPs : va_P D CL ([(ea, .inl (dA 4, n, rfA f))] ++ [(a, .inr (15, [.int m0, .ref ea, .int (nI n)]))]) s.heap := hP.sub [1, 0] rfl
    have hDs : va_D A ([(ea, .inl (dA 4, n, rfA f))] ++ [(a, .inr (15, [.int m0, .ref ea, .int (nI n)]))]) := hD.sub [1, 0] (by decide) rfl
    have hz9 := hS.1
    refine va_callq (va_runS (As := [.ref ea, .int (nI (n + n / 2))]) (rest := [.ref a]) ⟨hx, hb, hml, hown, hts⟩ (c_J10_copyOf_M lh D dA s.heap.size ea n f (n + n / 2) K (by omega) (by omega)) (w_J10_copyOf hts q391 rfl rfl ⟨Nat.le_of_ble_eq_true rfl, Nat.le_of_ble_eq_true rfl⟩) ⟨PX.blind (Mv.and Mv.heap (Mv.and Mv.heap (Mv.and Mv.heap (Mv.and Mv.gk (Mv.and KL.mv EM.mv))))), PX.pre (Mv.and Mv.heap (Mv.and Mv.heap (Mv.and Mv.heap (Mv.and Mv.gk (Mv.and KL.mv EM.mv))))) ⟨rfl, (va_P_left hPs), (va_D_left hDs), hG, (KL.at hKL hS (va_A_up hDs hA hS.1)), (EM.at hEM hS (va_A_up hDs hA hS.1))⟩⟩ rfl rfl hl.1 rfl (lv_room (Nat.le_of_ble_eq_true rfl)) dJ2_grow_2_37 ⟨Nat.le_of_ble_eq_true rfl, by show _ ≤ (n + n / 2); omega⟩) hS (fun q _ => (va_A_up hDs hA hS.1) q) ((va_A_up hDs hA hS.1)) (fun rr u t H1 locs ht hvm hp hB hz hk hS => ?_)
    generalize u = u37 at hp hB
    obtain ⟨hP1, hD1, -⟩ := hB
    rw [ht] at hP1
    obtain ⟨hP, hD⟩ := vp_join hPs hDs hP1 hD1 hk hA hz9
    clear ht hvm hz hk hP1 hD1 hPs hDs hz9
    generalize H1 = H at hP hS ⊢
    have hP : va_P D CL [(ea, .inl (dA 4, n, rfA f)), (u37, .inl (dA 4, (n + n / 2), rfA (va_cpy f (fun _ => none) 0 0 n))), (a, .inr (15, [.int m0, .ref ea, .int (nI n)]))] H := hP
    have hD : va_D A [(ea, .inl (dA 4, n, rfA f)), (u37, .inl (dA 4, (n + n / 2), rfA (va_cpy f (fun _ => none) 0 0 n))), (a, .inr (15, [.int m0, .ref ea, .int (nI n)]))] := hD
    have hrr := hp
    try dsimp only at hrr
    subst hrr
    show W p lh e (r_J2_grow_2_M n) s m args below meth cd _ _ _ _ Q (F0 m _ ls (.ref u37 :: _))
    refine lv_dup_x1 hx hb dJ2_grow_2_40 rfl rfl ?_
    refine va_put (D := D) (ci := 15) (v := .ref u37) (C := RJ2) (T := TJ2) (N := 3) hx hb hts in_J2 tyJ2 tyJ2_ok nmJ2 hown hG.1 hP hD hS 2 rfl rfl 1 (by decide) (hts _ q123) (fun _ h => h) rfl rfl (rfl) (rfl) (Nat.le_of_ble_eq_true rfl) dJ2_grow_2_41 (fun H locs hP hD hS => ?_)
    have hP : va_P D CL [(ea, .inl (dA 4, n, rfA f)), (u37, .inl (dA 4, (n + n / 2), rfA (va_cpy f (fun _ => none) 0 0 n))), (a, .inr (15, [.int m0, .ref u37, .int (nI n)]))] H := hP
    have hD : va_D A [(ea, .inl (dA 4, n, rfA f)), (u37, .inl (dA 4, (n + n / 2), rfA (va_cpy f (fun _ => none) 0 0 n))), (a, .inr (15, [.int m0, .ref u37, .int (nI n)]))] := hD
    subst hQ
    refine W.widen (k := 1) (n := (n + n / 2)) (by first | decide | omega) (by first | decide | omega) ?_
    have hP9 : va_P D CL [(a, .inr (15, [.int m0, .ref u37, .int (nI n)])), (ea, .inl (dA 4, n, rfA f)), (u37, .inl (dA 4, (n + n / 2), rfA (va_cpy f (fun _ => none) 0 0 n)))] H := hP.sub [2, 0, 1] rfl
    have hD9 : va_D A [(a, .inr (15, [.int m0, .ref u37, .int (nI n)])), (ea, .inl (dA 4, n, rfA f)), (u37, .inl (dA 4, (n + n / 2), rfA (va_cpy f (fun _ => none) 0 0 n)))] := hD.sub [2, 0, 1] (by decide) rfl
    exact W.aret (v := va_rf (some (u37))) hx hb hrt (Or.inr ⟨_, rfl⟩) (va_rf_or _) (fun t ht hW => ⟨⟨(some (u37)), (u37), rfl, rfl, by rw [ht]; exact hP9, hD9, GK.warm hW hG⟩, hS.F ht⟩) hS.2.2 dJ2_grow_2_44
  · omega

abbrev r_J2_grow_M (n : Nat) : Room := { frames := 4, cells := 1, slots := (n + n / 2), locals := 107 }
set_option maxHeartbeats 1000000 in
theorem c_J2_grow_M (lh : Launch) (D : va_G) (dA : Nat → ClassId) (sz : Nat) (a : Nat) (m0 : Int32) (ea : Nat) (n : Nat) (f : Nat → Option Nat) (K : Nat → Nat) (h1 : 2 ≤ n) (h2 : n < 2 ^ 19) : Met lh yJ2_grow (ws_ yJ2_grow cJ2_grow 1 (some ((.array (.object "java/lang/Object"))))) (r_J2_grow_M n) (PX (fun U H => H.size = sz ∧ va_P D CL [(a, .inr (15, [.int m0, .ref ea, .int (nI n)])), (ea, .inl (dA 4, n, rfA f))] H ∧ va_D nT [(a, .inr (15, [.int m0, .ref ea, .int (nI n)])), (ea, .inl (dA 4, n, rfA f))] ∧ GK D dA U ∧ KL K (va_A [(a, .inr (15, [.int m0, .ref ea, .int (nI n)])), (ea, .inl (dA 4, n, rfA f))] sz) U H ∧ EM (va_A [(a, .inr (15, [.int m0, .ref ea, .int (nI n)])), (ea, .inl (dA 4, n, rfA f))] sz) f n U H) [.ref a]) (va_Qq (fun (r : Option Nat) (u : Nat) => r = some (u)) (fun (u : Nat) t => va_P D CL [(a, .inr (15, [.int m0, .ref u, .int (nI n)])), (ea, .inl (dA 4, n, rfA f)), (u, .inl (dA 4, (n + n / 2), rfA (va_cpy f (fun _ => none) 0 0 n)))] t.heap ∧ va_D (va_A [(a, .inr (15, [.int m0, .ref ea, .int (nI n)])), (ea, .inl (dA 4, n, rfA f))] sz) [(a, .inr (15, [.int m0, .ref u, .int (nI n)])), (ea, .inl (dA 4, n, rfA f)), (u, .inl (dA 4, (n + n / 2), rfA (va_cpy f (fun _ => none) 0 0 n)))] ∧ GK D dA t) (va_A [(a, .inr (15, [.int m0, .ref ea, .int (nI n)])), (ea, .inl (dA 4, n, rfA f))] sz)) 1 (n + n / 2) (va_A [(a, .inr (15, [.int m0, .ref ea, .int (nI n)])), (ea, .inl (dA 4, n, rfA f))] sz) := by
  refine Met.ofW (cc := cJ2_grow) (maxL := 1) (ret := (some ((.array (.object "java/lang/Object"))))) (by decide) rfl ?_
  intro p e s m args below meth cd s₁ B hml hv
  obtain ⟨hargs, hsz, hP, hD, hG, hKL, hEM⟩ := hv
  have hx := B.exec
  have hb := B.bytes
  have hrt := B.returns
  have hts := atoms_spec (ws := (ws_ yJ2_grow cJ2_grow 1 (some ((.array (.object "java/lang/Object")))))) B.pre
  have hts : ∀ w ∈ lw_all, w.before _ s = true := fun w h => hts w (List.mem_cons_of_mem _ h)
  have hown : s.vm.findClass RJ2 = some m.cls := findClass_of_methodNamed B.named
  have hlocks := B.notSynchronized
  subst hsz
  have hD := hD.self (sz := s.heap.size)
  have hA : ∀ q : Nat, s.heap.size ≤ q → va_A [(a, .inr (15, [.int m0, .ref ea, .int (nI n)])), (ea, .inl (dA 4, n, rfA f))] s.heap.size q := fun q h => Or.inr h
  generalize va_A [(a, .inr (15, [.int m0, .ref ea, .int (nI n)])), (ea, .inl (dA 4, n, rfA f))] s.heap.size = A at hD hA hKL hEM ⊢
  have hS : va_S A s.heap s.heap [] := va_S.rf
  have hE : entryFrame m args 1 = F0 m 0 ((lg_sl ([.ref a]) ++ List.replicate (1 - (lg_sl ([.ref a])).length) Slot.unset).toArray) [] := by rw [hargs]; exact lg_entry_eq m _ 1
  have hl := lv_entry ([.ref a]) (n := 1) (Nat.le_of_ble_eq_true rfl)
  rw [hE]
  clear hE
  generalize (lg_sl ([.ref a]) ++ List.replicate (1 - (lg_sl ([.ref a])).length) Slot.unset).toArray = ls at hl ⊢
  have hl : lv_has ls 1 [(0, .ref a)] := hl
  generalize hQ : MQ _ _ _ _ _ _ _ = Q
  refine lv_aload_n hx hb dJ2_grow_0 rfl (lv_at hl 0 rfl) ?_
  refine lv_aload_n hx hb dJ2_grow_1 rfl (lv_at hl 0 rfl) ?_
  refine va_get (D := D) (ci := 15) (v := .int (nI n)) (C := RJ2) (T := TJ2) (N := 3) hx hb hts in_J2 hown hG.1 hP 0 rfl rfl 2 (by decide) (hts _ q124) (fun _ h => h) rfl dJ2_grow_2 ?_
  refine lv_iconst (v := nI 1) hx hb dJ2_grow_5 (by decide) ?_
  refine kn_add hx hb dJ2_grow_6 ?_
  have hPs : va_P D CL ([(a, .inr (15, [.int m0, .ref ea, .int (nI n)])), (ea, .inl (dA 4, n, rfA f))] ++ []) s.heap := hP.sub [0, 1] rfl
  have hDs : va_D A ([(a, .inr (15, [.int m0, .ref ea, .int (nI n)])), (ea, .inl (dA 4, n, rfA f))] ++ []) := hD.sub [0, 1] (by decide) rfl
  have hz9 := hS.1
  refine va_callq (va_runV (As := [.int (nI (n + 1))]) (rest := []) ⟨hx, hb, hml, hown, hts⟩ (c_J2_grow_2_M lh D dA s.heap.size a m0 ea n f K (h1) (h2)) (w_J2_grow_2 hts q377 rfl rfl ⟨Nat.le_of_ble_eq_true rfl, Nat.le_of_ble_eq_true rfl⟩) ⟨PX.blind (Mv.and Mv.heap (Mv.and Mv.heap (Mv.and Mv.heap (Mv.and Mv.gk (Mv.and KL.mv EM.mv))))), (va_recv hG.1 hP (ci := 15) (q0 := 0) rfl rfl), PX.pre (Mv.and Mv.heap (Mv.and Mv.heap (Mv.and Mv.heap (Mv.and Mv.gk (Mv.and KL.mv EM.mv))))) ⟨rfl, (va_P_left hPs), (va_D_left hDs), hG, (KL.at hKL hS (va_A_up hDs hA hS.1)), (EM.at hEM hS (va_A_up hDs hA hS.1))⟩⟩ rfl rfl hl.1 rfl (lv_room (Nat.le_of_ble_eq_true rfl)) dJ2_grow_7 ⟨Nat.le_of_ble_eq_true rfl, by show _ ≤ (n + n / 2); omega⟩) hS (fun q _ => (va_A_up hDs hA hS.1) q) ((va_A_up hDs hA hS.1)) (fun rr u t H1 locs ht hvm hp hB hz hk hS => ?_)
  generalize u = u7 at hp hB
  obtain ⟨hP1, hD1, -⟩ := hB
  rw [ht] at hP1
  obtain ⟨hP, hD⟩ := vp_join hPs hDs hP1 hD1 hk hA hz9
  clear ht hvm hz hk hP1 hD1 hPs hDs hz9
  generalize H1 = H at hP hS ⊢
  have hP : va_P D CL [(a, .inr (15, [.int m0, .ref u7, .int (nI n)])), (ea, .inl (dA 4, n, rfA f)), (u7, .inl (dA 4, (n + n / 2), rfA (va_cpy f (fun _ => none) 0 0 n)))] H := hP
  have hD : va_D A [(a, .inr (15, [.int m0, .ref u7, .int (nI n)])), (ea, .inl (dA 4, n, rfA f)), (u7, .inl (dA 4, (n + n / 2), rfA (va_cpy f (fun _ => none) 0 0 n)))] := hD
  have hrr := hp
  try dsimp only at hrr
  subst hrr
  show W p lh e (r_J2_grow_M n) s m args below meth cd _ _ _ _ Q (F0 m _ ls (.ref u7 :: _))
  subst hQ
  refine W.widen (k := 1) (n := (n + n / 2)) (by first | decide | omega) (by first | decide | omega) ?_
  have hP9 : va_P D CL [(a, .inr (15, [.int m0, .ref u7, .int (nI n)])), (ea, .inl (dA 4, n, rfA f)), (u7, .inl (dA 4, (n + n / 2), rfA (va_cpy f (fun _ => none) 0 0 n)))] H := hP.sub [0, 1, 2] rfl
  have hD9 : va_D A [(a, .inr (15, [.int m0, .ref u7, .int (nI n)])), (ea, .inl (dA 4, n, rfA f)), (u7, .inl (dA 4, (n + n / 2), rfA (va_cpy f (fun _ => none) 0 0 n)))] := hD.sub [0, 1, 2] (by decide) rfl
  exact W.aret (v := va_rf (some (u7))) hx hb hrt (Or.inr ⟨_, rfl⟩) (va_rf_or _) (fun t ht hW => ⟨⟨(some (u7)), (u7), rfl, rfl, by rw [ht]; exact hP9, hD9, GK.warm hW hG⟩, hS.F ht⟩) hS.2.2 dJ2_grow_10

abbrev r_J2_add_2_M (n : Nat) : Room := { frames := 5, cells := 1, slots := (n + n / 2), locals := 127 }
set_option maxHeartbeats 1000000 in
theorem c_J2_add_2_M (lh : Launch) (D : va_G) (dA : Nat → ClassId) (sz : Nat) (a : Nat) (m0 : Int32) (ea : Nat) (n : Nat) (f : Nat → Option Nat) (K : Nat → Nat) (v : Nat) (ci : Nat) (fs : List Value) (rr : vw_C) (h1 : 2 ≤ n) (h2 : n < 2 ^ 19) (h3 : CL[ci]? = some rr) (h4 : Cond.castable rr.1 "java/lang/Object" ∈ lw_tbl) : Met lh yJ2_add_2 (ws_ yJ2_add_2 cJ2_add_2 4 none) (r_J2_add_2_M n) (PX (fun U H => H.size = sz ∧ va_P D CL [(a, .inr (15, [.int m0, .ref ea, .int (nI n)])), (ea, .inl (dA 4, n, rfA f)), (v, .inr (ci, fs))] H ∧ va_D nT [(a, .inr (15, [.int m0, .ref ea, .int (nI n)])), (ea, .inl (dA 4, n, rfA f)), (v, .inr (ci, fs))] ∧ GK D dA U ∧ KL K (va_A [(a, .inr (15, [.int m0, .ref ea, .int (nI n)])), (ea, .inl (dA 4, n, rfA f)), (v, .inr (ci, fs))] sz) U H ∧ EM (va_A [(a, .inr (15, [.int m0, .ref ea, .int (nI n)])), (ea, .inl (dA 4, n, rfA f)), (v, .inr (ci, fs))] sz) f n U H) [.ref a, .ref v, .ref ea, .int (nI n)]) (va_Qv (fun u : Nat => True) (fun (u : Nat) t => va_P D CL [(a, .inr (15, [.int m0, .ref u, .int (nI (n + 1))])), (ea, .inl (dA 4, n, rfA f)), (u, .inl (dA 4, (n + n / 2), rfA (va_up (va_cpy f (fun _ => none) 0 0 n) n (some v)))), (v, .inr (ci, fs))] t.heap ∧ va_D (va_A [(a, .inr (15, [.int m0, .ref ea, .int (nI n)])), (ea, .inl (dA 4, n, rfA f)), (v, .inr (ci, fs))] sz) [(a, .inr (15, [.int m0, .ref u, .int (nI (n + 1))])), (ea, .inl (dA 4, n, rfA f)), (u, .inl (dA 4, (n + n / 2), rfA (va_up (va_cpy f (fun _ => none) 0 0 n) n (some v)))), (v, .inr (ci, fs))] ∧ GK D dA t) (va_A [(a, .inr (15, [.int m0, .ref ea, .int (nI n)])), (ea, .inl (dA 4, n, rfA f)), (v, .inr (ci, fs))] sz)) 1 (n + n / 2) (va_A [(a, .inr (15, [.int m0, .ref ea, .int (nI n)])), (ea, .inl (dA 4, n, rfA f)), (v, .inr (ci, fs))] sz) := by
  refine Met.ofW (cc := cJ2_add_2) (maxL := 4) (ret := none) (by decide) rfl ?_
  intro p e s m args below meth cd s₁ B hml hv
  obtain ⟨hargs, hsz, hP, hD, hG, hKL, hEM⟩ := hv
  have hx := B.exec
  have hb := B.bytes
  have hrt := B.returns
  have hts := atoms_spec (ws := (ws_ yJ2_add_2 cJ2_add_2 4 none)) B.pre
  have hts : ∀ w ∈ lw_all, w.before _ s = true := fun w h => hts w (List.mem_cons_of_mem _ h)
  have hown : s.vm.findClass RJ2 = some m.cls := findClass_of_methodNamed B.named
  have hlocks := B.notSynchronized
  subst hsz
  have hD := hD.self (sz := s.heap.size)
  have hA : ∀ q : Nat, s.heap.size ≤ q → va_A [(a, .inr (15, [.int m0, .ref ea, .int (nI n)])), (ea, .inl (dA 4, n, rfA f)), (v, .inr (ci, fs))] s.heap.size q := fun q h => Or.inr h
  generalize va_A [(a, .inr (15, [.int m0, .ref ea, .int (nI n)])), (ea, .inl (dA 4, n, rfA f)), (v, .inr (ci, fs))] s.heap.size = A at hD hA hKL hEM ⊢
  have hS : va_S A s.heap s.heap [] := va_S.rf
  have hE : entryFrame m args 4 = F0 m 0 ((lg_sl ([.ref a, .ref v, .ref ea, .int (nI n)]) ++ List.replicate (4 - (lg_sl ([.ref a, .ref v, .ref ea, .int (nI n)])).length) Slot.unset).toArray) [] := by rw [hargs]; exact lg_entry_eq m _ 4
  have hl := lv_entry ([.ref a, .ref v, .ref ea, .int (nI n)]) (n := 4) (Nat.le_of_ble_eq_true rfl)
  rw [hE]
  clear hE
  generalize (lg_sl ([.ref a, .ref v, .ref ea, .int (nI n)]) ++ List.replicate (4 - (lg_sl ([.ref a, .ref v, .ref ea, .int (nI n)])).length) Slot.unset).toArray = ls at hl ⊢
  have hl : lv_has ls 4 [(0, .ref a), (1, .ref v), (2, .ref ea), (3, .int (nI n))] := hl
  generalize hQ : MQ _ _ _ _ _ _ _ = Q
  refine lv_iload_n hx hb dJ2_add_2_0 rfl (lv_at hl 3 rfl) ?_
  refine lv_aload_n hx hb dJ2_add_2_1 rfl (lv_at hl 2 rfl) ?_
  refine va_alen (v := nI n) hx hb hG.1 hP 1 4 rfl rfl rfl dJ2_add_2_2 ?_
  refine kn_cne (tgt := 11) hx hb dJ2_add_2_3 (by decide) (by omega) (by omega) (fun c_3 => ?_) (fun c_3 => ?_)
  · omega
  · refine lv_aload_n hx hb dJ2_add_2_6 rfl (lv_at hl 0 rfl) ?_
    have hPs : va_P D CL ([(a, .inr (15, [.int m0, .ref ea, .int (nI n)])), (ea, .inl (dA 4, n, rfA f))] ++ [(v, .inr (ci, fs))]) s.heap := hP.sub [0, 1, 2] rfl
    have hDs : va_D A ([(a, .inr (15, [.int m0, .ref ea, .int (nI n)])), (ea, .inl (dA 4, n, rfA f))] ++ [(v, .inr (ci, fs))]) := hD.sub [0, 1, 2] (by decide) rfl
    have hz9 := hS.1
    refine va_callq (va_runV (As := []) (rest := []) ⟨hx, hb, hml, hown, hts⟩ (c_J2_grow_M lh D dA s.heap.size a m0 ea n f K (h1) (h2)) (w_J2_grow hts q373 rfl rfl ⟨Nat.le_of_ble_eq_true rfl, Nat.le_of_ble_eq_true rfl⟩) ⟨PX.blind (Mv.and Mv.heap (Mv.and Mv.heap (Mv.and Mv.heap (Mv.and Mv.gk (Mv.and KL.mv EM.mv))))), (va_recv hG.1 hP (ci := 15) (q0 := 0) rfl rfl), PX.pre (Mv.and Mv.heap (Mv.and Mv.heap (Mv.and Mv.heap (Mv.and Mv.gk (Mv.and KL.mv EM.mv))))) ⟨rfl, (va_P_left hPs), (va_D_left hDs), hG, (KL.at hKL hS (va_A_up hDs hA hS.1)), (EM.at hEM hS (va_A_up hDs hA hS.1))⟩⟩ rfl rfl hl.1 rfl (lv_room (Nat.le_of_ble_eq_true rfl)) dJ2_add_2_7 ⟨Nat.le_of_ble_eq_true rfl, by show _ ≤ (n + n / 2); omega⟩) hS (fun q _ => (va_A_up hDs hA hS.1) q) ((va_A_up hDs hA hS.1)) (fun rr u t H1 locs ht hvm hp hB hz hk hS => ?_)
    generalize u = u7 at hp hB
    obtain ⟨hP1, hD1, -⟩ := hB
    rw [ht] at hP1
    obtain ⟨hP, hD⟩ := vp_join hPs hDs hP1 hD1 hk hA hz9
    clear ht hvm hz hk hP1 hD1 hPs hDs hz9
    generalize H1 = H at hP hS ⊢
    have hP : va_P D CL [(a, .inr (15, [.int m0, .ref u7, .int (nI n)])), (ea, .inl (dA 4, n, rfA f)), (u7, .inl (dA 4, (n + n / 2), rfA (va_cpy f (fun _ => none) 0 0 n))), (v, .inr (ci, fs))] H := hP
    have hD : va_D A [(a, .inr (15, [.int m0, .ref u7, .int (nI n)])), (ea, .inl (dA 4, n, rfA f)), (u7, .inl (dA 4, (n + n / 2), rfA (va_cpy f (fun _ => none) 0 0 n))), (v, .inr (ci, fs))] := hD
    have hrr := hp
    try dsimp only at hrr
    subst hrr
    show W p lh e (r_J2_add_2_M n) s m args below meth cd _ _ _ _ Q (F0 m _ ls (.ref u7 :: _))
    refine lv_astore_n (lv' := [(2, .ref u7), (0, .ref a), (1, .ref v), (3, .int (nI n))]) hx hb dJ2_add_2_10 rfl hl (by decide) rfl (fun ls hl => ?_)
    refine lv_aload_n hx hb dJ2_add_2_11 rfl (lv_at hl 0 rfl) ?_
    refine lv_iload_n hx hb dJ2_add_2_12 rfl (lv_at hl 3 rfl) ?_
    refine lv_aload_n hx hb dJ2_add_2_13 rfl (lv_at hl 2 rfl) ?_
    refine va_astqO hx hb hG.1 hP hD hS 2 4 3 ci rfl rfl (hG.2.1 _ h4 rfl) rfl h3 (vp_in_nI (show n < (n + n / 2) from by omega) (by omega)) dJ2_add_2_14 (fun H locs hP hD hS => ?_)
    rw [nI_clamp (show n < 2 ^ 31 from by omega)] at hP hD
    have hP : va_P D CL [(a, .inr (15, [.int m0, .ref u7, .int (nI n)])), (ea, .inl (dA 4, n, rfA f)), (u7, .inl (dA 4, (n + n / 2), rfA (va_up (va_cpy f (fun _ => none) 0 0 n) n (some v)))), (v, .inr (ci, fs))] H := hP
    have hD : va_D A [(a, .inr (15, [.int m0, .ref u7, .int (nI n)])), (ea, .inl (dA 4, n, rfA f)), (u7, .inl (dA 4, (n + n / 2), rfA (va_up (va_cpy f (fun _ => none) 0 0 n) n (some v)))), (v, .inr (ci, fs))] := hD
    refine lv_aload_n hx hb dJ2_add_2_15 rfl (lv_at hl 1 rfl) ?_
    refine lv_iload_n hx hb dJ2_add_2_16 rfl (lv_at hl 3 rfl) ?_
    refine lv_iconst (v := nI 1) hx hb dJ2_add_2_17 (by decide) ?_
    refine kn_add hx hb dJ2_add_2_18 ?_
    refine va_put (D := D) (ci := 15) (v := .int (nI (n + 1))) (C := RJ2) (T := TJ2) (N := 3) hx hb hts in_J2 tyJ2 tyJ2_ok nmJ2 hown hG.1 hP hD hS 0 rfl rfl 2 (by decide) (hts _ q124) (fun _ h => h) rfl rfl (rfl) (rfl) (Nat.le_of_ble_eq_true rfl) dJ2_add_2_19 (fun H locs hP hD hS => ?_)
    have hP : va_P D CL [(a, .inr (15, [.int m0, .ref u7, .int (nI (n + 1))])), (ea, .inl (dA 4, n, rfA f)), (u7, .inl (dA 4, (n + n / 2), rfA (va_up (va_cpy f (fun _ => none) 0 0 n) n (some v)))), (v, .inr (ci, fs))] H := hP
    have hD : va_D A [(a, .inr (15, [.int m0, .ref u7, .int (nI (n + 1))])), (ea, .inl (dA 4, n, rfA f)), (u7, .inl (dA 4, (n + n / 2), rfA (va_up (va_cpy f (fun _ => none) 0 0 n) n (some v)))), (v, .inr (ci, fs))] := hD
    subst hQ
    refine W.widen (k := 1) (n := (n + n / 2)) (by first | decide | omega) (by first | decide | omega) ?_
    have hP9 : va_P D CL [(a, .inr (15, [.int m0, .ref u7, .int (nI (n + 1))])), (ea, .inl (dA 4, n, rfA f)), (u7, .inl (dA 4, (n + n / 2), rfA (va_up (va_cpy f (fun _ => none) 0 0 n) n (some v)))), (v, .inr (ci, fs))] H := hP.sub [0, 1, 2, 3] rfl
    have hD9 : va_D A [(a, .inr (15, [.int m0, .ref u7, .int (nI (n + 1))])), (ea, .inl (dA 4, n, rfA f)), (u7, .inl (dA 4, (n + n / 2), rfA (va_up (va_cpy f (fun _ => none) 0 0 n) n (some v)))), (v, .inr (ci, fs))] := hD.sub [0, 1, 2, 3] (by decide) rfl
    exact W.vret hx hb hrt (fun t ht hW => ⟨⟨(u7), rfl, trivial, by rw [ht]; exact hP9, hD9, GK.warm hW hG⟩, hS.F ht⟩) hS.2.2 dJ2_add_2_22

abbrev r_J2_add_M (n : Nat) : Room := { frames := 6, cells := 1, slots := (n + n / 2), locals := 150 }
set_option maxHeartbeats 1000000 in
theorem c_J2_add_M (lh : Launch) (D : va_G) (dA : Nat → ClassId) (sz : Nat) (a : Nat) (m0 : Int32) (ea : Nat) (n : Nat) (f : Nat → Option Nat) (K : Nat → Nat) (v : Nat) (ci : Nat) (fs : List Value) (rr : vw_C) (h1 : 2 ≤ n) (h2 : n < 2 ^ 19) (h3 : CL[ci]? = some rr) (h4 : Cond.castable rr.1 "java/lang/Object" ∈ lw_tbl) : Met lh yJ2_add (ws_ yJ2_add cJ2_add 2 (some .boolean)) (r_J2_add_M n) (PX (fun U H => H.size = sz ∧ va_P D CL [(a, .inr (15, [.int m0, .ref ea, .int (nI n)])), (ea, .inl (dA 4, n, rfA f)), (v, .inr (ci, fs))] H ∧ va_D nT [(a, .inr (15, [.int m0, .ref ea, .int (nI n)])), (ea, .inl (dA 4, n, rfA f)), (v, .inr (ci, fs))] ∧ GK D dA U ∧ KL K (va_A [(a, .inr (15, [.int m0, .ref ea, .int (nI n)])), (ea, .inl (dA 4, n, rfA f)), (v, .inr (ci, fs))] sz) U H ∧ EM (va_A [(a, .inr (15, [.int m0, .ref ea, .int (nI n)])), (ea, .inl (dA 4, n, rfA f)), (v, .inr (ci, fs))] sz) f n U H) [.ref a, .ref v]) (va_Qi (fun (r : Int32) (u : Nat) => r = nI 1) (fun (u : Nat) t => va_P D CL [(a, .inr (15, [.int (m0 + nI 1), .ref u, .int (nI (n + 1))])), (ea, .inl (dA 4, n, rfA f)), (u, .inl (dA 4, (n + n / 2), rfA (va_up (va_cpy f (fun _ => none) 0 0 n) n (some v)))), (v, .inr (ci, fs))] t.heap ∧ va_D (va_A [(a, .inr (15, [.int m0, .ref ea, .int (nI n)])), (ea, .inl (dA 4, n, rfA f)), (v, .inr (ci, fs))] sz) [(a, .inr (15, [.int (m0 + nI 1), .ref u, .int (nI (n + 1))])), (ea, .inl (dA 4, n, rfA f)), (u, .inl (dA 4, (n + n / 2), rfA (va_up (va_cpy f (fun _ => none) 0 0 n) n (some v)))), (v, .inr (ci, fs))] ∧ GK D dA t) (va_A [(a, .inr (15, [.int m0, .ref ea, .int (nI n)])), (ea, .inl (dA 4, n, rfA f)), (v, .inr (ci, fs))] sz)) 1 (n + n / 2) (va_A [(a, .inr (15, [.int m0, .ref ea, .int (nI n)])), (ea, .inl (dA 4, n, rfA f)), (v, .inr (ci, fs))] sz) := by
  refine Met.ofW (cc := cJ2_add) (maxL := 2) (ret := (some .boolean)) (by decide) rfl ?_
  intro p e s m args below meth cd s₁ B hml hv
  obtain ⟨hargs, hsz, hP, hD, hG, hKL, hEM⟩ := hv
  have hx := B.exec
  have hb := B.bytes
  have hrt := B.returns
  have hts := atoms_spec (ws := (ws_ yJ2_add cJ2_add 2 (some .boolean))) B.pre
  have hts : ∀ w ∈ lw_all, w.before _ s = true := fun w h => hts w (List.mem_cons_of_mem _ h)
  have hown : s.vm.findClass RJ2 = some m.cls := findClass_of_methodNamed B.named
  have hlocks := B.notSynchronized
  subst hsz
  have hD := hD.self (sz := s.heap.size)
  have hA : ∀ q : Nat, s.heap.size ≤ q → va_A [(a, .inr (15, [.int m0, .ref ea, .int (nI n)])), (ea, .inl (dA 4, n, rfA f)), (v, .inr (ci, fs))] s.heap.size q := fun q h => Or.inr h
  generalize va_A [(a, .inr (15, [.int m0, .ref ea, .int (nI n)])), (ea, .inl (dA 4, n, rfA f)), (v, .inr (ci, fs))] s.heap.size = A at hD hA hKL hEM ⊢
  have hS : va_S A s.heap s.heap [] := va_S.rf
  have hE : entryFrame m args 2 = F0 m 0 ((lg_sl ([.ref a, .ref v]) ++ List.replicate (2 - (lg_sl ([.ref a, .ref v])).length) Slot.unset).toArray) [] := by rw [hargs]; exact lg_entry_eq m _ 2
  have hl := lv_entry ([.ref a, .ref v]) (n := 2) (Nat.le_of_ble_eq_true rfl)
  rw [hE]
  clear hE
  generalize (lg_sl ([.ref a, .ref v]) ++ List.replicate (2 - (lg_sl ([.ref a, .ref v])).length) Slot.unset).toArray = ls at hl ⊢
  have hl : lv_has ls 2 [(0, .ref a), (1, .ref v)] := hl
  generalize hQ : MQ _ _ _ _ _ _ _ = Q
  refine lv_aload_n hx hb dJ2_add_0 rfl (lv_at hl 0 rfl) ?_
  refine lv_dup hx hb dJ2_add_1 rfl ?_
  refine va_get (D := D) (ci := 15) (v := .int m0) (C := RJ2) (T := TJ2) (N := 3) hx hb hts in_J2 hown hG.1 hP 0 rfl rfl 0 (by decide) (hts _ q126) (u_same (hts _ q127)) rfl dJ2_add_2 ?_
  refine lv_iconst (v := nI 1) hx hb dJ2_add_5 (by decide) ?_
  refine lv_iadd hx hb dJ2_add_6 ?_
  refine va_put (D := D) (ci := 15) (v := .int (m0 + (nI 1))) (C := RJ2) (T := TJ2) (N := 3) hx hb hts in_J2 tyJ2 tyJ2_ok nmJ2 hown hG.1 hP hD hS 0 rfl rfl 0 (by decide) (hts _ q126) (u_same (hts _ q127)) rfl rfl (rfl) (rfl) (Nat.le_of_ble_eq_true rfl) dJ2_add_7 (fun H locs hP hD hS => ?_)
  have hP : va_P D CL [(a, .inr (15, [.int (m0 + (nI 1)), .ref ea, .int (nI n)])), (ea, .inl (dA 4, n, rfA f)), (v, .inr (ci, fs))] H := hP
  have hD : va_D A [(a, .inr (15, [.int (m0 + (nI 1)), .ref ea, .int (nI n)])), (ea, .inl (dA 4, n, rfA f)), (v, .inr (ci, fs))] := hD
  refine lv_aload_n hx hb dJ2_add_10 rfl (lv_at hl 0 rfl) ?_
  refine lv_aload_n hx hb dJ2_add_11 rfl (lv_at hl 1 rfl) ?_
  refine lv_aload_n hx hb dJ2_add_12 rfl (lv_at hl 0 rfl) ?_
  refine va_get (D := D) (ci := 15) (v := .ref ea) (C := RJ2) (T := TJ2) (N := 3) hx hb hts in_J2 hown hG.1 hP 0 rfl rfl 1 (by decide) (hts _ q123) (fun _ h => h) rfl dJ2_add_13 ?_
  refine lv_aload_n hx hb dJ2_add_16 rfl (lv_at hl 0 rfl) ?_
  refine va_get (D := D) (ci := 15) (v := .int (nI n)) (C := RJ2) (T := TJ2) (N := 3) hx hb hts in_J2 hown hG.1 hP 0 rfl rfl 2 (by decide) (hts _ q124) (fun _ h => h) rfl dJ2_add_17 ?_
  have hPs : va_P D CL ([(a, .inr (15, [.int (m0 + (nI 1)), .ref ea, .int (nI n)])), (ea, .inl (dA 4, n, rfA f)), (v, .inr (ci, fs))] ++ []) H := hP.sub [0, 1, 2] rfl
  have hDs : va_D A ([(a, .inr (15, [.int (m0 + (nI 1)), .ref ea, .int (nI n)])), (ea, .inl (dA 4, n, rfA f)), (v, .inr (ci, fs))] ++ []) := hD.sub [0, 1, 2] (by decide) rfl
  have hz9 := hS.1
  refine va_callv (va_runV (As := [.ref v, .ref ea, .int (nI n)]) (rest := []) ⟨hx, hb, hml, hown, hts⟩ (c_J2_add_2_M lh D dA H.size a (m0 + (nI 1)) ea n f K v ci fs rr (h1) (h2) (h3) (h4)) (w_J2_add_2 hts q369 rfl rfl ⟨Nat.le_of_ble_eq_true rfl, Nat.le_of_ble_eq_true rfl⟩) ⟨PX.blind (Mv.and Mv.heap (Mv.and Mv.heap (Mv.and Mv.heap (Mv.and Mv.gk (Mv.and KL.mv EM.mv))))), (va_recv hG.1 hP (ci := 15) (q0 := 0) rfl rfl), PX.pre (Mv.and Mv.heap (Mv.and Mv.heap (Mv.and Mv.heap (Mv.and Mv.gk (Mv.and KL.mv EM.mv))))) ⟨rfl, (va_P_left hPs), (va_D_left hDs), hG, (KL.at hKL hS (va_A_up hDs hA hS.1)), (EM.at hEM hS (va_A_up hDs hA hS.1))⟩⟩ rfl rfl hl.1 rfl (lv_room (Nat.le_of_ble_eq_true rfl)) dJ2_add_20 ⟨Nat.le_of_ble_eq_true rfl, by show _ ≤ (n + n / 2); omega⟩) hS (fun q _ => (va_A_up hDs hA hS.1) q) ((va_A_up hDs hA hS.1)) (fun u t H1 locs ht hvm hp hB hz hk hS => ?_)
  generalize u = u20 at hp hB
  obtain ⟨hP1, hD1, -⟩ := hB
  rw [ht] at hP1
  obtain ⟨hP, hD⟩ := vp_join hPs hDs hP1 hD1 hk hA hz9
  clear ht hvm hz hk hP1 hD1 hPs hDs hz9
  generalize H1 = H at hP hS ⊢
  have hP : va_P D CL [(a, .inr (15, [.int (m0 + (nI 1)), .ref u20, .int (nI (n + 1))])), (ea, .inl (dA 4, n, rfA f)), (u20, .inl (dA 4, (n + n / 2), rfA (va_up (va_cpy f (fun _ => none) 0 0 n) n (some v)))), (v, .inr (ci, fs))] H := hP
  have hD : va_D A [(a, .inr (15, [.int (m0 + (nI 1)), .ref u20, .int (nI (n + 1))])), (ea, .inl (dA 4, n, rfA f)), (u20, .inl (dA 4, (n + n / 2), rfA (va_up (va_cpy f (fun _ => none) 0 0 n) n (some v)))), (v, .inr (ci, fs))] := hD
  refine lv_iconst (v := nI 1) hx hb dJ2_add_23 (by decide) ?_
  subst hQ
  refine W.widen (k := 1) (n := (n + n / 2)) (by first | decide | omega) (by first | decide | omega) ?_
  have hP9 : va_P D CL [(a, .inr (15, [.int (m0 + nI 1), .ref u20, .int (nI (n + 1))])), (ea, .inl (dA 4, n, rfA f)), (u20, .inl (dA 4, (n + n / 2), rfA (va_up (va_cpy f (fun _ => none) 0 0 n) n (some v)))), (v, .inr (ci, fs))] H := hP.sub [0, 1, 2, 3] rfl
  have hD9 : va_D A [(a, .inr (15, [.int (m0 + nI 1), .ref u20, .int (nI (n + 1))])), (ea, .inl (dA 4, n, rfA f)), (u20, .inl (dA 4, (n + n / 2), rfA (va_up (va_cpy f (fun _ => none) 0 0 n) n (some v)))), (v, .inr (ci, fs))] := hD.sub [0, 1, 2, 3] (by decide) rfl
  exact W.zret (v := nI 1) hx hb hrt rfl (fun t ht hW => ⟨⟨_, (u20), rfl, (by first | rfl | exact ⟨rfl, rfl⟩), by rw [ht]; exact hP9, hD9, GK.warm hW hG⟩, hS.F ht⟩) hS.2.2 dJ2_add_24
