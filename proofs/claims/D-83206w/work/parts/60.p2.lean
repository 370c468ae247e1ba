set_option maxRecDepth 100000
abbrev r_J8_newLength : Room := { frames := 1, cells := 0, slots := 0, locals := 21 }
set_option maxHeartbeats 400000 in
theorem c_J8_newLength (lh : Launch) (o : Nat) (a : Nat) (b : Nat) (h1 : o < 2 ^ 30) (h2 : a < 2 ^ 29) (h3 : b < 2 ^ 29) (h4 : 0 < o + a) : Met lh yJ8_newLength (ws_ yJ8_newLength cJ8_newLength 4 (some .int)) r_J8_newLength (P0 [.int (nI o), .int (nI a), .int (nI b)]) (vp_Si (fun rv => rv = nI (o + (if a < b then b else a)))) 0 0 (fun _ => False) := by
  refine Met.ofW (cc := cJ8_newLength) (maxL := 4) (ret := (some .int)) (by decide) rfl ?_
  intro p e s m args below meth cd s₁ B hml hv
  obtain ⟨hargs, -⟩ := hv
  have hx := B.exec
  have hb := B.bytes
  have hrt := B.returns
  have hts := atoms_spec (ws := (ws_ yJ8_newLength cJ8_newLength 4 (some .int))) B.pre
  have hts : ∀ w ∈ lw_all, w.before _ s = true := fun w h => hts w (List.mem_cons_of_mem _ h)
  have hown : s.vm.findClass RJ8 = some m.cls := findClass_of_methodNamed B.named
  have hlocks := B.notSynchronized
  have hE : entryFrame m args 4 = F0 m 0 ((lg_sl ([.int (nI o), .int (nI a), .int (nI b)]) ++ List.replicate (4 - (lg_sl ([.int (nI o), .int (nI a), .int (nI b)])).length) Slot.unset).toArray) [] := by rw [hargs]; exact lg_entry_eq m _ 4
  have hl := lv_entry ([.int (nI o), .int (nI a), .int (nI b)]) (n := 4) (Nat.le_of_ble_eq_true rfl)
  rw [hE]
  clear hE
  generalize (lg_sl ([.int (nI o), .int (nI a), .int (nI b)]) ++ List.replicate (4 - (lg_sl ([.int (nI o), .int (nI a), .int (nI b)])).length) Slot.unset).toArray = ls at hl ⊢
  have hl : lv_has ls 4 [(0, .int (nI o)), (1, .int (nI a)), (2, .int (nI b))] := hl
  generalize hQ : MQ _ _ _ _ _ _ _ = Q
  refine lv_iload_n hx hb dJ8_newLength_0 rfl (lv_at hl 0 rfl) ?_
  refine lv_iload_n hx hb dJ8_newLength_1 rfl (lv_at hl 1 rfl) ?_
  refine lv_iload_n hx hb dJ8_newLength_2 rfl (lv_at hl 2 rfl) ?_
  refine va_mmax hx hb (hml.trans hl.1.symm) hown (hts _ q384) (hts _ q385) (hts _ q75) (hts _ q386) (Nat.le_of_ble_eq_true rfl) (Nat.le_of_ble_eq_true rfl) (Nat.le_of_ble_eq_true rfl) (Nat.le_of_ble_eq_true rfl) dJ8_newLength_3 ?_
  refine kx_int (y := nI (if a < b then b else a)) (mx_n (a := a) (b := b) (by omega) (by omega)) ?_
  have hmx : a ≤ (if a < b then b else a) ∧ (if a < b then b else a) < 2 ^ 29 := by split <;> omega
  refine kn_add hx hb dJ8_newLength_6 ?_
  refine lv_istore_n (lv' := [(3, .int (nI (o + (if a < b then b else a)))), (0, .int (nI o)), (1, .int (nI a)), (2, .int (nI b))]) hx hb dJ8_newLength_7 rfl hl (by decide) rfl (fun ls hl => ?_)
  refine lv_iconst (v := nI 0) hx hb dJ8_newLength_8 (by decide) ?_
  refine lv_iload_n hx hb dJ8_newLength_9 rfl (lv_at hl 0 rfl) ?_
  refine kn_cge (tgt := 21) hx hb dJ8_newLength_10 (by decide) (by decide) (by omega) (fun c_10 => ?_) (fun c_10 => ?_)
  · omega
  · refine lv_iload_n hx hb dJ8_newLength_13 rfl (lv_at hl 0 rfl) ?_
    refine lv_ldc (v := 2147483639) hx hb hown (hts _ q387) dJ8_newLength_14 ?_
    refine kx_int (y := nI 2147483639) (by decide) ?_
    refine kn_cgt (tgt := 21) hx hb dJ8_newLength_16 (by decide) (by omega) (by decide) (fun c_16 => ?_) (fun c_16 => ?_)
    · omega
    · refine lv_iload_n hx hb dJ8_newLength_19 rfl (lv_at hl 0 rfl) ?_
      subst hQ
      exact W.iret (v := nI (o + (if a < b then b else a))) hx hb hrt (fun t ht _ => ⟨_, rfl, (show nI (o + (if a < b then b else a)) = nI (o + (if a < b then b else a)) from rfl), ht⟩) t_nil dJ8_newLength_20
theorem w_J8_newLength {R : Room} {s : State} {args : Array Value} {own : String} {idx : Nat} (hts : ∀ w ∈ lw_all, w.before args s = true) (h1 : Cond.methodLink own idx yJ8_newLength ∈ lw_all) {rm : Room} {mc ms : Nat} (hrc : rm.cells = mc) (hrs : rm.slots = ms) (hR : rm.frames + 1 ≤ R.frames ∧ 8 + (4 + 11) + rm.locals ≤ R.locals) : CallB R s args own idx yJ8_newLength cJ8_newLength 4 (some .int) (ws_ yJ8_newLength cJ8_newLength 4 (some .int)) rm mc ms 3 ∧ (Cond.static yJ8_newLength).before args s = true := va_cwS 3 hts (lw_S h1 q382 q74 q383) rfl hrc hrs (by decide +kernel) hR

abbrev r_J10_copyOf_2 (k : Nat) : Room := { frames := 1, cells := 1, slots := k, locals := 40 }
set_option maxHeartbeats 1000000 in
theorem c_J10_copyOf_2 (lh : Launch) (D : va_G) (dA : Nat → ClassId) (sz : Nat) (ea : Nat) (n : Nat) (f : Nat → Option Nat) (k : Nat) (K : Nat → Nat) (C : String) (h1 : n ≤ k) (h2 : k < 2 ^ 20) (h3 : Cond.castable C "java/lang/Object" ∈ lw_tbl) : Met lh yJ10_copyOf_2 (ws_ yJ10_copyOf_2 cJ10_copyOf_2 4 (some ((.array (.object "java/lang/Object"))))) (r_J10_copyOf_2 k) (PX (fun U H => H.size = sz ∧ va_P D CL [(ea, .inl (dA 4, n, rfA f))] H ∧ va_D nT [(ea, .inl (dA 4, n, rfA f))] ∧ GK D dA U ∧ KL K (va_A [(ea, .inl (dA 4, n, rfA f))] sz) U H ∧ EL (va_A [(ea, .inl (dA 4, n, rfA f))] sz) C f n U H) [.ref ea, .int (nI k), .ref (K 51)]) (va_Qq (fun (r : Option Nat) (u : Nat) => r = some (u)) (fun (u : Nat) t => va_P D CL [(ea, .inl (dA 4, n, rfA f)), (u, .inl (dA 4, k, rfA (va_cpy f (fun _ => none) 0 0 n)))] t.heap ∧ va_D (va_A [(ea, .inl (dA 4, n, rfA f))] sz) [(ea, .inl (dA 4, n, rfA f)), (u, .inl (dA 4, k, rfA (va_cpy f (fun _ => none) 0 0 n)))] ∧ GK D dA t) (va_A [(ea, .inl (dA 4, n, rfA f))] sz)) 1 k (va_A [(ea, .inl (dA 4, n, rfA f))] sz) := by
  refine Met.ofW (cc := cJ10_copyOf_2) (maxL := 4) (ret := (some ((.array (.object "java/lang/Object"))))) (by decide) rfl ?_
  intro p e s m args below meth cd s₁ B hml hv
  obtain ⟨hargs, hsz, hP, hD, hG, hKL, hEL⟩ := hv
  have hx := B.exec
  have hb := B.bytes
  have hrt := B.returns
  have hts := atoms_spec (ws := (ws_ yJ10_copyOf_2 cJ10_copyOf_2 4 (some ((.array (.object "java/lang/Object")))))) B.pre
  have hts : ∀ w ∈ lw_all, w.before _ s = true := fun w h => hts w (List.mem_cons_of_mem _ h)
  have hown : s.vm.findClass RJ10 = some m.cls := findClass_of_methodNamed B.named
  have hlocks := B.notSynchronized
  subst hsz
  have hD := hD.self (sz := s.heap.size)
  have hA : ∀ q : Nat, s.heap.size ≤ q → va_A [(ea, .inl (dA 4, n, rfA f))] s.heap.size q := fun q h => Or.inr h
  generalize va_A [(ea, .inl (dA 4, n, rfA f))] s.heap.size = A at hD hA hKL hEL ⊢
  have hS : va_S A s.heap s.heap [] := va_S.rf
  have hE : entryFrame m args 4 = F0 m 0 ((lg_sl ([.ref ea, .int (nI k), .ref (K 51)]) ++ List.replicate (4 - (lg_sl ([.ref ea, .int (nI k), .ref (K 51)])).length) Slot.unset).toArray) [] := by rw [hargs]; exact lg_entry_eq m _ 4
  have hl := lv_entry ([.ref ea, .int (nI k), .ref (K 51)]) (n := 4) (Nat.le_of_ble_eq_true rfl)
  rw [hE]
  clear hE
  generalize (lg_sl ([.ref ea, .int (nI k), .ref (K 51)]) ++ List.replicate (4 - (lg_sl ([.ref ea, .int (nI k), .ref (K 51)])).length) Slot.unset).toArray = ls at hl ⊢
  have hl : lv_has ls 4 [(0, .ref ea), (1, .int (nI k)), (2, .ref (K 51))] := hl
  generalize hQ : MQ _ _ _ _ _ _ _ = Q
  refine lv_aload_n hx hb dJ10_copyOf_2_0 rfl (lv_at hl 2 rfl) ?_
  refine va_ldcM hx hb hown (hts _ q421) hKL.2.2 dJ10_copyOf_2_1 ?_
  refine lv_acmp_ne (rx := (some (K 51))) (ry := (some (K 51))) (tgt := 13) hx hb dJ10_copyOf_2_3 (by decide) (fun c_3 => ?_) (fun c_3 => ?_)
  · exact absurd rfl c_3
  · refine lv_iload_n hx hb dJ10_copyOf_2_6 rfl (lv_at hl 1 rfl) ?_
    refine P_newq hx hb hG hown (hts _ q423) hP hD hS hA (n := k) (by omega) (by omega) (Nat.le_of_ble_eq_true rfl) (by show 0 + k ≤ k; omega) dJ10_copyOf_2_7 (fun q7 H hP hD hS => ?_)
    have hP : va_P D CL [(ea, .inl (dA 4, n, rfA f)), (q7, .inl (dA 4, k, rfA (fun _ => none)))] H := hP
    have hD : va_D A [(ea, .inl (dA 4, n, rfA f)), (q7, .inl (dA 4, k, rfA (fun _ => none)))] := hD
    refine lv_goto (tgt := 24) hx hb dJ10_copyOf_2_10 (by decide) ?_
    refine lv_astore_n (lv' := [(3, .ref q7), (0, .ref ea), (1, .int (nI k)), (2, .ref (K 51))]) hx hb dJ10_copyOf_2_24 rfl hl (by decide) rfl (fun ls hl => ?_)
    refine lv_aload_n hx hb dJ10_copyOf_2_25 rfl (lv_at hl 1 rfl) ?_
    refine lv_iconst (v := nI 0) hx hb dJ10_copyOf_2_26 (by decide) ?_
    refine lv_aload_n hx hb dJ10_copyOf_2_27 rfl (lv_at hl 0 rfl) ?_
    refine lv_iconst (v := nI 0) hx hb dJ10_copyOf_2_28 (by decide) ?_
    refine lv_aload_n hx hb dJ10_copyOf_2_29 rfl (lv_at hl 1 rfl) ?_
    refine va_alen (v := nI n) hx hb hG.1 hP 0 4 rfl rfl rfl dJ10_copyOf_2_30 ?_
    refine lv_iload_n hx hb dJ10_copyOf_2_31 rfl (lv_at hl 2 rfl) ?_
    refine va_mmin hx hb (hml.trans hl.1.symm) hown (hts _ q424) (hts _ q425) (hts _ q75) (hts _ q426) (Nat.le_of_ble_eq_true rfl) (Nat.le_of_ble_eq_true rfl) (Nat.le_of_ble_eq_true rfl) (by show _ ≤ k; omega) dJ10_copyOf_2_32 ?_
    refine kx_int (y := nI n) ((mi_n (a := n) (b := k) (by omega) (by omega)).trans (congrArg nI (by split <;> omega))) ?_
    refine va_copyq (C := C) hx hb (hml.trans hl.1.symm) hown (hts _ q427) (hts _ q429) (hts _ q428) (hts _ q77) hG.1 hP hD hS 0 1 4 4 rfl rfl rfl rfl (nI_pos (by omega)) (nI_pos (by omega)) (nI_pos (by omega)) (by rw [nI_clamp (by omega), nI_clamp (by omega)]; omega) (by rw [nI_clamp (by omega), nI_clamp (by omega)]; omega) (by rw [nI_clamp (by omega), nI_clamp (by omega)]; intro i hi y hy; rw [Nat.zero_add] at hy; exact ((hEL.at hS (B := A) (fun _ q => q)) i hi y hy).1) (cast_asg (hG.2.1 _ h3 rfl)) (Nat.le_of_ble_eq_true rfl) (Nat.le_of_ble_eq_true rfl) dJ10_copyOf_2_35 (fun H locs hP hD hS => ?_)
    rw [nI_clamp (show 0 < 2 ^ 31 by omega), nI_clamp (show n < 2 ^ 31 by omega)] at hP hD
    have hP : va_P D CL [(ea, .inl (dA 4, n, rfA f)), (q7, .inl (dA 4, k, rfA (va_cpy f (fun _ => none) 0 0 n)))] H := hP
    have hD : va_D A [(ea, .inl (dA 4, n, rfA f)), (q7, .inl (dA 4, k, rfA (va_cpy f (fun _ => none) 0 0 n)))] := hD
    refine lv_aload_n hx hb dJ10_copyOf_2_38 rfl (lv_at hl 0 rfl) ?_
    subst hQ
    refine W.widen (k := 1) (n := k) (by first | decide | omega) (by first | decide | omega) ?_
    have hP9 : va_P D CL [(ea, .inl (dA 4, n, rfA f)), (q7, .inl (dA 4, k, rfA (va_cpy f (fun _ => none) 0 0 n)))] H := hP.sub [0, 1] rfl
    have hD9 : va_D A [(ea, .inl (dA 4, n, rfA f)), (q7, .inl (dA 4, k, rfA (va_cpy f (fun _ => none) 0 0 n)))] := hD.sub [0, 1] (by decide) rfl
    exact W.aret (v := va_rf (some (q7))) hx hb hrt (Or.inr ⟨_, rfl⟩) (va_rf_or _) (fun t ht hW => ⟨⟨(some (q7)), (q7), rfl, rfl, by rw [ht]; exact hP9, hD9, GK.warm hW hG⟩, hS.F ht⟩) hS.2.2 dJ10_copyOf_2_39
theorem w_J10_copyOf_2 {R : Room} {s : State} {args : Array Value} {own : String} {idx : Nat} (hts : ∀ w ∈ lw_all, w.before args s = true) (h1 : Cond.methodLink own idx yJ10_copyOf_2 ∈ lw_all) {rm : Room} {mc ms : Nat} (hrc : rm.cells = mc) (hrs : rm.slots = ms) (hR : rm.frames + 1 ≤ R.frames ∧ 8 + (4 + 11) + rm.locals ≤ R.locals) : CallB R s args own idx yJ10_copyOf_2 cJ10_copyOf_2 4 (some ((.array (.object "java/lang/Object")))) (ws_ yJ10_copyOf_2 cJ10_copyOf_2 4 (some ((.array (.object "java/lang/Object"))))) rm mc ms 3 ∧ (Cond.static yJ10_copyOf_2).before args s = true := va_cwS 3 hts (lw_S h1 q419 q76 q420) rfl hrc hrs (by decide +kernel) hR

abbrev r_J10_copyOf (k : Nat) : Room := { frames := 2, cells := 1, slots := k, locals := 63 }
set_option maxHeartbeats 1000000 in
theorem c_J10_copyOf (lh : Launch) (D : va_G) (dA : Nat → ClassId) (sz : Nat) (ea : Nat) (n : Nat) (f : Nat → Option Nat) (k : Nat) (K : Nat → Nat) (C : String) (h1 : n ≤ k) (h2 : k < 2 ^ 20) (h3 : Cond.castable C "java/lang/Object" ∈ lw_tbl) : Met lh yJ10_copyOf (ws_ yJ10_copyOf cJ10_copyOf 2 (some ((.array (.object "java/lang/Object"))))) (r_J10_copyOf k) (PX (fun U H => H.size = sz ∧ va_P D CL [(ea, .inl (dA 4, n, rfA f))] H ∧ va_D nT [(ea, .inl (dA 4, n, rfA f))] ∧ GK D dA U ∧ KL K (va_A [(ea, .inl (dA 4, n, rfA f))] sz) U H ∧ EL (va_A [(ea, .inl (dA 4, n, rfA f))] sz) C f n U H) [.ref ea, .int (nI k)]) (va_Qq (fun (r : Option Nat) (u : Nat) => r = some (u)) (fun (u : Nat) t => va_P D CL [(ea, .inl (dA 4, n, rfA f)), (u, .inl (dA 4, k, rfA (va_cpy f (fun _ => none) 0 0 n)))] t.heap ∧ va_D (va_A [(ea, .inl (dA 4, n, rfA f))] sz) [(ea, .inl (dA 4, n, rfA f)), (u, .inl (dA 4, k, rfA (va_cpy f (fun _ => none) 0 0 n)))] ∧ GK D dA t) (va_A [(ea, .inl (dA 4, n, rfA f))] sz)) 1 k (va_A [(ea, .inl (dA 4, n, rfA f))] sz) := by
  refine Met.ofW (cc := cJ10_copyOf) (maxL := 2) (ret := (some ((.array (.object "java/lang/Object"))))) (by decide) rfl ?_
  intro p e s m args below meth cd s₁ B hml hv
  obtain ⟨hargs, hsz, hP, hD, hG, hKL, hEL⟩ := hv
  have hx := B.exec
  have hb := B.bytes
  have hrt := B.returns
  have hts := atoms_spec (ws := (ws_ yJ10_copyOf cJ10_copyOf 2 (some ((.array (.object "java/lang/Object")))))) B.pre
  have hts : ∀ w ∈ lw_all, w.before _ s = true := fun w h => hts w (List.mem_cons_of_mem _ h)
  have hown : s.vm.findClass RJ10 = some m.cls := findClass_of_methodNamed B.named
  have hlocks := B.notSynchronized
  subst hsz
  have hD := hD.self (sz := s.heap.size)
  have hA : ∀ q : Nat, s.heap.size ≤ q → va_A [(ea, .inl (dA 4, n, rfA f))] s.heap.size q := fun q h => Or.inr h
  generalize va_A [(ea, .inl (dA 4, n, rfA f))] s.heap.size = A at hD hA hKL hEL ⊢
  have hS : va_S A s.heap s.heap [] := va_S.rf
  have hE : entryFrame m args 2 = F0 m 0 ((lg_sl ([.ref ea, .int (nI k)]) ++ List.replicate (2 - (lg_sl ([.ref ea, .int (nI k)])).length) Slot.unset).toArray) [] := by rw [hargs]; exact lg_entry_eq m _ 2
  have hl := lv_entry ([.ref ea, .int (nI k)]) (n := 2) (Nat.le_of_ble_eq_true rfl)
  rw [hE]
  clear hE
  generalize (lg_sl ([.ref ea, .int (nI k)]) ++ List.replicate (2 - (lg_sl ([.ref ea, .int (nI k)])).length) Slot.unset).toArray = ls at hl ⊢
  have hl : lv_has ls 2 [(0, .ref ea), (1, .int (nI k))] := hl
  generalize hQ : MQ _ _ _ _ _ _ _ = Q
  refine lv_aload_n hx hb dJ10_copyOf_0 rfl (lv_at hl 0 rfl) ?_
  refine lv_iload_n hx hb dJ10_copyOf_1 rfl (lv_at hl 1 rfl) ?_
  refine lv_aload_n hx hb dJ10_copyOf_2 rfl (lv_at hl 0 rfl) ?_
  refine va_getC hx hb (hml.trans hl.1.symm) hown (hts _ q394) (va_Nw.use rfl (hG.2.1 _ q1738 rfl)) (hts _ q1737) (hts _ q395) (hts _ q417) hKL.2.2 ⟨_, hP 0 _ rfl, rfl, va_nmO (hG.1.2 4 _ rfl).2 rfl⟩ (Nat.le_of_ble_eq_true rfl) (Nat.le_of_ble_eq_true rfl) dJ10_copyOf_3 ?_
  have hPs : va_P D CL ([(ea, .inl (dA 4, n, rfA f))] ++ []) s.heap := hP.sub [0] rfl
  have hDs : va_D A ([(ea, .inl (dA 4, n, rfA f))] ++ []) := hD.sub [0] (by decide) rfl
  have hz9 := hS.1
  refine va_callq (va_runS (As := [.ref ea, .int (nI k), .ref (K 51)]) (rest := []) ⟨hx, hb, hml, hown, hts⟩ (c_J10_copyOf_2 lh D dA s.heap.size ea n f k K C (h1) (h2) (h3)) (w_J10_copyOf_2 hts q418 rfl rfl ⟨Nat.le_of_ble_eq_true rfl, Nat.le_of_ble_eq_true rfl⟩) ⟨PX.blind (Mv.and Mv.heap (Mv.and Mv.heap (Mv.and Mv.heap (Mv.and Mv.gk (Mv.and KL.mv EL.mv))))), PX.pre (Mv.and Mv.heap (Mv.and Mv.heap (Mv.and Mv.heap (Mv.and Mv.gk (Mv.and KL.mv EL.mv))))) ⟨rfl, (va_P_left hPs), (va_D_left hDs), hG, (KL.at hKL hS (va_A_up hDs hA hS.1)), (EL.at hEL hS (va_A_up hDs hA hS.1))⟩⟩ rfl rfl hl.1 rfl (lv_room (Nat.le_of_ble_eq_true rfl)) dJ10_copyOf_6 ⟨Nat.le_of_ble_eq_true rfl, by show 0 + k ≤ k; omega⟩) hS (fun q _ => (va_A_up hDs hA hS.1) q) ((va_A_up hDs hA hS.1)) (fun rr u t H1 locs ht hvm hp hB hz hk hS => ?_)
  generalize u = u6 at hp hB
  obtain ⟨hP1, hD1, -⟩ := hB
  rw [ht] at hP1
  obtain ⟨hP, hD⟩ := vp_join hPs hDs hP1 hD1 hk hA hz9
  clear ht hvm hz hk hP1 hD1 hPs hDs hz9
  generalize H1 = H at hP hS ⊢
  have hP : va_P D CL [(ea, .inl (dA 4, n, rfA f)), (u6, .inl (dA 4, k, rfA (va_cpy f (fun _ => none) 0 0 n)))] H := hP
  have hD : va_D A [(ea, .inl (dA 4, n, rfA f)), (u6, .inl (dA 4, k, rfA (va_cpy f (fun _ => none) 0 0 n)))] := hD
  have hrr := hp
  try dsimp only at hrr
  subst hrr
  show W p lh e (r_J10_copyOf k) s m args below meth cd _ _ _ _ Q (F0 m _ ls (.ref u6 :: _))
  subst hQ
  refine W.widen (k := 1) (n := k) (by first | decide | omega) (by first | decide | omega) ?_
  have hP9 : va_P D CL [(ea, .inl (dA 4, n, rfA f)), (u6, .inl (dA 4, k, rfA (va_cpy f (fun _ => none) 0 0 n)))] H := hP.sub [0, 1] rfl
  have hD9 : va_D A [(ea, .inl (dA 4, n, rfA f)), (u6, .inl (dA 4, k, rfA (va_cpy f (fun _ => none) 0 0 n)))] := hD.sub [0, 1] (by decide) rfl
  exact W.aret (v := va_rf (some (u6))) hx hb hrt (Or.inr ⟨_, rfl⟩) (va_rf_or _) (fun t ht hW => ⟨⟨(some (u6)), (u6), rfl, rfl, by rw [ht]; exact hP9, hD9, GK.warm hW hG⟩, hS.F ht⟩) hS.2.2 dJ10_copyOf_9
theorem w_J10_copyOf {R : Room} {s : State} {args : Array Value} {own : String} {idx : Nat} (hts : ∀ w ∈ lw_all, w.before args s = true) (h1 : Cond.methodLink own idx yJ10_copyOf ∈ lw_all) {rm : Room} {mc ms : Nat} (hrc : rm.cells = mc) (hrs : rm.slots = ms) (hR : rm.frames + 1 ≤ R.frames ∧ 8 + (2 + 11) + rm.locals ≤ R.locals) : CallB R s args own idx yJ10_copyOf cJ10_copyOf 2 (some ((.array (.object "java/lang/Object")))) (ws_ yJ10_copyOf cJ10_copyOf 2 (some ((.array (.object "java/lang/Object"))))) rm mc ms 2 ∧ (Cond.static yJ10_copyOf).before args s = true := va_cwS 2 hts (lw_S h1 q392 q76 q393) rfl hrc hrs (by decide +kernel) hR
