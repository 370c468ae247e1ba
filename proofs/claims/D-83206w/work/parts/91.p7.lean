set_option maxRecDepth 100000
abbrev r_J15_newCapacity : Room := { frames := 2, cells := 0, slots := 0, locals := 44 }
set_option maxHeartbeats 1000000 in
theorem c_J15_newCapacity (lh : Launch) (D : va_G) (dA : Nat → ClassId) (a : Nat) (v : Nat) (n : Nat) (g : Nat → Nat) (h1 : n < 2 ^ 18) (h2 : 16 ≤ n) : Met lh yJ15_newCapacity (ws_ yJ15_newCapacity cJ15_newCapacity 6 (some .int)) r_J15_newCapacity (PX (fun U H => va_P D CL [(a, .inr (17, [.ref v, .int (nI 0), .int (nI 0), .int (nI n)])), (v, .inl (dA 1, n, .inl (bw g n)))] H ∧ GK D dA U) [.ref a, .int (nI (n + 1))]) (vp_Si (fun rv => rv = nI (n + (n + 2)))) 0 0 (fun _ => False) := by
  refine Met.ofW (cc := cJ15_newCapacity) (maxL := 6) (ret := (some .int)) (by decide) rfl ?_
  intro p e s m args below meth cd s₁ B hml hv
  obtain ⟨hargs, hP, hG⟩ := hv
  have hx := B.exec
  have hb := B.bytes
  have hrt := B.returns
  have hts := atoms_spec (ws := (ws_ yJ15_newCapacity cJ15_newCapacity 6 (some .int))) B.pre
  have hts : ∀ w ∈ lw_all, w.before _ s = true := fun w h => hts w (List.mem_cons_of_mem _ h)
  have hown : s.vm.findClass RJ15 = some m.cls := findClass_of_methodNamed B.named
  have hlocks := B.notSynchronized
  have hS : va_S nA s.heap s.heap [] := va_S.rf
  have hE : entryFrame m args 6 = F0 m 0 ((lg_sl ([.ref a, .int (nI (n + 1))]) ++ List.replicate (6 - (lg_sl ([.ref a, .int (nI (n + 1))])).length) Slot.unset).toArray) [] := by rw [hargs]; exact lg_entry_eq m _ 6
  have hl := lv_entry ([.ref a, .int (nI (n + 1))]) (n := 6) (Nat.le_of_ble_eq_true rfl)
  rw [hE]
  clear hE
  generalize (lg_sl ([.ref a, .int (nI (n + 1))]) ++ List.replicate (6 - (lg_sl ([.ref a, .int (nI (n + 1))])).length) Slot.unset).toArray = ls at hl ⊢
  have hl : lv_has ls 6 [(0, .ref a), (1, .int (nI (n + 1)))] := hl
  generalize hQ : MQ _ _ _ _ _ _ _ = Q
  refine lv_aload_n hx hb dJ15_newCapacity_0 rfl (lv_at hl 0 rfl) ?_
  refine va_get (D := D) (ci := 17) (v := .ref v) (C := RJ16) (T := TJ16) (N := 4) hx hb hts in_J16 hown hG.1 hP 0 rfl rfl 0 (by decide) (hts _ q645) (fun _ h => h) rfl dJ15_newCapacity_1 ?_
  refine va_alen (v := nI n) hx hb hG.1 hP 1 1 rfl rfl rfl dJ15_newCapacity_4 ?_
  refine lv_istore_n (lv' := [(2, .int (nI n)), (0, .ref a), (1, .int (nI (n + 1)))]) hx hb dJ15_newCapacity_5 rfl hl (by decide) rfl (fun ls hl => ?_)
  refine lv_iload_n hx hb dJ15_newCapacity_6 rfl (lv_at hl 2 rfl) ?_
  refine lv_aload_n hx hb dJ15_newCapacity_7 rfl (lv_at hl 1 rfl) ?_
  refine va_get (D := D) (ci := 17) (v := .int (nI 0)) (C := RJ16) (T := TJ16) (N := 4) hx hb hts in_J16 hown hG.1 hP 0 rfl rfl 1 (by decide) (hts _ q646) (fun _ h => h) rfl dJ15_newCapacity_8 ?_
  refine lv_ishl hx hb dJ15_newCapacity_11 ?_
  refine kx_int (y := nI (n + 1)) sh0_l ?_
  refine lv_istore_n (lv' := [(3, .int (nI (n + 1))), (2, .int (nI n)), (0, .ref a), (1, .int (nI (n + 1)))]) hx hb dJ15_newCapacity_12 rfl hl (by decide) rfl (fun ls hl => ?_)
  refine lv_iload_n hx hb dJ15_newCapacity_13 rfl (lv_at hl 0 rfl) ?_
  refine lv_iload_n hx hb dJ15_newCapacity_14 rfl (lv_at hl 1 rfl) ?_
  refine kn_sub hx hb dJ15_newCapacity_15 (by omega) ?_
  refine kx_int (y := nI 1) (congrArg nI (by omega)) ?_
  refine lv_istore (lv' := [(4, .int (nI 1)), (3, .int (nI (n + 1))), (2, .int (nI n)), (0, .ref a), (1, .int (nI (n + 1)))]) hx hb dJ15_newCapacity_16 hl (by decide) rfl (fun ls hl => ?_)
  refine lv_iload_n hx hb dJ15_newCapacity_18 rfl (lv_at hl 2 rfl) ?_
  refine lv_iload hx hb dJ15_newCapacity_19 (lv_at hl 0 rfl) ?_
  refine lv_iload_n hx hb dJ15_newCapacity_21 rfl (lv_at hl 2 rfl) ?_
  refine lv_iconst (v := nI 2) hx hb dJ15_newCapacity_22 (by decide) ?_
  refine lv_aload_n hx hb dJ15_newCapacity_23 rfl (lv_at hl 3 rfl) ?_
  refine va_get (D := D) (ci := 17) (v := .int (nI 0)) (C := RJ16) (T := TJ16) (N := 4) hx hb hts in_J16 hown hG.1 hP 0 rfl rfl 1 (by decide) (hts _ q646) (fun _ h => h) rfl dJ15_newCapacity_24 ?_
  refine lv_ishl hx hb dJ15_newCapacity_27 ?_
  refine kx_int (y := nI 2) sh0_l ?_
  refine kn_add hx hb dJ15_newCapacity_28 ?_
  refine vp_callSi (W.runS (As := [.int (nI n), .int (nI 1), .int (nI (n + 2))]) (rest := []) ⟨hx, hb, hml, hown, hts⟩ (c_J8_newLength lh n 1 (n + 2) (by omega) (by omega) (by omega) (by omega)) (w_J8_newLength hts q673 rfl rfl ⟨Nat.le_of_ble_eq_true rfl, Nat.le_of_ble_eq_true rfl⟩) ⟨P0.blind, P0.pre⟩ rfl rfl hl.1 rfl (lv_room (Nat.le_of_ble_eq_true rfl)) dJ15_newCapacity_29 ⟨Nat.le_of_ble_eq_true rfl, Nat.le_of_ble_eq_true rfl⟩) (fun rr hrr => ?_)
  subst hrr
  refine kx_int (y := nI (n + (n + 2))) (congrArg nI (by rw [if_pos (by omega)])) ?_
  refine lv_istore (lv' := [(5, .int (nI (n + (n + 2)))), (4, .int (nI 1)), (3, .int (nI (n + 1))), (2, .int (nI n)), (0, .ref a), (1, .int (nI (n + 1)))]) hx hb dJ15_newCapacity_32 hl (by decide) rfl (fun ls hl => ?_)
  refine lv_iload hx hb dJ15_newCapacity_34 (lv_at hl 0 rfl) ?_
  refine lv_ldc (v := 2147483647) hx hb hown (hts _ q674) dJ15_newCapacity_36 ?_
  refine kx_int (y := nI 2147483647) (by decide) ?_
  refine kn_cne (tgt := 51) hx hb dJ15_newCapacity_38 (by decide) (by omega) (by decide) (fun c_38 => ?_) (fun c_38 => ?_)
  · refine lv_iload hx hb dJ15_newCapacity_51 (lv_at hl 0 rfl) ?_
    refine lv_aload_n hx hb dJ15_newCapacity_53 rfl (lv_at hl 4 rfl) ?_
    refine va_get (D := D) (ci := 17) (v := .int (nI 0)) (C := RJ16) (T := TJ16) (N := 4) hx hb hts in_J16 hown hG.1 hP 0 rfl rfl 1 (by decide) (hts _ q646) (fun _ h => h) rfl dJ15_newCapacity_54 ?_
    refine lv_ishr hx hb dJ15_newCapacity_57 ?_
    refine kx_int (y := nI (n + (n + 2))) (sh0_nI (by omega)) ?_
    subst hQ
    exact W.iret (v := nI (n + (n + 2))) hx hb hrt (fun t ht _ => ⟨_, rfl, (show nI (n + (n + 2)) = nI (n + (n + 2)) from rfl), ht⟩) t_nil dJ15_newCapacity_58
  · omega

abbrev r_J15_ensureCapacityInternal_R : Room := { frames := 0, cells := 0, slots := 0, locals := 0 }
set_option maxHeartbeats 1000000 in
theorem c_J15_ensureCapacityInternal_R (lh : Launch) (D : va_G) (dA : Nat → ClassId) (a : Nat) (v : Nat) (n : Nat) (cap : Nat) (f : Nat → Int32) (mm : Nat) (h1 : mm ≤ cap) (h2 : cap < 2 ^ 31) : Met lh yJ15_ensureCapacityInternal (ws_ yJ15_ensureCapacityInternal cJ15_ensureCapacityInternal 3 none) r_J15_ensureCapacityInternal_R (PX (fun U H => va_P D CL [(a, .inr (17, [.ref v, .int (nI 0), .int (nI 0), .int (nI n)])), (v, .inl (dA 1, cap, .inl f))] H ∧ GK D dA U) [.ref a, .int (nI mm)]) (va_Sv (fun _ => True)) 0 0 (fun _ => False) := by
  refine Met.ofW (cc := cJ15_ensureCapacityInternal) (maxL := 3) (ret := none) (by decide) rfl ?_
  intro p e s m args below meth cd s₁ B hml hv
  obtain ⟨hargs, hP, hG⟩ := hv
  have hx := B.exec
  have hb := B.bytes
  have hrt := B.returns
  have hts := atoms_spec (ws := (ws_ yJ15_ensureCapacityInternal cJ15_ensureCapacityInternal 3 none)) B.pre
  have hts : ∀ w ∈ lw_all, w.before _ s = true := fun w h => hts w (List.mem_cons_of_mem _ h)
  have hown : s.vm.findClass RJ15 = some m.cls := findClass_of_methodNamed B.named
  have hlocks := B.notSynchronized
  have hS : va_S nA s.heap s.heap [] := va_S.rf
  have hE : entryFrame m args 3 = F0 m 0 ((lg_sl ([.ref a, .int (nI mm)]) ++ List.replicate (3 - (lg_sl ([.ref a, .int (nI mm)])).length) Slot.unset).toArray) [] := by rw [hargs]; exact lg_entry_eq m _ 3
  have hl := lv_entry ([.ref a, .int (nI mm)]) (n := 3) (Nat.le_of_ble_eq_true rfl)
  rw [hE]
  clear hE
  generalize (lg_sl ([.ref a, .int (nI mm)]) ++ List.replicate (3 - (lg_sl ([.ref a, .int (nI mm)])).length) Slot.unset).toArray = ls at hl ⊢
  have hl : lv_has ls 3 [(0, .ref a), (1, .int (nI mm))] := hl
  generalize hQ : MQ _ _ _ _ _ _ _ = Q
  refine lv_aload_n hx hb dJ15_ensureCapacityInternal_0 rfl (lv_at hl 0 rfl) ?_
  refine va_get (D := D) (ci := 17) (v := .ref v) (C := RJ16) (T := TJ16) (N := 4) hx hb hts in_J16 hown hG.1 hP 0 rfl rfl 0 (by decide) (hts _ q645) (fun _ h => h) rfl dJ15_ensureCapacityInternal_1 ?_
  refine va_alen (v := nI cap) hx hb hG.1 hP 1 1 rfl rfl rfl dJ15_ensureCapacityInternal_4 ?_
  refine lv_aload_n hx hb dJ15_ensureCapacityInternal_5 rfl (lv_at hl 0 rfl) ?_
  refine va_get (D := D) (ci := 17) (v := .int (nI 0)) (C := RJ16) (T := TJ16) (N := 4) hx hb hts in_J16 hown hG.1 hP 0 rfl rfl 1 (by decide) (hts _ q646) (fun _ h => h) rfl dJ15_ensureCapacityInternal_6 ?_
  refine lv_ishr hx hb dJ15_ensureCapacityInternal_9 ?_
  refine kx_int (y := nI cap) (sh0_nI h2) ?_
  refine lv_istore_n (lv' := [(2, .int (nI cap)), (0, .ref a), (1, .int (nI mm))]) hx hb dJ15_ensureCapacityInternal_10 rfl hl (by decide) rfl (fun ls hl => ?_)
  refine lv_iload_n hx hb dJ15_ensureCapacityInternal_11 rfl (lv_at hl 2 rfl) ?_
  refine lv_iload_n hx hb dJ15_ensureCapacityInternal_12 rfl (lv_at hl 0 rfl) ?_
  refine lv_isub hx hb dJ15_ensureCapacityInternal_13 ?_
  refine lv_if_le (tgt := 38) hx hb dJ15_ensureCapacityInternal_14 (by decide) (fun c_14 => ?_) (fun c_14 => ?_)
  · subst hQ
    exact W.vret hx hb hrt (fun t ht _ => ⟨rfl, trivial, ht⟩) t_nil dJ15_ensureCapacityInternal_38
  · exact absurd (sub_le0 h1 h2) c_14

abbrev r_J15_ensureCapacityInternal_G (n : Nat) : Room := { frames := 3, cells := 1, slots := (n + (n + 2)), locals := 69 }
set_option maxHeartbeats 1000000 in
theorem c_J15_ensureCapacityInternal_G (lh : Launch) (D : va_G) (dA : Nat → ClassId) (sz : Nat) (a : Nat) (v : Nat) (n : Nat) (g : Nat → Nat) (h1 : n < 2 ^ 18) (h2 : 16 ≤ n) (h3 : ∀ j, j < n → g j < 128) : Met lh yJ15_ensureCapacityInternal (ws_ yJ15_ensureCapacityInternal cJ15_ensureCapacityInternal 3 none) (r_J15_ensureCapacityInternal_G n) (PX (fun U H => H.size = sz ∧ va_P D CL [(a, .inr (17, [.ref v, .int (nI 0), .int (nI 0), .int (nI n)])), (v, .inl (dA 1, n, .inl (bw g n)))] H ∧ va_D nT [(a, .inr (17, [.ref v, .int (nI 0), .int (nI 0), .int (nI n)])), (v, .inl (dA 1, n, .inl (bw g n)))] ∧ GK D dA U ∧ PV U) [.ref a, .int (nI (n + 1))]) (va_Qv (fun u : Nat => True) (fun (u : Nat) t => va_P D CL [(a, .inr (17, [.ref u, .int (nI 0), .int (nI 0), .int (nI n)])), (u, .inl (dA 1, (n + (n + 2)), .inl (bw g n)))] t.heap ∧ va_D (va_A [(a, .inr (17, [.ref v, .int (nI 0), .int (nI 0), .int (nI n)])), (v, .inl (dA 1, n, .inl (bw g n)))] sz) [(a, .inr (17, [.ref u, .int (nI 0), .int (nI 0), .int (nI n)])), (u, .inl (dA 1, (n + (n + 2)), .inl (bw g n)))] ∧ GK D dA t) (va_A [(a, .inr (17, [.ref v, .int (nI 0), .int (nI 0), .int (nI n)])), (v, .inl (dA 1, n, .inl (bw g n)))] sz)) 1 (n + (n + 2)) (va_A [(a, .inr (17, [.ref v, .int (nI 0), .int (nI 0), .int (nI n)])), (v, .inl (dA 1, n, .inl (bw g n)))] sz) := by
  refine Met.ofW (cc := cJ15_ensureCapacityInternal) (maxL := 3) (ret := none) (by decide) rfl ?_
  intro p e s m args below meth cd s₁ B hml hv
  obtain ⟨hargs, hsz, hP, hD, hG, hPV⟩ := hv
  have hx := B.exec
  have hb := B.bytes
  have hrt := B.returns
  have hts := atoms_spec (ws := (ws_ yJ15_ensureCapacityInternal cJ15_ensureCapacityInternal 3 none)) B.pre
  have hts : ∀ w ∈ lw_all, w.before _ s = true := fun w h => hts w (List.mem_cons_of_mem _ h)
  have hown : s.vm.findClass RJ15 = some m.cls := findClass_of_methodNamed B.named
  have hlocks := B.notSynchronized
  subst hsz
  have hD := hD.self (sz := s.heap.size)
  have hA : ∀ q : Nat, s.heap.size ≤ q → va_A [(a, .inr (17, [.ref v, .int (nI 0), .int (nI 0), .int (nI n)])), (v, .inl (dA 1, n, .inl (bw g n)))] s.heap.size q := fun q h => Or.inr h
  generalize va_A [(a, .inr (17, [.ref v, .int (nI 0), .int (nI 0), .int (nI n)])), (v, .inl (dA 1, n, .inl (bw g n)))] s.heap.size = A at hD hA ⊢
  have hS : va_S A s.heap s.heap [] := va_S.rf
  have hE : entryFrame m args 3 = F0 m 0 ((lg_sl ([.ref a, .int (nI (n + 1))]) ++ List.replicate (3 - (lg_sl ([.ref a, .int (nI (n + 1))])).length) Slot.unset).toArray) [] := by rw [hargs]; exact lg_entry_eq m _ 3
  have hl := lv_entry ([.ref a, .int (nI (n + 1))]) (n := 3) (Nat.le_of_ble_eq_true rfl)
  rw [hE]
  clear hE
  generalize (lg_sl ([.ref a, .int (nI (n + 1))]) ++ List.replicate (3 - (lg_sl ([.ref a, .int (nI (n + 1))])).length) Slot.unset).toArray = ls at hl ⊢
  have hl : lv_has ls 3 [(0, .ref a), (1, .int (nI (n + 1)))] := hl
  generalize hQ : MQ _ _ _ _ _ _ _ = Q
  refine lv_aload_n hx hb dJ15_ensureCapacityInternal_0 rfl (lv_at hl 0 rfl) ?_
  refine va_get (D := D) (ci := 17) (v := .ref v) (C := RJ16) (T := TJ16) (N := 4) hx hb hts in_J16 hown hG.1 hP 0 rfl rfl 0 (by decide) (hts _ q645) (fun _ h => h) rfl dJ15_ensureCapacityInternal_1 ?_
  refine va_alen (v := nI n) hx hb hG.1 hP 1 1 rfl rfl rfl dJ15_ensureCapacityInternal_4 ?_
  refine lv_aload_n hx hb dJ15_ensureCapacityInternal_5 rfl (lv_at hl 0 rfl) ?_
  refine va_get (D := D) (ci := 17) (v := .int (nI 0)) (C := RJ16) (T := TJ16) (N := 4) hx hb hts in_J16 hown hG.1 hP 0 rfl rfl 1 (by decide) (hts _ q646) (fun _ h => h) rfl dJ15_ensureCapacityInternal_6 ?_
  refine lv_ishr hx hb dJ15_ensureCapacityInternal_9 ?_
  refine kx_int (y := nI n) (sh0_nI (by omega)) ?_
  refine lv_istore_n (lv' := [(2, .int (nI n)), (0, .ref a), (1, .int (nI (n + 1)))]) hx hb dJ15_ensureCapacityInternal_10 rfl hl (by decide) rfl (fun ls hl => ?_)
  refine lv_iload_n hx hb dJ15_ensureCapacityInternal_11 rfl (lv_at hl 2 rfl) ?_
  refine lv_iload_n hx hb dJ15_ensureCapacityInternal_12 rfl (lv_at hl 0 rfl) ?_
  refine kn_sub hx hb dJ15_ensureCapacityInternal_13 (by omega) ?_
  refine kx_int (y := nI 1) (congrArg nI (by omega)) ?_
  refine kn_zle (tgt := 38) hx hb dJ15_ensureCapacityInternal_14 (by decide) (by decide) (fun c_14 => ?_) (fun c_14 => ?_)
  · omega
  · refine lv_aload_n hx hb dJ15_ensureCapacityInternal_17 rfl (lv_at hl 1 rfl) ?_
    refine lv_aload_n hx hb dJ15_ensureCapacityInternal_18 rfl (lv_at hl 1 rfl) ?_
    refine va_get (D := D) (ci := 17) (v := .ref v) (C := RJ16) (T := TJ16) (N := 4) hx hb hts in_J16 hown hG.1 hP 0 rfl rfl 0 (by decide) (hts _ q645) (fun _ h => h) rfl dJ15_ensureCapacityInternal_19 ?_
    refine lv_aload_n hx hb dJ15_ensureCapacityInternal_22 rfl (lv_at hl 1 rfl) ?_
    refine lv_iload_n hx hb dJ15_ensureCapacityInternal_23 rfl (lv_at hl 2 rfl) ?_
    have hPs : va_P D CL ([(a, .inr (17, [.ref v, .int (nI 0), .int (nI 0), .int (nI n)])), (v, .inl (dA 1, n, .inl (bw g n)))] ++ []) s.heap := hP.sub [0, 1] rfl
    refine vp_callSi (va_Run.call (va_runU (As := [.int (nI (n + 1))]) (rest := [.ref v, .ref a]) ⟨hx, hb, hml, hown, hts⟩ (c_J15_newCapacity lh D dA a v n g (h1) (h2)) (va_cwUP 1 hts q669 q1698 (hPV _ q670 rfl) q671 q85 q672 q629 rfl rfl rfl (by decide +kernel) ⟨Nat.le_of_ble_eq_true rfl, Nat.le_of_ble_eq_true rfl⟩) ⟨PX.blind (Mv.and Mv.heap Mv.gk), (va_recv hG.1 hP (ci := 17) (q0 := 0) rfl rfl), PX.pre (Mv.and Mv.heap Mv.gk) ⟨(va_P_left hPs), hG⟩⟩ rfl rfl hl.1 rfl (lv_room (Nat.le_of_ble_eq_true rfl)) dJ15_ensureCapacityInternal_24 ⟨Nat.le_of_ble_eq_true rfl, by show _ ≤ (n + (n + 2)); omega⟩)) (fun rr hrr => ?_)
    subst hrr
    refine kx_int (y := nI (n + (n + 2))) (rfl) ?_
    refine lv_aload_n hx hb dJ15_ensureCapacityInternal_27 rfl (lv_at hl 1 rfl) ?_
    refine va_get (D := D) (ci := 17) (v := .int (nI 0)) (C := RJ16) (T := TJ16) (N := 4) hx hb hts in_J16 hown hG.1 hP 0 rfl rfl 1 (by decide) (hts _ q646) (fun _ h => h) rfl dJ15_ensureCapacityInternal_28 ?_
    refine lv_ishl hx hb dJ15_ensureCapacityInternal_31 ?_
    refine kx_int (y := nI (n + (n + 2))) sh0_l ?_
    have hPs : va_P D CL ([(v, .inl (dA 1, n, .inl (bw g n)))] ++ [(a, .inr (17, [.ref v, .int (nI 0), .int (nI 0), .int (nI n)]))]) s.heap := hP.sub [1, 0] rfl
    have hDs : va_D A ([(v, .inl (dA 1, n, .inl (bw g n)))] ++ [(a, .inr (17, [.ref v, .int (nI 0), .int (nI 0), .int (nI n)]))]) := hD.sub [1, 0] (by decide) rfl
    have hz9 := hS.1
    refine va_callq (va_runS (As := [.ref v, .int (nI (n + (n + 2)))]) (rest := [.ref a]) ⟨hx, hb, hml, hown, hts⟩ (c_J10_copyOf_3 lh D dA s.heap.size v n (n + (n + 2)) g (by omega) (by omega) (h3)) (w_J10_copyOf_3 hts q675 rfl rfl ⟨Nat.le_of_ble_eq_true rfl, Nat.le_of_ble_eq_true rfl⟩) ⟨PX.blind (Mv.and Mv.heap (Mv.and Mv.heap (Mv.and Mv.heap Mv.gk))), PX.pre (Mv.and Mv.heap (Mv.and Mv.heap (Mv.and Mv.heap Mv.gk))) ⟨rfl, (va_P_left hPs), (va_D_left hDs), hG⟩⟩ rfl rfl hl.1 rfl (lv_room (Nat.le_of_ble_eq_true rfl)) dJ15_ensureCapacityInternal_32 ⟨Nat.le_of_ble_eq_true rfl, by show 0 + (n + (n + 2)) ≤ n + (n + 2); omega⟩) hS (fun q _ => (va_A_up hDs hA hS.1) q) ((va_A_up hDs hA hS.1)) (fun rr u t H1 locs ht hvm hp hB hz hk hS => ?_)
    generalize u = u32 at hp hB
    obtain ⟨hP1, hD1, -⟩ := hB
    rw [ht] at hP1
    obtain ⟨hP, hD⟩ := vp_join hPs hDs hP1 hD1 hk hA hz9
    clear ht hvm hz hk hP1 hD1 hPs hDs hz9
    generalize H1 = H at hP hS ⊢
    have hP : va_P D CL [(v, .inl (dA 1, n, .inl (bw g n))), (u32, .inl (dA 1, (n + (n + 2)), .inl (bw g n))), (a, .inr (17, [.ref v, .int (nI 0), .int (nI 0), .int (nI n)]))] H := hP
    have hD : va_D A [(v, .inl (dA 1, n, .inl (bw g n))), (u32, .inl (dA 1, (n + (n + 2)), .inl (bw g n))), (a, .inr (17, [.ref v, .int (nI 0), .int (nI 0), .int (nI n)]))] := hD
    have hrr := hp
    try dsimp only at hrr
    subst hrr
    show W p lh e (r_J15_ensureCapacityInternal_G n) s m args below meth cd _ _ _ _ Q (F0 m _ ls (.ref u32 :: _))
    refine va_put (D := D) (ci := 17) (v := .ref u32) (C := RJ16) (T := TJ16) (N := 4) hx hb hts in_J16 tyJ16 tyJ16_ok nmJ16 hown hG.1 hP hD hS 2 rfl rfl 0 (by decide) (hts _ q645) (fun _ h => h) rfl rfl (rfl) (rfl) (Nat.le_of_ble_eq_true rfl) dJ15_ensureCapacityInternal_35 (fun H locs hP hD hS => ?_)
    have hP : va_P D CL [(v, .inl (dA 1, n, .inl (bw g n))), (u32, .inl (dA 1, (n + (n + 2)), .inl (bw g n))), (a, .inr (17, [.ref u32, .int (nI 0), .int (nI 0), .int (nI n)]))] H := hP
    have hD : va_D A [(v, .inl (dA 1, n, .inl (bw g n))), (u32, .inl (dA 1, (n + (n + 2)), .inl (bw g n))), (a, .inr (17, [.ref u32, .int (nI 0), .int (nI 0), .int (nI n)]))] := hD
    subst hQ
    refine W.widen (k := 1) (n := (n + (n + 2))) (by first | decide | omega) (by first | decide | omega) ?_
    have hP9 : va_P D CL [(a, .inr (17, [.ref u32, .int (nI 0), .int (nI 0), .int (nI n)])), (u32, .inl (dA 1, (n + (n + 2)), .inl (bw g n)))] H := hP.sub [2, 1] rfl
    have hD9 : va_D A [(a, .inr (17, [.ref u32, .int (nI 0), .int (nI 0), .int (nI n)])), (u32, .inl (dA 1, (n + (n + 2)), .inl (bw g n)))] := hD.sub [2, 1] (by decide) rfl
    exact W.vret hx hb hrt (fun t ht hW => ⟨⟨(u32), rfl, trivial, by rw [ht]; exact hP9, hD9, GK.warm hW hG⟩, hS.F ht⟩) hS.2.2 dJ15_ensureCapacityInternal_38

abbrev r_J15_append_R : Room := { frames := 1, cells := 0, slots := 0, locals := 22 }
set_option maxHeartbeats 1000000 in
theorem c_J15_append_R (lh : Launch) (D : va_G) (dA : Nat → ClassId) (sz : Nat) (a : Nat) (v : Nat) (n : Nat) (cap : Nat) (g : Nat → Nat) (x : Nat) (h1 : n < cap) (h2 : cap < 2 ^ 20) (h3 : x = g n) (h4 : x < 128) : Met lh yJ15_append (ws_ yJ15_append cJ15_append 2 (some (.object "java/lang/AbstractStringBuilder"))) r_J15_append_R (PX (fun U H => H.size = sz ∧ va_P D CL [(a, .inr (17, [.ref v, .int (nI 0), .int (nI 0), .int (nI n)])), (v, .inl (dA 1, cap, .inl (bw g n)))] H ∧ va_D nT [(a, .inr (17, [.ref v, .int (nI 0), .int (nI 0), .int (nI n)])), (v, .inl (dA 1, cap, .inl (bw g n)))] ∧ GK D dA U ∧ KC (va_A [(a, .inr (17, [.ref v, .int (nI 0), .int (nI 0), .int (nI n)])), (v, .inl (dA 1, cap, .inl (bw g n)))] sz) U H ∧ PV U) [.ref a, .int (nI x)]) (va_Qq (fun (r : Option Nat) (u : Unit) => r = some (a)) (fun (u : Unit) t => va_P D CL [(a, .inr (17, [.ref v, .int (nI 0), .int (nI 0), .int (nI (n + 1))])), (v, .inl (dA 1, cap, .inl (bw g (n + 1))))] t.heap ∧ va_D (va_A [(a, .inr (17, [.ref v, .int (nI 0), .int (nI 0), .int (nI n)])), (v, .inl (dA 1, cap, .inl (bw g n)))] sz) [(a, .inr (17, [.ref v, .int (nI 0), .int (nI 0), .int (nI (n + 1))])), (v, .inl (dA 1, cap, .inl (bw g (n + 1))))] ∧ GK D dA t) (va_A [(a, .inr (17, [.ref v, .int (nI 0), .int (nI 0), .int (nI n)])), (v, .inl (dA 1, cap, .inl (bw g n)))] sz)) 0 0 (va_A [(a, .inr (17, [.ref v, .int (nI 0), .int (nI 0), .int (nI n)])), (v, .inl (dA 1, cap, .inl (bw g n)))] sz) := by
  refine Met.ofW (cc := cJ15_append) (maxL := 2) (ret := (some (.object "java/lang/AbstractStringBuilder"))) (by decide) rfl ?_
  intro p e s m args below meth cd s₁ B hml hv
  obtain ⟨hargs, hsz, hP, hD, hG, hKC, hPV⟩ := hv
  have hx := B.exec
  have hb := B.bytes
  have hrt := B.returns
  have hts := atoms_spec (ws := (ws_ yJ15_append cJ15_append 2 (some (.object "java/lang/AbstractStringBuilder")))) B.pre
  have hts : ∀ w ∈ lw_all, w.before _ s = true := fun w h => hts w (List.mem_cons_of_mem _ h)
  have hown : s.vm.findClass RJ15 = some m.cls := findClass_of_methodNamed B.named
  have hlocks := B.notSynchronized
  subst hsz
  have hD := hD.self (sz := s.heap.size)
  have hA : ∀ q : Nat, s.heap.size ≤ q → va_A [(a, .inr (17, [.ref v, .int (nI 0), .int (nI 0), .int (nI n)])), (v, .inl (dA 1, cap, .inl (bw g n)))] s.heap.size q := fun q h => Or.inr h
  generalize va_A [(a, .inr (17, [.ref v, .int (nI 0), .int (nI 0), .int (nI n)])), (v, .inl (dA 1, cap, .inl (bw g n)))] s.heap.size = A at hD hA hKC ⊢
  have hS : va_S A s.heap s.heap [] := va_S.rf
  have hE : entryFrame m args 2 = F0 m 0 ((lg_sl ([.ref a, .int (nI x)]) ++ List.replicate (2 - (lg_sl ([.ref a, .int (nI x)])).length) Slot.unset).toArray) [] := by rw [hargs]; exact lg_entry_eq m _ 2
  have hl := lv_entry ([.ref a, .int (nI x)]) (n := 2) (Nat.le_of_ble_eq_true rfl)
  rw [hE]
  clear hE
  generalize (lg_sl ([.ref a, .int (nI x)]) ++ List.replicate (2 - (lg_sl ([.ref a, .int (nI x)])).length) Slot.unset).toArray = ls at hl ⊢
  have hl : lv_has ls 2 [(0, .ref a), (1, .int (nI x))] := hl
  generalize hQ : MQ _ _ _ _ _ _ _ = Q
  refine lv_aload_n hx hb dJ15_append_0 rfl (lv_at hl 0 rfl) ?_
  refine lv_aload_n hx hb dJ15_append_1 rfl (lv_at hl 0 rfl) ?_
  refine va_get (D := D) (ci := 17) (v := .int (nI n)) (C := RJ16) (T := TJ16) (N := 4) hx hb hts in_J16 hown hG.1 hP 0 rfl rfl 3 (by decide) (hts _ q648) (fun _ h => h) rfl dJ15_append_2 ?_
  refine lv_iconst (v := nI 1) hx hb dJ15_append_5 (by decide) ?_
  refine kn_add hx hb dJ15_append_6 ?_
  have hPs : va_P D CL ([(a, .inr (17, [.ref v, .int (nI 0), .int (nI 0), .int (nI n)])), (v, .inl (dA 1, cap, .inl (bw g n)))] ++ []) s.heap := hP.sub [0, 1] rfl
  refine va_csv (va_Run.call (va_runU (As := [.int (nI (n + 1))]) (rest := []) ⟨hx, hb, hml, hown, hts⟩ (c_J15_ensureCapacityInternal_R lh D dA a v n cap (bw g n) (n + 1) (by omega) (by omega)) (va_cwUP 1 hts q665 q1697 (hPV _ q666 rfl) q667 q85 q668 q629 rfl rfl rfl (by decide +kernel) ⟨Nat.le_of_ble_eq_true rfl, Nat.le_of_ble_eq_true rfl⟩) ⟨PX.blind (Mv.and Mv.heap Mv.gk), (va_recv hG.1 hP (ci := 17) (q0 := 0) rfl rfl), PX.pre (Mv.and Mv.heap Mv.gk) ⟨(va_P_left hPs), hG⟩⟩ rfl rfl hl.1 rfl (lv_room (Nat.le_of_ble_eq_true rfl)) dJ15_append_7 ⟨Nat.le_of_ble_eq_true rfl, Nat.le_of_ble_eq_true rfl⟩)) (fun _ => ?_)
  refine lv_aload_n hx hb dJ15_append_10 rfl (lv_at hl 0 rfl) ?_
  have hPs : va_P D CL ([(a, .inr (17, [.ref v, .int (nI 0), .int (nI 0), .int (nI n)]))] ++ [(v, .inl (dA 1, cap, .inl (bw g n)))]) s.heap := hP.sub [0, 1] rfl
  refine vp_callSi (va_Run.call (va_runU (As := []) (rest := []) ⟨hx, hb, hml, hown, hts⟩ (c_J15_isLatin1 lh D dA a v n) (va_cwU 0 hts (lw_U q685 q687 q688 q686 q85 q689) rfl rfl rfl rfl (by decide +kernel) ⟨Nat.le_of_ble_eq_true rfl, Nat.le_of_ble_eq_true rfl⟩) ⟨PX.blind (Mv.and Mv.heap (Mv.and Mv.gk KC.mv)), (va_recv hG.1 hP (ci := 17) (q0 := 0) rfl rfl), PX.pre (Mv.and Mv.heap (Mv.and Mv.gk KC.mv)) ⟨(va_P_left hPs), hG, (KC.at hKC hS (fun _ h => h.elim))⟩⟩ rfl rfl hl.1 rfl (lv_room (Nat.le_of_ble_eq_true rfl)) dJ15_append_11 ⟨Nat.le_of_ble_eq_true rfl, Nat.le_of_ble_eq_true rfl⟩)) (fun rr hrr => ?_)
  subst hrr
  refine kx_int (y := nI 1) (rfl) ?_
  refine kn_zeq (tgt := 45) hx hb dJ15_append_14 (by decide) (by decide) (fun c => absurd c (by decide)) (fun _ => ?_)
  refine lv_iload_n hx hb dJ15_append_17 rfl (lv_at hl 1 rfl) ?_
  have hPs : va_P D CL ([] ++ [(a, .inr (17, [.ref v, .int (nI 0), .int (nI 0), .int (nI n)])), (v, .inl (dA 1, cap, .inl (bw g n)))]) s.heap := hP.sub [0, 1] rfl
  refine vp_callSi (va_Run.call (va_runS (As := [.int (nI x)]) (rest := []) ⟨hx, hb, hml, hown, hts⟩ (c_J4_canEncode lh D dA x (h4)) (w_J4_canEncode hts q690 rfl rfl ⟨Nat.le_of_ble_eq_true rfl, Nat.le_of_ble_eq_true rfl⟩) ⟨PX.blind (Mv.and Mv.heap Mv.gk), PX.pre (Mv.and Mv.heap Mv.gk) ⟨(va_P_left hPs), hG⟩⟩ rfl rfl hl.1 rfl (lv_room (Nat.le_of_ble_eq_true rfl)) dJ15_append_18 ⟨Nat.le_of_ble_eq_true rfl, Nat.le_of_ble_eq_true rfl⟩)) (fun rr hrr => ?_)
  subst hrr
  refine kx_int (y := nI 1) (rfl) ?_
  refine kn_zeq (tgt := 45) hx hb dJ15_append_21 (by decide) (by decide) (fun c => absurd c (by decide)) (fun _ => ?_)
  refine lv_aload_n hx hb dJ15_append_24 rfl (lv_at hl 0 rfl) ?_
  refine va_get (D := D) (ci := 17) (v := .ref v) (C := RJ16) (T := TJ16) (N := 4) hx hb hts in_J16 hown hG.1 hP 0 rfl rfl 0 (by decide) (hts _ q645) (fun _ h => h) rfl dJ15_append_25 ?_
  refine lv_aload_n hx hb dJ15_append_28 rfl (lv_at hl 0 rfl) ?_
  refine lv_dup hx hb dJ15_append_29 rfl ?_
  refine va_get (D := D) (ci := 17) (v := .int (nI n)) (C := RJ16) (T := TJ16) (N := 4) hx hb hts in_J16 hown hG.1 hP 0 rfl rfl 3 (by decide) (hts _ q648) (fun _ h => h) rfl dJ15_append_30 ?_
  refine lv_dup_x1 hx hb dJ15_append_33 rfl rfl ?_
  refine lv_iconst (v := nI 1) hx hb dJ15_append_34 (by decide) ?_
  refine kn_add hx hb dJ15_append_35 ?_
  refine va_put (D := D) (ci := 17) (v := .int (nI (n + 1))) (C := RJ16) (T := TJ16) (N := 4) hx hb hts in_J16 tyJ16 tyJ16_ok nmJ16 hown hG.1 hP hD hS 0 rfl rfl 3 (by decide) (hts _ q648) (fun _ h => h) rfl rfl (rfl) (rfl) (Nat.le_of_ble_eq_true rfl) dJ15_append_36 (fun H locs hP hD hS => ?_)
  have hP : va_P D CL [(a, .inr (17, [.ref v, .int (nI 0), .int (nI 0), .int (nI (n + 1))])), (v, .inl (dA 1, cap, .inl (bw g n)))] H := hP
  have hD : va_D A [(a, .inr (17, [.ref v, .int (nI 0), .int (nI 0), .int (nI (n + 1))])), (v, .inl (dA 1, cap, .inl (bw g n)))] := hD
  refine lv_iload_n hx hb dJ15_append_39 rfl (lv_at hl 1 rfl) ?_
  refine lv_i2b (v := (nI x).toInt8.toInt32) hx hb dJ15_append_40 rfl ?_
  refine kx_int (y := nI x) (i2b_n h4) ?_
  refine va_bast hx hb hG.1 hP hD hS 1 1 rfl rfl (vp_in_nI (show n < cap from h1) (by omega)) dJ15_append_41 (fun H locs hP hD hS => ?_)
  rw [nI_clamp (show n < 2 ^ 31 from by omega), show vp_nar .byte (nI x) = nI x from byt_n h4] at hP hD
  have hP : va_P D CL [(a, .inr (17, [.ref v, .int (nI 0), .int (nI 0), .int (nI (n + 1))])), (v, .inl (dA 1, cap, .inl (upd (bw g n) n (nI x))))] H := hP
  have hD : va_D A [(a, .inr (17, [.ref v, .int (nI 0), .int (nI 0), .int (nI (n + 1))])), (v, .inl (dA 1, cap, .inl (upd (bw g n) n (nI x))))] := hD
  rw [show (upd (bw g n) n (nI x)) = (bw g (n + 1)) from bw_upd h3] at hP hD
  have hP : va_P D CL [(a, .inr (17, [.ref v, .int (nI 0), .int (nI 0), .int (nI (n + 1))])), (v, .inl (dA 1, cap, .inl (bw g (n + 1))))] H := hP
  have hD : va_D A [(a, .inr (17, [.ref v, .int (nI 0), .int (nI 0), .int (nI (n + 1))])), (v, .inl (dA 1, cap, .inl (bw g (n + 1))))] := hD
  refine lv_goto (tgt := 75) hx hb dJ15_append_42 (by decide) ?_
  refine lv_aload_n hx hb dJ15_append_75 rfl (lv_at hl 0 rfl) ?_
  subst hQ
  have hP9 : va_P D CL [(a, .inr (17, [.ref v, .int (nI 0), .int (nI 0), .int (nI (n + 1))])), (v, .inl (dA 1, cap, .inl (bw g (n + 1))))] H := hP.sub [0, 1] rfl
  have hD9 : va_D A [(a, .inr (17, [.ref v, .int (nI 0), .int (nI 0), .int (nI (n + 1))])), (v, .inl (dA 1, cap, .inl (bw g (n + 1))))] := hD.sub [0, 1] (by decide) rfl
  exact W.aret (v := va_rf (some (a))) hx hb hrt (Or.inl ⟨_, rfl⟩) (va_rf_or _) (fun t ht hW => ⟨⟨(some (a)), (), rfl, rfl, by rw [ht]; exact hP9, hD9, GK.warm hW hG⟩, hS.F ht⟩) hS.2.2 dJ15_append_76

abbrev r_J16_append_R : Room := { frames := 2, cells := 0, slots := 0, locals := 43 }
set_option maxHeartbeats 1000000 in
theorem c_J16_append_R (lh : Launch) (D : va_G) (dA : Nat → ClassId) (sz : Nat) (a : Nat) (v : Nat) (n : Nat) (cap : Nat) (g : Nat → Nat) (x : Nat) (h1 : n < cap) (h2 : cap < 2 ^ 20) (h3 : x = g n) (h4 : x < 128) : Met lh yJ16_append (ws_ yJ16_append cJ16_append 2 (some (.object "java/lang/StringBuilder"))) r_J16_append_R (PX (fun U H => H.size = sz ∧ va_P D CL [(a, .inr (17, [.ref v, .int (nI 0), .int (nI 0), .int (nI n)])), (v, .inl (dA 1, cap, .inl (bw g n)))] H ∧ va_D nT [(a, .inr (17, [.ref v, .int (nI 0), .int (nI 0), .int (nI n)])), (v, .inl (dA 1, cap, .inl (bw g n)))] ∧ GK D dA U ∧ KC (va_A [(a, .inr (17, [.ref v, .int (nI 0), .int (nI 0), .int (nI n)])), (v, .inl (dA 1, cap, .inl (bw g n)))] sz) U H ∧ PV U) [.ref a, .int (nI x)]) (va_Qq (fun (r : Option Nat) (u : Unit) => r = some (a)) (fun (u : Unit) t => va_P D CL [(a, .inr (17, [.ref v, .int (nI 0), .int (nI 0), .int (nI (n + 1))])), (v, .inl (dA 1, cap, .inl (bw g (n + 1))))] t.heap ∧ va_D (va_A [(a, .inr (17, [.ref v, .int (nI 0), .int (nI 0), .int (nI n)])), (v, .inl (dA 1, cap, .inl (bw g n)))] sz) [(a, .inr (17, [.ref v, .int (nI 0), .int (nI 0), .int (nI (n + 1))])), (v, .inl (dA 1, cap, .inl (bw g (n + 1))))] ∧ GK D dA t) (va_A [(a, .inr (17, [.ref v, .int (nI 0), .int (nI 0), .int (nI n)])), (v, .inl (dA 1, cap, .inl (bw g n)))] sz)) 0 0 (va_A [(a, .inr (17, [.ref v, .int (nI 0), .int (nI 0), .int (nI n)])), (v, .inl (dA 1, cap, .inl (bw g n)))] sz) := by
  refine Met.ofW (cc := cJ16_append) (maxL := 2) (ret := (some (.object "java/lang/StringBuilder"))) (by decide) rfl ?_
  intro p e s m args below meth cd s₁ B hml hv
  obtain ⟨hargs, hsz, hP, hD, hG, hKC, hPV⟩ := hv
  have hx := B.exec
  have hb := B.bytes
  have hrt := B.returns
  have hts := atoms_spec (ws := (ws_ yJ16_append cJ16_append 2 (some (.object "java/lang/StringBuilder")))) B.pre
  have hts : ∀ w ∈ lw_all, w.before _ s = true := fun w h => hts w (List.mem_cons_of_mem _ h)
  have hown : s.vm.findClass RJ16 = some m.cls := findClass_of_methodNamed B.named
  have hlocks := B.notSynchronized
  subst hsz
  have hD := hD.self (sz := s.heap.size)
  have hA : ∀ q : Nat, s.heap.size ≤ q → va_A [(a, .inr (17, [.ref v, .int (nI 0), .int (nI 0), .int (nI n)])), (v, .inl (dA 1, cap, .inl (bw g n)))] s.heap.size q := fun q h => Or.inr h
  generalize va_A [(a, .inr (17, [.ref v, .int (nI 0), .int (nI 0), .int (nI n)])), (v, .inl (dA 1, cap, .inl (bw g n)))] s.heap.size = A at hD hA hKC ⊢
  have hS : va_S A s.heap s.heap [] := va_S.rf
  have hE : entryFrame m args 2 = F0 m 0 ((lg_sl ([.ref a, .int (nI x)]) ++ List.replicate (2 - (lg_sl ([.ref a, .int (nI x)])).length) Slot.unset).toArray) [] := by rw [hargs]; exact lg_entry_eq m _ 2
  have hl := lv_entry ([.ref a, .int (nI x)]) (n := 2) (Nat.le_of_ble_eq_true rfl)
  rw [hE]
  clear hE
  generalize (lg_sl ([.ref a, .int (nI x)]) ++ List.replicate (2 - (lg_sl ([.ref a, .int (nI x)])).length) Slot.unset).toArray = ls at hl ⊢
  have hl : lv_has ls 2 [(0, .ref a), (1, .int (nI x))] := hl
  generalize hQ : MQ _ _ _ _ _ _ _ = Q
  refine lv_aload_n hx hb dJ16_append_0 rfl (lv_at hl 0 rfl) ?_
  refine lv_iload_n hx hb dJ16_append_1 rfl (lv_at hl 1 rfl) ?_
  have hPs : va_P D CL ([(a, .inr (17, [.ref v, .int (nI 0), .int (nI 0), .int (nI n)])), (v, .inl (dA 1, cap, .inl (bw g n)))] ++ []) s.heap := hP.sub [0, 1] rfl
  have hDs : va_D A ([(a, .inr (17, [.ref v, .int (nI 0), .int (nI 0), .int (nI n)])), (v, .inl (dA 1, cap, .inl (bw g n)))] ++ []) := hD.sub [0, 1] (by decide) rfl
  have hz9 := hS.1
  refine va_callq (va_runSU (hG.1.1 17 _ rfl).2 (As := [.int (nI x)]) (rest := []) ⟨hx, hb, hml, hown, hts⟩ (c_J15_append_R lh D dA s.heap.size a v n cap g x (h1) (h2) (h3) (h4)) (va_cwSU 1 hts (lw_SU q662 q1696 q657 q663 q85 q664) rfl rfl rfl (by decide +kernel) ⟨Nat.le_of_ble_eq_true rfl, Nat.le_of_ble_eq_true rfl⟩) ⟨PX.blind (Mv.and Mv.heap (Mv.and Mv.heap (Mv.and Mv.heap (Mv.and Mv.gk (Mv.and KC.mv PV.mv))))), (va_recv hG.1 hP (ci := 17) (q0 := 0) rfl rfl), PX.pre (Mv.and Mv.heap (Mv.and Mv.heap (Mv.and Mv.heap (Mv.and Mv.gk (Mv.and KC.mv PV.mv))))) ⟨rfl, (va_P_left hPs), (va_D_left hDs), hG, (KC.at hKC hS (va_A_up hDs hA hS.1)), hPV⟩⟩ rfl rfl hl.1 rfl (lv_room (Nat.le_of_ble_eq_true rfl)) dJ16_append_2 ⟨Nat.le_of_ble_eq_true rfl, Nat.le_of_ble_eq_true rfl⟩) hS (fun q _ => (va_A_up hDs hA hS.1) q) ((va_A_up hDs hA hS.1)) (fun rr u t H1 locs ht hvm hp hB hz hk hS => ?_)
  obtain ⟨hP1, hD1, -⟩ := hB
  rw [ht] at hP1
  obtain ⟨hP, hD⟩ := vp_join hPs hDs hP1 hD1 hk hA hz9
  clear ht hvm hz hk hP1 hD1 hPs hDs hz9
  generalize H1 = H at hP hS ⊢
  have hP : va_P D CL [(a, .inr (17, [.ref v, .int (nI 0), .int (nI 0), .int (nI (n + 1))])), (v, .inl (dA 1, cap, .inl (bw g (n + 1))))] H := hP
  have hD : va_D A [(a, .inr (17, [.ref v, .int (nI 0), .int (nI 0), .int (nI (n + 1))])), (v, .inl (dA 1, cap, .inl (bw g (n + 1))))] := hD
  have hrr := hp
  try dsimp only at hrr
  subst hrr
  show W p lh e r_J16_append_R s m args below meth cd _ _ _ _ Q (F0 m _ ls (.ref a :: _))
  refine lv_pop hx hb dJ16_append_5 rfl ?_
  refine lv_aload_n hx hb dJ16_append_6 rfl (lv_at hl 0 rfl) ?_
  subst hQ
  have hP9 : va_P D CL [(a, .inr (17, [.ref v, .int (nI 0), .int (nI 0), .int (nI (n + 1))])), (v, .inl (dA 1, cap, .inl (bw g (n + 1))))] H := hP.sub [0, 1] rfl
  have hD9 : va_D A [(a, .inr (17, [.ref v, .int (nI 0), .int (nI 0), .int (nI (n + 1))])), (v, .inl (dA 1, cap, .inl (bw g (n + 1))))] := hD.sub [0, 1] (by decide) rfl
  exact W.aret (v := va_rf (some (a))) hx hb hrt (Or.inl ⟨_, rfl⟩) (va_rf_or _) (fun t ht hW => ⟨⟨(some (a)), (), rfl, rfl, by rw [ht]; exact hP9, hD9, GK.warm hW hG⟩, hS.F ht⟩) hS.2.2 dJ16_append_7

abbrev r_J15_append_G (n : Nat) : Room := { frames := 4, cells := 1, slots := (n + (n + 2)), locals := 91 }
set_option maxHeartbeats 1000000 in
theorem c_J15_append_G (lh : Launch) (D : va_G) (dA : Nat → ClassId) (sz : Nat) (a : Nat) (v : Nat) (n : Nat) (g : Nat → Nat) (x : Nat) (h1 : n < 2 ^ 18) (h2 : 16 ≤ n) (h3 : ∀ j, j < n → g j < 128) (h4 : x = g n) (h5 : x < 128) : Met lh yJ15_append (ws_ yJ15_append cJ15_append 2 (some (.object "java/lang/AbstractStringBuilder"))) (r_J15_append_G n) (PX (fun U H => H.size = sz ∧ va_P D CL [(a, .inr (17, [.ref v, .int (nI 0), .int (nI 0), .int (nI n)])), (v, .inl (dA 1, n, .inl (bw g n)))] H ∧ va_D nT [(a, .inr (17, [.ref v, .int (nI 0), .int (nI 0), .int (nI n)])), (v, .inl (dA 1, n, .inl (bw g n)))] ∧ GK D dA U ∧ KC (va_A [(a, .inr (17, [.ref v, .int (nI 0), .int (nI 0), .int (nI n)])), (v, .inl (dA 1, n, .inl (bw g n)))] sz) U H ∧ PV U) [.ref a, .int (nI x)]) (va_Qq (fun (r : Option Nat) (u : Nat) => r = some (a)) (fun (u : Nat) t => va_P D CL [(a, .inr (17, [.ref u, .int (nI 0), .int (nI 0), .int (nI (n + 1))])), (u, .inl (dA 1, (n + (n + 2)), .inl (bw g (n + 1))))] t.heap ∧ va_D (va_A [(a, .inr (17, [.ref v, .int (nI 0), .int (nI 0), .int (nI n)])), (v, .inl (dA 1, n, .inl (bw g n)))] sz) [(a, .inr (17, [.ref u, .int (nI 0), .int (nI 0), .int (nI (n + 1))])), (u, .inl (dA 1, (n + (n + 2)), .inl (bw g (n + 1))))] ∧ GK D dA t) (va_A [(a, .inr (17, [.ref v, .int (nI 0), .int (nI 0), .int (nI n)])), (v, .inl (dA 1, n, .inl (bw g n)))] sz)) 1 (n + (n + 2)) (va_A [(a, .inr (17, [.ref v, .int (nI 0), .int (nI 0), .int (nI n)])), (v, .inl (dA 1, n, .inl (bw g n)))] sz) := by
  refine Met.ofW (cc := cJ15_append) (maxL := 2) (ret := (some (.object "java/lang/AbstractStringBuilder"))) (by decide) rfl ?_
  intro p e s m args below meth cd s₁ B hml hv
  obtain ⟨hargs, hsz, hP, hD, hG, hKC, hPV⟩ := hv
  have hx := B.exec
  have hb := B.bytes
  have hrt := B.returns
  have hts := atoms_spec (ws := (ws_ yJ15_append cJ15_append 2 (some (.object "java/lang/AbstractStringBuilder")))) B.pre
  have hts : ∀ w ∈ lw_all, w.before _ s = true := fun w h => hts w (List.mem_cons_of_mem _ h)
  have hown : s.vm.findClass RJ15 = some m.cls := findClass_of_methodNamed B.named
  have hlocks := B.notSynchronized
  subst hsz
  have hD := hD.self (sz := s.heap.size)
  have hA : ∀ q : Nat, s.heap.size ≤ q → va_A [(a, .inr (17, [.ref v, .int (nI 0), .int (nI 0), .int (nI n)])), (v, .inl (dA 1, n, .inl (bw g n)))] s.heap.size q := fun q h => Or.inr h
  generalize va_A [(a, .inr (17, [.ref v, .int (nI 0), .int (nI 0), .int (nI n)])), (v, .inl (dA 1, n, .inl (bw g n)))] s.heap.size = A at hD hA hKC ⊢
  have hS : va_S A s.heap s.heap [] := va_S.rf
  have hE : entryFrame m args 2 = F0 m 0 ((lg_sl ([.ref a, .int (nI x)]) ++ List.replicate (2 - (lg_sl ([.ref a, .int (nI x)])).length) Slot.unset).toArray) [] := by rw [hargs]; exact lg_entry_eq m _ 2
  have hl := lv_entry ([.ref a, .int (nI x)]) (n := 2) (Nat.le_of_ble_eq_true rfl)
  rw [hE]
  clear hE
  generalize (lg_sl ([.ref a, .int (nI x)]) ++ List.replicate (2 - (lg_sl ([.ref a, .int (nI x)])).length) Slot.unset).toArray = ls at hl ⊢
  have hl : lv_has ls 2 [(0, .ref a), (1, .int (nI x))] := hl
  generalize hQ : MQ _ _ _ _ _ _ _ = Q
  refine lv_aload_n hx hb dJ15_append_0 rfl (lv_at hl 0 rfl) ?_
  refine lv_aload_n hx hb dJ15_append_1 rfl (lv_at hl 0 rfl) ?_
  refine va_get (D := D) (ci := 17) (v := .int (nI n)) (C := RJ16) (T := TJ16) (N := 4) hx hb hts in_J16 hown hG.1 hP 0 rfl rfl 3 (by decide) (hts _ q648) (fun _ h => h) rfl dJ15_append_2 ?_
  refine lv_iconst (v := nI 1) hx hb dJ15_append_5 (by decide) ?_
  refine kn_add hx hb dJ15_append_6 ?_
  have hPs : va_P D CL ([(a, .inr (17, [.ref v, .int (nI 0), .int (nI 0), .int (nI n)])), (v, .inl (dA 1, n, .inl (bw g n)))] ++ []) s.heap := hP.sub [0, 1] rfl
  have hDs : va_D A ([(a, .inr (17, [.ref v, .int (nI 0), .int (nI 0), .int (nI n)])), (v, .inl (dA 1, n, .inl (bw g n)))] ++ []) := hD.sub [0, 1] (by decide) rfl
  have hz9 := hS.1
  refine va_callv (va_runU (As := [.int (nI (n + 1))]) (rest := []) ⟨hx, hb, hml, hown, hts⟩ (c_J15_ensureCapacityInternal_G lh D dA s.heap.size a v n g (h1) (h2) (h3)) (va_cwUP 1 hts q665 q1697 (hPV _ q666 rfl) q667 q85 q668 q629 rfl rfl rfl (by decide +kernel) ⟨Nat.le_of_ble_eq_true rfl, Nat.le_of_ble_eq_true rfl⟩) ⟨PX.blind (Mv.and Mv.heap (Mv.and Mv.heap (Mv.and Mv.heap (Mv.and Mv.gk PV.mv)))), (va_recv hG.1 hP (ci := 17) (q0 := 0) rfl rfl), PX.pre (Mv.and Mv.heap (Mv.and Mv.heap (Mv.and Mv.heap (Mv.and Mv.gk PV.mv)))) ⟨rfl, (va_P_left hPs), (va_D_left hDs), hG, hPV⟩⟩ rfl rfl hl.1 rfl (lv_room (Nat.le_of_ble_eq_true rfl)) dJ15_append_7 ⟨Nat.le_of_ble_eq_true rfl, by show _ ≤ (n + (n + 2)); omega⟩) hS (fun q _ => (va_A_up hDs hA hS.1) q) ((va_A_up hDs hA hS.1)) (fun u t H1 locs ht hvm hp hB hz hk hS => ?_)
  generalize u = u7 at hp hB
  obtain ⟨hP1, hD1, -⟩ := hB
  rw [ht] at hP1
  obtain ⟨hP, hD⟩ := vp_join hPs hDs hP1 hD1 hk hA hz9
  clear ht hvm hz hk hP1 hD1 hPs hDs hz9
  generalize H1 = H at hP hS ⊢
  have hP : va_P D CL [(a, .inr (17, [.ref u7, .int (nI 0), .int (nI 0), .int (nI n)])), (u7, .inl (dA 1, (n + (n + 2)), .inl (bw g n)))] H := hP
  have hD : va_D A [(a, .inr (17, [.ref u7, .int (nI 0), .int (nI 0), .int (nI n)])), (u7, .inl (dA 1, (n + (n + 2)), .inl (bw g n)))] := hD
  refine lv_aload_n hx hb dJ15_append_10 rfl (lv_at hl 0 rfl) ?_
  have hPs : va_P D CL ([(a, .inr (17, [.ref u7, .int (nI 0), .int (nI 0), .int (nI n)]))] ++ [(u7, .inl (dA 1, (n + (n + 2)), .inl (bw g n)))]) H := hP.sub [0, 1] rfl
  refine vp_callSi (va_Run.call (va_runU (As := []) (rest := []) ⟨hx, hb, hml, hown, hts⟩ (c_J15_isLatin1 lh D dA a u7 n) (va_cwU 0 hts (lw_U q685 q687 q688 q686 q85 q689) rfl rfl rfl rfl (by decide +kernel) ⟨Nat.le_of_ble_eq_true rfl, Nat.le_of_ble_eq_true rfl⟩) ⟨PX.blind (Mv.and Mv.heap (Mv.and Mv.gk KC.mv)), (va_recv hG.1 hP (ci := 17) (q0 := 0) rfl rfl), PX.pre (Mv.and Mv.heap (Mv.and Mv.gk KC.mv)) ⟨(va_P_left hPs), hG, (KC.at hKC hS (fun _ h => h.elim))⟩⟩ rfl rfl hl.1 rfl (lv_room (Nat.le_of_ble_eq_true rfl)) dJ15_append_11 ⟨Nat.le_of_ble_eq_true rfl, by show _ ≤ (n + (n + 2)); omega⟩)) (fun rr hrr => ?_)
  subst hrr
  refine kx_int (y := nI 1) (rfl) ?_
  refine kn_zeq (tgt := 45) hx hb dJ15_append_14 (by decide) (by decide) (fun c => absurd c (by decide)) (fun _ => ?_)
  refine lv_iload_n hx hb dJ15_append_17 rfl (lv_at hl 1 rfl) ?_
  have hPs : va_P D CL ([] ++ [(a, .inr (17, [.ref u7, .int (nI 0), .int (nI 0), .int (nI n)])), (u7, .inl (dA 1, (n + (n + 2)), .inl (bw g n)))]) H := hP.sub [0, 1] rfl
  refine vp_callSi (va_Run.call (va_runS (As := [.int (nI x)]) (rest := []) ⟨hx, hb, hml, hown, hts⟩ (c_J4_canEncode lh D dA x (h5)) (w_J4_canEncode hts q690 rfl rfl ⟨Nat.le_of_ble_eq_true rfl, Nat.le_of_ble_eq_true rfl⟩) ⟨PX.blind (Mv.and Mv.heap Mv.gk), PX.pre (Mv.and Mv.heap Mv.gk) ⟨(va_P_left hPs), hG⟩⟩ rfl rfl hl.1 rfl (lv_room (Nat.le_of_ble_eq_true rfl)) dJ15_append_18 ⟨Nat.le_of_ble_eq_true rfl, by show _ ≤ (n + (n + 2)); omega⟩)) (fun rr hrr => ?_)
  subst hrr
  refine kx_int (y := nI 1) (rfl) ?_
  refine kn_zeq (tgt := 45) hx hb dJ15_append_21 (by decide) (by decide) (fun c => absurd c (by decide)) (fun _ => ?_)
  refine lv_aload_n hx hb dJ15_append_24 rfl (lv_at hl 0 rfl) ?_
  refine va_get (D := D) (ci := 17) (v := .ref u7) (C := RJ16) (T := TJ16) (N := 4) hx hb hts in_J16 hown hG.1 hP 0 rfl rfl 0 (by decide) (hts _ q645) (fun _ h => h) rfl dJ15_append_25 ?_
  refine lv_aload_n hx hb dJ15_append_28 rfl (lv_at hl 0 rfl) ?_
  refine lv_dup hx hb dJ15_append_29 rfl ?_
  refine va_get (D := D) (ci := 17) (v := .int (nI n)) (C := RJ16) (T := TJ16) (N := 4) hx hb hts in_J16 hown hG.1 hP 0 rfl rfl 3 (by decide) (hts _ q648) (fun _ h => h) rfl dJ15_append_30 ?_
  refine lv_dup_x1 hx hb dJ15_append_33 rfl rfl ?_
  refine lv_iconst (v := nI 1) hx hb dJ15_append_34 (by decide) ?_
  refine kn_add hx hb dJ15_append_35 ?_
  refine va_put (D := D) (ci := 17) (v := .int (nI (n + 1))) (C := RJ16) (T := TJ16) (N := 4) hx hb hts in_J16 tyJ16 tyJ16_ok nmJ16 hown hG.1 hP hD hS 0 rfl rfl 3 (by decide) (hts _ q648) (fun _ h => h) rfl rfl (rfl) (rfl) (Nat.le_of_ble_eq_true rfl) dJ15_append_36 (fun H locs hP hD hS => ?_)
  have hP : va_P D CL [(a, .inr (17, [.ref u7, .int (nI 0), .int (nI 0), .int (nI (n + 1))])), (u7, .inl (dA 1, (n + (n + 2)), .inl (bw g n)))] H := hP
  have hD : va_D A [(a, .inr (17, [.ref u7, .int (nI 0), .int (nI 0), .int (nI (n + 1))])), (u7, .inl (dA 1, (n + (n + 2)), .inl (bw g n)))] := hD
  refine lv_iload_n hx hb dJ15_append_39 rfl (lv_at hl 1 rfl) ?_
  refine lv_i2b (v := (nI x).toInt8.toInt32) hx hb dJ15_append_40 rfl ?_
  refine kx_int (y := nI x) (i2b_n h5) ?_
  refine va_bast hx hb hG.1 hP hD hS 1 1 rfl rfl (vp_in_nI (show n < (n + (n + 2)) from by omega) (by omega)) dJ15_append_41 (fun H locs hP hD hS => ?_)
  rw [nI_clamp (show n < 2 ^ 31 from by omega), show vp_nar .byte (nI x) = nI x from byt_n h5] at hP hD
  have hP : va_P D CL [(a, .inr (17, [.ref u7, .int (nI 0), .int (nI 0), .int (nI (n + 1))])), (u7, .inl (dA 1, (n + (n + 2)), .inl (upd (bw g n) n (nI x))))] H := hP
  have hD : va_D A [(a, .inr (17, [.ref u7, .int (nI 0), .int (nI 0), .int (nI (n + 1))])), (u7, .inl (dA 1, (n + (n + 2)), .inl (upd (bw g n) n (nI x))))] := hD
  rw [show (upd (bw g n) n (nI x)) = (bw g (n + 1)) from bw_upd h4] at hP hD
  have hP : va_P D CL [(a, .inr (17, [.ref u7, .int (nI 0), .int (nI 0), .int (nI (n + 1))])), (u7, .inl (dA 1, (n + (n + 2)), .inl (bw g (n + 1))))] H := hP
  have hD : va_D A [(a, .inr (17, [.ref u7, .int (nI 0), .int (nI 0), .int (nI (n + 1))])), (u7, .inl (dA 1, (n + (n + 2)), .inl (bw g (n + 1))))] := hD
  refine lv_goto (tgt := 75) hx hb dJ15_append_42 (by decide) ?_
  refine lv_aload_n hx hb dJ15_append_75 rfl (lv_at hl 0 rfl) ?_
  subst hQ
  refine W.widen (k := 1) (n := (n + (n + 2))) (by first | decide | omega) (by first | decide | omega) ?_
  have hP9 : va_P D CL [(a, .inr (17, [.ref u7, .int (nI 0), .int (nI 0), .int (nI (n + 1))])), (u7, .inl (dA 1, (n + (n + 2)), .inl (bw g (n + 1))))] H := hP.sub [0, 1] rfl
  have hD9 : va_D A [(a, .inr (17, [.ref u7, .int (nI 0), .int (nI 0), .int (nI (n + 1))])), (u7, .inl (dA 1, (n + (n + 2)), .inl (bw g (n + 1))))] := hD.sub [0, 1] (by decide) rfl
  exact W.aret (v := va_rf (some (a))) hx hb hrt (Or.inl ⟨_, rfl⟩) (va_rf_or _) (fun t ht hW => ⟨⟨(some (a)), (u7), rfl, rfl, by rw [ht]; exact hP9, hD9, GK.warm hW hG⟩, hS.F ht⟩) hS.2.2 dJ15_append_76

abbrev r_J16_append_G (n : Nat) : Room := { frames := 5, cells := 1, slots := (n + (n + 2)), locals := 112 }
set_option maxHeartbeats 1000000 in
theorem c_J16_append_G (lh : Launch) (D : va_G) (dA : Nat → ClassId) (sz : Nat) (a : Nat) (v : Nat) (n : Nat) (g : Nat → Nat) (x : Nat) (h1 : n < 2 ^ 18) (h2 : 16 ≤ n) (h3 : ∀ j, j < n → g j < 128) (h4 : x = g n) (h5 : x < 128) : Met lh yJ16_append (ws_ yJ16_append cJ16_append 2 (some (.object "java/lang/StringBuilder"))) (r_J16_append_G n) (PX (fun U H => H.size = sz ∧ va_P D CL [(a, .inr (17, [.ref v, .int (nI 0), .int (nI 0), .int (nI n)])), (v, .inl (dA 1, n, .inl (bw g n)))] H ∧ va_D nT [(a, .inr (17, [.ref v, .int (nI 0), .int (nI 0), .int (nI n)])), (v, .inl (dA 1, n, .inl (bw g n)))] ∧ GK D dA U ∧ KC (va_A [(a, .inr (17, [.ref v, .int (nI 0), .int (nI 0), .int (nI n)])), (v, .inl (dA 1, n, .inl (bw g n)))] sz) U H ∧ PV U) [.ref a, .int (nI x)]) (va_Qq (fun (r : Option Nat) (u : Nat) => r = some (a)) (fun (u : Nat) t => va_P D CL [(a, .inr (17, [.ref u, .int (nI 0), .int (nI 0), .int (nI (n + 1))])), (u, .inl (dA 1, (n + (n + 2)), .inl (bw g (n + 1))))] t.heap ∧ va_D (va_A [(a, .inr (17, [.ref v, .int (nI 0), .int (nI 0), .int (nI n)])), (v, .inl (dA 1, n, .inl (bw g n)))] sz) [(a, .inr (17, [.ref u, .int (nI 0), .int (nI 0), .int (nI (n + 1))])), (u, .inl (dA 1, (n + (n + 2)), .inl (bw g (n + 1))))] ∧ GK D dA t) (va_A [(a, .inr (17, [.ref v, .int (nI 0), .int (nI 0), .int (nI n)])), (v, .inl (dA 1, n, .inl (bw g n)))] sz)) 1 (n + (n + 2)) (va_A [(a, .inr (17, [.ref v, .int (nI 0), .int (nI 0), .int (nI n)])), (v, .inl (dA 1, n, .inl (bw g n)))] sz) := by
  refine Met.ofW (cc := cJ16_append) (maxL := 2) (ret := (some (.object "java/lang/StringBuilder"))) (by decide) rfl ?_
  intro p e s m args below meth cd s₁ B hml hv
  obtain ⟨hargs, hsz, hP, hD, hG, hKC, hPV⟩ := hv
  have hx := B.exec
  have hb := B.bytes
  have hrt := B.returns
  have hts := atoms_spec (ws := (ws_ yJ16_append cJ16_append 2 (some (.object "java/lang/StringBuilder")))) B.pre
  have hts : ∀ w ∈ lw_all, w.before _ s = true := fun w h => hts w (List.mem_cons_of_mem _ h)
  have hown : s.vm.findClass RJ16 = some m.cls := findClass_of_methodNamed B.named
  have hlocks := B.notSynchronized
  subst hsz
  have hD := hD.self (sz := s.heap.size)
  have hA : ∀ q : Nat, s.heap.size ≤ q → va_A [(a, .inr (17, [.ref v, .int (nI 0), .int (nI 0), .int (nI n)])), (v, .inl (dA 1, n, .inl (bw g n)))] s.heap.size q := fun q h => Or.inr h
  generalize va_A [(a, .inr (17, [.ref v, .int (nI 0), .int (nI 0), .int (nI n)])), (v, .inl (dA 1, n, .inl (bw g n)))] s.heap.size = A at hD hA hKC ⊢
  have hS : va_S A s.heap s.heap [] := va_S.rf
  have hE : entryFrame m args 2 = F0 m 0 ((lg_sl ([.ref a, .int (nI x)]) ++ List.replicate (2 - (lg_sl ([.ref a, .int (nI x)])).length) Slot.unset).toArray) [] := by rw [hargs]; exact lg_entry_eq m _ 2
  have hl := lv_entry ([.ref a, .int (nI x)]) (n := 2) (Nat.le_of_ble_eq_true rfl)
  rw [hE]
  clear hE
  generalize (lg_sl ([.ref a, .int (nI x)]) ++ List.replicate (2 - (lg_sl ([.ref a, .int (nI x)])).length) Slot.unset).toArray = ls at hl ⊢
  have hl : lv_has ls 2 [(0, .ref a), (1, .int (nI x))] := hl
  generalize hQ : MQ _ _ _ _ _ _ _ = Q
  refine lv_aload_n hx hb dJ16_append_0 rfl (lv_at hl 0 rfl) ?_
  refine lv_iload_n hx hb dJ16_append_1 rfl (lv_at hl 1 rfl) ?_
  have hPs : va_P D CL ([(a, .inr (17, [.ref v, .int (nI 0), .int (nI 0), .int (nI n)])), (v, .inl (dA 1, n, .inl (bw g n)))] ++ []) s.heap := hP.sub [0, 1] rfl
  have hDs : va_D A ([(a, .inr (17, [.ref v, .int (nI 0), .int (nI 0), .int (nI n)])), (v, .inl (dA 1, n, .inl (bw g n)))] ++ []) := hD.sub [0, 1] (by decide) rfl
  have hz9 := hS.1
  refine va_callq (va_runSU (hG.1.1 17 _ rfl).2 (As := [.int (nI x)]) (rest := []) ⟨hx, hb, hml, hown, hts⟩ (c_J15_append_G lh D dA s.heap.size a v n g x (h1) (h2) (h3) (h4) (h5)) (va_cwSU 1 hts (lw_SU q662 q1696 q657 q663 q85 q664) rfl rfl rfl (by decide +kernel) ⟨Nat.le_of_ble_eq_true rfl, Nat.le_of_ble_eq_true rfl⟩) ⟨PX.blind (Mv.and Mv.heap (Mv.and Mv.heap (Mv.and Mv.heap (Mv.and Mv.gk (Mv.and KC.mv PV.mv))))), (va_recv hG.1 hP (ci := 17) (q0 := 0) rfl rfl), PX.pre (Mv.and Mv.heap (Mv.and Mv.heap (Mv.and Mv.heap (Mv.and Mv.gk (Mv.and KC.mv PV.mv))))) ⟨rfl, (va_P_left hPs), (va_D_left hDs), hG, (KC.at hKC hS (va_A_up hDs hA hS.1)), hPV⟩⟩ rfl rfl hl.1 rfl (lv_room (Nat.le_of_ble_eq_true rfl)) dJ16_append_2 ⟨Nat.le_of_ble_eq_true rfl, by show _ ≤ (n + (n + 2)); omega⟩) hS (fun q _ => (va_A_up hDs hA hS.1) q) ((va_A_up hDs hA hS.1)) (fun rr u t H1 locs ht hvm hp hB hz hk hS => ?_)
  generalize u = u2 at hp hB
  obtain ⟨hP1, hD1, -⟩ := hB
  rw [ht] at hP1
  obtain ⟨hP, hD⟩ := vp_join hPs hDs hP1 hD1 hk hA hz9
  clear ht hvm hz hk hP1 hD1 hPs hDs hz9
  generalize H1 = H at hP hS ⊢
  have hP : va_P D CL [(a, .inr (17, [.ref u2, .int (nI 0), .int (nI 0), .int (nI (n + 1))])), (u2, .inl (dA 1, (n + (n + 2)), .inl (bw g (n + 1))))] H := hP
  have hD : va_D A [(a, .inr (17, [.ref u2, .int (nI 0), .int (nI 0), .int (nI (n + 1))])), (u2, .inl (dA 1, (n + (n + 2)), .inl (bw g (n + 1))))] := hD
  have hrr := hp
  try dsimp only at hrr
  subst hrr
  show W p lh e (r_J16_append_G n) s m args below meth cd _ _ _ _ Q (F0 m _ ls (.ref a :: _))
  refine lv_pop hx hb dJ16_append_5 rfl ?_
  refine lv_aload_n hx hb dJ16_append_6 rfl (lv_at hl 0 rfl) ?_
  subst hQ
  refine W.widen (k := 1) (n := (n + (n + 2))) (by first | decide | omega) (by first | decide | omega) ?_
  have hP9 : va_P D CL [(a, .inr (17, [.ref u2, .int (nI 0), .int (nI 0), .int (nI (n + 1))])), (u2, .inl (dA 1, (n + (n + 2)), .inl (bw g (n + 1))))] H := hP.sub [0, 1] rfl
  have hD9 : va_D A [(a, .inr (17, [.ref u2, .int (nI 0), .int (nI 0), .int (nI (n + 1))])), (u2, .inl (dA 1, (n + (n + 2)), .inl (bw g (n + 1))))] := hD.sub [0, 1] (by decide) rfl
  exact W.aret (v := va_rf (some (a))) hx hb hrt (Or.inl ⟨_, rfl⟩) (va_rf_or _) (fun t ht hW => ⟨⟨(some (a)), (u2), rfl, rfl, by rw [ht]; exact hP9, hD9, GK.warm hW hG⟩, hS.F ht⟩) hS.2.2 dJ16_append_7

theorem w_J16_append {R : Room} {s : State} {args : Array Value} {own : String} {idx : Nat} (hts : ∀ w ∈ lw_all, w.before args s = true) (h1 : Cond.methodLink own idx yJ16_append ∈ lw_all) {rm : Room} {mc ms : Nat} (hrc : rm.cells = mc) (hrs : rm.slots = ms) (hR : rm.frames + 1 ≤ R.frames ∧ 8 + (2 + 11) + rm.locals ≤ R.locals) : CallW R s args own RJ16 idx yJ16_append cJ16_append 2 (some (.object "java/lang/StringBuilder")) (ws_ yJ16_append cJ16_append 2 (some (.object "java/lang/StringBuilder"))) rm mc ms 1 := cwV 1 hts (lw_V h1 q659 q660 q86 q661) rfl hrc hrs (by decide +kernel) hR
