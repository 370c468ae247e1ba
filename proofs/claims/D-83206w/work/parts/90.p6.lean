set_option maxRecDepth 100000
abbrev r_J4_canEncode : Room := { frames := 0, cells := 0, slots := 0, locals := 0 }
set_option maxHeartbeats 1000000 in
theorem c_J4_canEncode (lh : Launch) (D : va_G) (dA : Nat → ClassId) (x : Nat) (h1 : x < 128) : Met lh yJ4_canEncode (ws_ yJ4_canEncode cJ4_canEncode 1 (some .boolean)) r_J4_canEncode (PX (fun U H => va_P D CL [] H ∧ GK D dA U) [.int (nI x)]) (vp_Si (fun rv => rv = nI 1)) 0 0 (fun _ => False) := by
  refine Met.ofW (cc := cJ4_canEncode) (maxL := 1) (ret := (some .boolean)) (by decide) rfl ?_
  intro p e s m args below meth cd s₁ B hml hv
  obtain ⟨hargs, hP, hG⟩ := hv
  have hx := B.exec
  have hb := B.bytes
  have hrt := B.returns
  have hts := atoms_spec (ws := (ws_ yJ4_canEncode cJ4_canEncode 1 (some .boolean))) B.pre
  have hts : ∀ w ∈ lw_all, w.before _ s = true := fun w h => hts w (List.mem_cons_of_mem _ h)
  have hown : s.vm.findClass RJ4 = some m.cls := findClass_of_methodNamed B.named
  have hlocks := B.notSynchronized
  have hS : va_S nA s.heap s.heap [] := va_S.rf
  have hE : entryFrame m args 1 = F0 m 0 ((lg_sl ([.int (nI x)]) ++ List.replicate (1 - (lg_sl ([.int (nI x)])).length) Slot.unset).toArray) [] := by rw [hargs]; exact lg_entry_eq m _ 1
  have hl := lv_entry ([.int (nI x)]) (n := 1) (Nat.le_of_ble_eq_true rfl)
  rw [hE]
  clear hE
  generalize (lg_sl ([.int (nI x)]) ++ List.replicate (1 - (lg_sl ([.int (nI x)])).length) Slot.unset).toArray = ls at hl ⊢
  have hl : lv_has ls 1 [(0, .int (nI x))] := hl
  generalize hQ : MQ _ _ _ _ _ _ _ = Q
  refine lv_iload_n hx hb dJ4_canEncode_0 rfl (lv_at hl 0 rfl) ?_
  refine lv_sipush (v := nI 255) hx hb dJ4_canEncode_1 (by decide) ?_
  refine kn_cgt (tgt := 11) hx hb dJ4_canEncode_4 (by decide) (by omega) (by omega) (fun c_4 => ?_) (fun c_4 => ?_)
  · omega
  · refine lv_iconst (v := nI 1) hx hb dJ4_canEncode_7 (by decide) ?_
    refine lv_goto (tgt := 12) hx hb dJ4_canEncode_8 (by decide) ?_
    subst hQ
    exact W.zret (v := nI 1) hx hb hrt rfl (fun t ht _ => ⟨_, rfl, (show nI 1 = nI 1 from rfl), ht⟩) t_nil dJ4_canEncode_12
theorem w_J4_canEncode {R : Room} {s : State} {args : Array Value} {own : String} {idx : Nat} (hts : ∀ w ∈ lw_all, w.before args s = true) (h1 : Cond.methodLink own idx yJ4_canEncode ∈ lw_all) {rm : Room} {mc ms : Nat} (hrc : rm.cells = mc) (hrs : rm.slots = ms) (hR : rm.frames + 1 ≤ R.frames ∧ 8 + (1 + 11) + rm.locals ≤ R.locals) : CallB R s args own idx yJ4_canEncode cJ4_canEncode 1 (some .boolean) (ws_ yJ4_canEncode cJ4_canEncode 1 (some .boolean)) rm mc ms 1 ∧ (Cond.static yJ4_canEncode).before args s = true := va_cwS 1 hts (lw_S h1 q691 q67 q692) rfl hrc hrs (by decide +kernel) hR

abbrev r_J15_isLatin1 : Room := { frames := 0, cells := 0, slots := 0, locals := 0 }
set_option maxHeartbeats 1000000 in
theorem c_J15_isLatin1 (lh : Launch) (D : va_G) (dA : Nat → ClassId) (a : Nat) (v : Nat) (n : Nat) : Met lh yJ15_isLatin1 (ws_ yJ15_isLatin1 cJ15_isLatin1 1 (some .boolean)) r_J15_isLatin1 (PX (fun U H => va_P D CL [(a, .inr (17, [.ref v, .int (nI 0), .int (nI 0), .int (nI n)]))] H ∧ GK D dA U ∧ KC nA U H) [.ref a]) (vp_Si (fun rv => rv = nI 1)) 0 0 (fun _ => False) := by
  refine Met.ofW (cc := cJ15_isLatin1) (maxL := 1) (ret := (some .boolean)) (by decide) rfl ?_
  intro p e s m args below meth cd s₁ B hml hv
  obtain ⟨hargs, hP, hG, hKC⟩ := hv
  have hx := B.exec
  have hb := B.bytes
  have hrt := B.returns
  have hts := atoms_spec (ws := (ws_ yJ15_isLatin1 cJ15_isLatin1 1 (some .boolean))) B.pre
  have hts : ∀ w ∈ lw_all, w.before _ s = true := fun w h => hts w (List.mem_cons_of_mem _ h)
  have hown : s.vm.findClass RJ15 = some m.cls := findClass_of_methodNamed B.named
  have hlocks := B.notSynchronized
  have hS : va_S nA s.heap s.heap [] := va_S.rf
  have hE : entryFrame m args 1 = F0 m 0 ((lg_sl ([.ref a]) ++ List.replicate (1 - (lg_sl ([.ref a])).length) Slot.unset).toArray) [] := by rw [hargs]; exact lg_entry_eq m _ 1
  have hl := lv_entry ([.ref a]) (n := 1) (Nat.le_of_ble_eq_true rfl)
  rw [hE]
  clear hE
  generalize (lg_sl ([.ref a]) ++ List.replicate (1 - (lg_sl ([.ref a])).length) Slot.unset).toArray = ls at hl ⊢
  have hl : lv_has ls 1 [(0, .ref a)] := hl
  generalize hQ : MQ _ _ _ _ _ _ _ = Q
  refine K_getz hx hb (KC.at hKC hS (B := nA) (fun _ q => q.elim)) hown (hts _ q637) dJ15_isLatin1_0 ?_
  refine kn_zeq (tgt := 17) hx hb dJ15_isLatin1_3 (by decide) (by decide) (fun c => absurd c (by decide)) (fun _ => ?_)
  refine lv_aload_n hx hb dJ15_isLatin1_6 rfl (lv_at hl 0 rfl) ?_
  refine va_get (D := D) (ci := 17) (v := .int (nI 0)) (C := RJ16) (T := TJ16) (N := 4) hx hb hts in_J16 hown hG.1 hP 0 rfl rfl 1 (by decide) (hts _ q646) (fun _ h => h) rfl dJ15_isLatin1_7 ?_
  refine kn_zne (tgt := 17) hx hb dJ15_isLatin1_10 (by decide) (by decide) (fun c => absurd c (by decide)) (fun _ => ?_)
  refine lv_iconst (v := nI 1) hx hb dJ15_isLatin1_13 (by decide) ?_
  refine lv_goto (tgt := 18) hx hb dJ15_isLatin1_14 (by decide) ?_
  subst hQ
  exact W.zret (v := nI 1) hx hb hrt rfl (fun t ht _ => ⟨_, rfl, (show nI 1 = nI 1 from rfl), ht⟩) t_nil dJ15_isLatin1_18

abbrev r_J15_getValue : Room := { frames := 0, cells := 0, slots := 0, locals := 0 }
set_option maxHeartbeats 1000000 in
theorem c_J15_getValue (lh : Launch) (D : va_G) (dA : Nat → ClassId) (a : Nat) (v : Nat) (n : Nat) : Met lh yJ15_getValue (ws_ yJ15_getValue cJ15_getValue 1 (some ((.array .byte)))) r_J15_getValue (PX (fun U H => va_P D CL [(a, .inr (17, [.ref v, .int (nI 0), .int (nI 0), .int (nI n)]))] H ∧ GK D dA U) [.ref a]) (va_Sq (fun rv => rv = some (v))) 0 0 (fun _ => False) := by
  refine Met.ofW (cc := cJ15_getValue) (maxL := 1) (ret := (some ((.array .byte)))) (by decide) rfl ?_
  intro p e s m args below meth cd s₁ B hml hv
  obtain ⟨hargs, hP, hG⟩ := hv
  have hx := B.exec
  have hb := B.bytes
  have hrt := B.returns
  have hts := atoms_spec (ws := (ws_ yJ15_getValue cJ15_getValue 1 (some ((.array .byte))))) B.pre
  have hts : ∀ w ∈ lw_all, w.before _ s = true := fun w h => hts w (List.mem_cons_of_mem _ h)
  have hown : s.vm.findClass RJ15 = some m.cls := findClass_of_methodNamed B.named
  have hlocks := B.notSynchronized
  have hS : va_S nA s.heap s.heap [] := va_S.rf
  have hE : entryFrame m args 1 = F0 m 0 ((lg_sl ([.ref a]) ++ List.replicate (1 - (lg_sl ([.ref a])).length) Slot.unset).toArray) [] := by rw [hargs]; exact lg_entry_eq m _ 1
  have hl := lv_entry ([.ref a]) (n := 1) (Nat.le_of_ble_eq_true rfl)
  rw [hE]
  clear hE
  generalize (lg_sl ([.ref a]) ++ List.replicate (1 - (lg_sl ([.ref a])).length) Slot.unset).toArray = ls at hl ⊢
  have hl : lv_has ls 1 [(0, .ref a)] := hl
  generalize hQ : MQ _ _ _ _ _ _ _ = Q
  refine lv_aload_n hx hb dJ15_getValue_0 rfl (lv_at hl 0 rfl) ?_
  refine va_get (D := D) (ci := 17) (v := .ref v) (C := RJ16) (T := TJ16) (N := 4) hx hb hts in_J16 hown hG.1 hP 0 rfl rfl 0 (by decide) (hts _ q645) (fun _ h => h) rfl dJ15_getValue_1 ?_
  subst hQ
  exact W.aret (v := va_rf (some (v))) hx hb hrt (Or.inr ⟨_, rfl⟩) (va_rf_or _) (fun t ht _ => ⟨(some (v)), rfl, (show (some (v)) = some (v) from rfl), ht⟩) t_nil dJ15_getValue_4

abbrev r_J15_length : Room := { frames := 0, cells := 0, slots := 0, locals := 0 }
set_option maxHeartbeats 1000000 in
theorem c_J15_length (lh : Launch) (D : va_G) (dA : Nat → ClassId) (a : Nat) (v : Nat) (n : Nat) : Met lh yJ15_length (ws_ yJ15_length cJ15_length 1 (some .int)) r_J15_length (PX (fun U H => va_P D CL [(a, .inr (17, [.ref v, .int (nI 0), .int (nI 0), .int (nI n)]))] H ∧ GK D dA U) [.ref a]) (vp_Si (fun rv => rv = nI n)) 0 0 (fun _ => False) := by
  refine Met.ofW (cc := cJ15_length) (maxL := 1) (ret := (some .int)) (by decide) rfl ?_
  intro p e s m args below meth cd s₁ B hml hv
  obtain ⟨hargs, hP, hG⟩ := hv
  have hx := B.exec
  have hb := B.bytes
  have hrt := B.returns
  have hts := atoms_spec (ws := (ws_ yJ15_length cJ15_length 1 (some .int))) B.pre
  have hts : ∀ w ∈ lw_all, w.before _ s = true := fun w h => hts w (List.mem_cons_of_mem _ h)
  have hown : s.vm.findClass RJ15 = some m.cls := findClass_of_methodNamed B.named
  have hlocks := B.notSynchronized
  have hS : va_S nA s.heap s.heap [] := va_S.rf
  have hE : entryFrame m args 1 = F0 m 0 ((lg_sl ([.ref a]) ++ List.replicate (1 - (lg_sl ([.ref a])).length) Slot.unset).toArray) [] := by rw [hargs]; exact lg_entry_eq m _ 1
  have hl := lv_entry ([.ref a]) (n := 1) (Nat.le_of_ble_eq_true rfl)
  rw [hE]
  clear hE
  generalize (lg_sl ([.ref a]) ++ List.replicate (1 - (lg_sl ([.ref a])).length) Slot.unset).toArray = ls at hl ⊢
  have hl : lv_has ls 1 [(0, .ref a)] := hl
  generalize hQ : MQ _ _ _ _ _ _ _ = Q
  refine lv_aload_n hx hb dJ15_length_0 rfl (lv_at hl 0 rfl) ?_
  refine va_get (D := D) (ci := 17) (v := .int (nI n)) (C := RJ16) (T := TJ16) (N := 4) hx hb hts in_J16 hown hG.1 hP 0 rfl rfl 3 (by decide) (hts _ q648) (fun _ h => h) rfl dJ15_length_1 ?_
  subst hQ
  exact W.iret (v := nI n) hx hb hrt (fun t ht _ => ⟨_, rfl, (show nI n = nI n from rfl), ht⟩) t_nil dJ15_length_4

abbrev r_J16_length : Room := { frames := 1, cells := 0, slots := 0, locals := 20 }
set_option maxHeartbeats 1000000 in
theorem c_J16_length (lh : Launch) (D : va_G) (dA : Nat → ClassId) (a : Nat) (v : Nat) (n : Nat) : Met lh yJ16_length (ws_ yJ16_length cJ16_length 1 (some .int)) r_J16_length (PX (fun U H => va_P D CL [(a, .inr (17, [.ref v, .int (nI 0), .int (nI 0), .int (nI n)]))] H ∧ GK D dA U) [.ref a]) (vp_Si (fun rv => rv = nI n)) 0 0 (fun _ => False) := by
  refine Met.ofW (cc := cJ16_length) (maxL := 1) (ret := (some .int)) (by decide) rfl ?_
  intro p e s m args below meth cd s₁ B hml hv
  obtain ⟨hargs, hP, hG⟩ := hv
  have hx := B.exec
  have hb := B.bytes
  have hrt := B.returns
  have hts := atoms_spec (ws := (ws_ yJ16_length cJ16_length 1 (some .int))) B.pre
  have hts : ∀ w ∈ lw_all, w.before _ s = true := fun w h => hts w (List.mem_cons_of_mem _ h)
  have hown : s.vm.findClass RJ16 = some m.cls := findClass_of_methodNamed B.named
  have hlocks := B.notSynchronized
  have hS : va_S nA s.heap s.heap [] := va_S.rf
  have hE : entryFrame m args 1 = F0 m 0 ((lg_sl ([.ref a]) ++ List.replicate (1 - (lg_sl ([.ref a])).length) Slot.unset).toArray) [] := by rw [hargs]; exact lg_entry_eq m _ 1
  have hl := lv_entry ([.ref a]) (n := 1) (Nat.le_of_ble_eq_true rfl)
  rw [hE]
  clear hE
  generalize (lg_sl ([.ref a]) ++ List.replicate (1 - (lg_sl ([.ref a])).length) Slot.unset).toArray = ls at hl ⊢
  have hl : lv_has ls 1 [(0, .ref a)] := hl
  generalize hQ : MQ _ _ _ _ _ _ _ = Q
  refine lv_aload_n hx hb dJ16_length_0 rfl (lv_at hl 0 rfl) ?_
  have hPs : va_P D CL ([(a, .inr (17, [.ref v, .int (nI 0), .int (nI 0), .int (nI n)]))] ++ []) s.heap := hP.sub [0] rfl
  refine vp_callSi (va_Run.call (va_runSU (hG.1.1 17 _ rfl).2 (As := []) (rest := []) ⟨hx, hb, hml, hown, hts⟩ (c_J15_length lh D dA a v n) (va_cwSU 0 hts (lw_SU q742 q738 q657 q737 q85 q743) rfl rfl rfl (by decide +kernel) ⟨Nat.le_of_ble_eq_true rfl, Nat.le_of_ble_eq_true rfl⟩) ⟨PX.blind (Mv.and Mv.heap Mv.gk), (va_recv hG.1 hP (ci := 17) (q0 := 0) rfl rfl), PX.pre (Mv.and Mv.heap Mv.gk) ⟨(va_P_left hPs), hG⟩⟩ rfl rfl hl.1 rfl (lv_room (Nat.le_of_ble_eq_true rfl)) dJ16_length_1 ⟨Nat.le_of_ble_eq_true rfl, Nat.le_of_ble_eq_true rfl⟩)) (fun rr hrr => ?_)
  subst hrr
  refine kx_int (y := nI n) (rfl) ?_
  subst hQ
  exact W.iret (v := nI n) hx hb hrt (fun t ht _ => ⟨_, rfl, (show nI n = nI n from rfl), ht⟩) t_nil dJ16_length_4

abbrev r_J15_init : Room := { frames := 1, cells := 1, slots := 16, locals := 20 }
set_option maxHeartbeats 1000000 in
theorem c_J15_init (lh : Launch) (D : va_G) (dA : Nat → ClassId) (sz : Nat) (a : Nat) : Met lh yJ15_init (ws_ yJ15_init cJ15_init 2 none) r_J15_init (PX (fun U H => H.size = sz ∧ va_P D CL [(a, .inr (17, [.null, .int (nI 0), .int (nI 0), .int (nI 0)]))] H ∧ va_D nT [(a, .inr (17, [.null, .int (nI 0), .int (nI 0), .int (nI 0)]))] ∧ GK D dA U ∧ KC (va_A [(a, .inr (17, [.null, .int (nI 0), .int (nI 0), .int (nI 0)]))] sz) U H) [.ref a, .int (nI 16)]) (va_Qv (fun u : Nat => True) (fun (u : Nat) t => va_P D CL [(a, .inr (17, [.ref u, .int (nI 0), .int (nI 0), .int (nI 0)])), (u, .inl (dA 1, 16, .inl (fun _ => 0)))] t.heap ∧ va_D (va_A [(a, .inr (17, [.null, .int (nI 0), .int (nI 0), .int (nI 0)]))] sz) [(a, .inr (17, [.ref u, .int (nI 0), .int (nI 0), .int (nI 0)])), (u, .inl (dA 1, 16, .inl (fun _ => 0)))] ∧ GK D dA t) (va_A [(a, .inr (17, [.null, .int (nI 0), .int (nI 0), .int (nI 0)]))] sz)) 1 16 (va_A [(a, .inr (17, [.null, .int (nI 0), .int (nI 0), .int (nI 0)]))] sz) := by
  refine Met.ofW (cc := cJ15_init) (maxL := 2) (ret := none) (by decide) rfl ?_
  intro p e s m args below meth cd s₁ B hml hv
  obtain ⟨hargs, hsz, hP, hD, hG, hKC⟩ := hv
  have hx := B.exec
  have hb := B.bytes
  have hrt := B.returns
  have hts := atoms_spec (ws := (ws_ yJ15_init cJ15_init 2 none)) B.pre
  have hts : ∀ w ∈ lw_all, w.before _ s = true := fun w h => hts w (List.mem_cons_of_mem _ h)
  have hown : s.vm.findClass RJ15 = some m.cls := findClass_of_methodNamed B.named
  have hlocks := B.notSynchronized
  have hin : meth.name = "<init>" := (name_of_methodNamed B.named B.method).1
  subst hsz
  have hD := hD.self (sz := s.heap.size)
  have hA : ∀ q : Nat, s.heap.size ≤ q → va_A [(a, .inr (17, [.null, .int (nI 0), .int (nI 0), .int (nI 0)]))] s.heap.size q := fun q h => Or.inr h
  generalize va_A [(a, .inr (17, [.null, .int (nI 0), .int (nI 0), .int (nI 0)]))] s.heap.size = A at hD hA hKC ⊢
  have hS : va_S A s.heap s.heap [] := va_S.rf
  have hE : entryFrame m args 2 = F0 m 0 ((lg_sl ([.ref a, .int (nI 16)]) ++ List.replicate (2 - (lg_sl ([.ref a, .int (nI 16)])).length) Slot.unset).toArray) [] := by rw [hargs]; exact lg_entry_eq m _ 2
  have hl := lv_entry ([.ref a, .int (nI 16)]) (n := 2) (Nat.le_of_ble_eq_true rfl)
  rw [hE]
  clear hE
  generalize (lg_sl ([.ref a, .int (nI 16)]) ++ List.replicate (2 - (lg_sl ([.ref a, .int (nI 16)])).length) Slot.unset).toArray = ls at hl ⊢
  have hl : lv_has ls 2 [(0, .ref a), (1, .int (nI 16))] := hl
  generalize hQ : MQ _ _ _ _ _ _ _ = Q
  refine lv_aload_n hx hb dJ15_init_0 rfl (lv_at hl 0 rfl) ?_
  refine W.objInit hx hb hown (hts _ q636) (hts _ q105) (hts _ q106) rfl (by rw [hml]; exact hl.1) rfl dJ15_init_1 (Nat.le_of_ble_eq_true rfl) (Nat.le_of_ble_eq_true rfl) ?_
  refine W.eq (g2 := F0 m 4 ls []) rfl ?_
  refine K_getz hx hb (KC.at hKC hS (B := nA) (fun _ q => q.elim)) hown (hts _ q637) dJ15_init_4 ?_
  refine kn_zeq (tgt := 25) hx hb dJ15_init_7 (by decide) (by decide) (fun c => absurd c (by decide)) (fun _ => ?_)
  refine lv_aload_n hx hb dJ15_init_10 rfl (lv_at hl 0 rfl) ?_
  refine lv_iload_n hx hb dJ15_init_11 rfl (lv_at hl 1 rfl) ?_
  refine P_newi (atype := .byte) hx hb hG (hts _ q270) rfl 1 rfl hP hD hS hA (n := 16) (by decide) (by decide) (Nat.le_of_ble_eq_true rfl) (Nat.le_of_ble_eq_true rfl) dJ15_init_12 (fun q12 H hP hD hS => ?_)
  have hP : va_P D CL [(a, .inr (17, [.null, .int (nI 0), .int (nI 0), .int (nI 0)])), (q12, .inl (dA 1, 16, .inl (fun _ => 0)))] H := hP
  have hD : va_D A [(a, .inr (17, [.null, .int (nI 0), .int (nI 0), .int (nI 0)])), (q12, .inl (dA 1, 16, .inl (fun _ => 0)))] := hD
  refine va_put (D := D) (ci := 17) (v := .ref q12) (C := RJ16) (T := TJ16) (N := 4) hx hb hts in_J16 tyJ16 tyJ16_ok nmJ16 hown hG.1 hP hD hS 0 rfl rfl 0 (by decide) (hts _ q645) (fun _ h => h) rfl rfl (rfl) (rfl) (Nat.le_of_ble_eq_true rfl) dJ15_init_14 (fun H locs hP hD hS => ?_)
  have hP : va_P D CL [(a, .inr (17, [.ref q12, .int (nI 0), .int (nI 0), .int (nI 0)])), (q12, .inl (dA 1, 16, .inl (fun _ => 0)))] H := hP
  have hD : va_D A [(a, .inr (17, [.ref q12, .int (nI 0), .int (nI 0), .int (nI 0)])), (q12, .inl (dA 1, 16, .inl (fun _ => 0)))] := hD
  refine lv_aload_n hx hb dJ15_init_17 rfl (lv_at hl 0 rfl) ?_
  refine lv_iconst (v := nI 0) hx hb dJ15_init_18 (by decide) ?_
  refine va_put (D := D) (ci := 17) (v := .int (nI 0)) (C := RJ16) (T := TJ16) (N := 4) hx hb hts in_J16 tyJ16 tyJ16_ok nmJ16 hown hG.1 hP hD hS 0 rfl rfl 1 (by decide) (hts _ q646) (fun _ h => h) rfl rfl (rfl) (rfl) (Nat.le_of_ble_eq_true rfl) dJ15_init_19 (fun H locs hP hD hS => ?_)
  have hP : va_P D CL [(a, .inr (17, [.ref q12, .int (nI 0), .int (nI 0), .int (nI 0)])), (q12, .inl (dA 1, 16, .inl (fun _ => 0)))] H := hP
  have hD : va_D A [(a, .inr (17, [.ref q12, .int (nI 0), .int (nI 0), .int (nI 0)])), (q12, .inl (dA 1, 16, .inl (fun _ => 0)))] := hD
  refine lv_goto (tgt := 38) hx hb dJ15_init_22 (by decide) ?_
  subst hQ
  have hP9 : va_P D CL [(a, .inr (17, [.ref q12, .int (nI 0), .int (nI 0), .int (nI 0)])), (q12, .inl (dA 1, 16, .inl (fun _ => 0)))] H := hP.sub [0, 1] rfl
  have hD9 : va_D A [(a, .inr (17, [.ref q12, .int (nI 0), .int (nI 0), .int (nI 0)])), (q12, .inl (dA 1, 16, .inl (fun _ => 0)))] := hD.sub [0, 1] (by decide) rfl
  exact W.vret hx hb hrt (fun t ht hW => ⟨⟨(q12), rfl, trivial, by rw [ht]; exact hP9, hD9, GK.warm hW hG⟩, hS.F ht⟩) hS.2.2 dJ15_init_38

abbrev r_J16_init : Room := { frames := 2, cells := 1, slots := 16, locals := 41 }
set_option maxHeartbeats 1000000 in
theorem c_J16_init (lh : Launch) (D : va_G) (dA : Nat → ClassId) (sz : Nat) (a : Nat) : Met lh yJ16_init (ws_ yJ16_init cJ16_init 1 none) r_J16_init (PX (fun U H => H.size = sz ∧ va_P D CL [(a, .inr (17, [.null, .int (nI 0), .int (nI 0), .int (nI 0)]))] H ∧ va_D nT [(a, .inr (17, [.null, .int (nI 0), .int (nI 0), .int (nI 0)]))] ∧ GK D dA U ∧ KC (va_A [(a, .inr (17, [.null, .int (nI 0), .int (nI 0), .int (nI 0)]))] sz) U H) [.ref a]) (va_Qv (fun u : Nat => True) (fun (u : Nat) t => va_P D CL [(a, .inr (17, [.ref u, .int (nI 0), .int (nI 0), .int (nI 0)])), (u, .inl (dA 1, 16, .inl (fun _ => 0)))] t.heap ∧ va_D (va_A [(a, .inr (17, [.null, .int (nI 0), .int (nI 0), .int (nI 0)]))] sz) [(a, .inr (17, [.ref u, .int (nI 0), .int (nI 0), .int (nI 0)])), (u, .inl (dA 1, 16, .inl (fun _ => 0)))] ∧ GK D dA t) (va_A [(a, .inr (17, [.null, .int (nI 0), .int (nI 0), .int (nI 0)]))] sz)) 1 16 (va_A [(a, .inr (17, [.null, .int (nI 0), .int (nI 0), .int (nI 0)]))] sz) := by
  refine Met.ofW (cc := cJ16_init) (maxL := 1) (ret := none) (by decide) rfl ?_
  intro p e s m args below meth cd s₁ B hml hv
  obtain ⟨hargs, hsz, hP, hD, hG, hKC⟩ := hv
  have hx := B.exec
  have hb := B.bytes
  have hrt := B.returns
  have hts := atoms_spec (ws := (ws_ yJ16_init cJ16_init 1 none)) B.pre
  have hts : ∀ w ∈ lw_all, w.before _ s = true := fun w h => hts w (List.mem_cons_of_mem _ h)
  have hown : s.vm.findClass RJ16 = some m.cls := findClass_of_methodNamed B.named
  have hlocks := B.notSynchronized
  have hin : meth.name = "<init>" := (name_of_methodNamed B.named B.method).1
  subst hsz
  have hD := hD.self (sz := s.heap.size)
  have hA : ∀ q : Nat, s.heap.size ≤ q → va_A [(a, .inr (17, [.null, .int (nI 0), .int (nI 0), .int (nI 0)]))] s.heap.size q := fun q h => Or.inr h
  generalize va_A [(a, .inr (17, [.null, .int (nI 0), .int (nI 0), .int (nI 0)]))] s.heap.size = A at hD hA hKC ⊢
  have hS : va_S A s.heap s.heap [] := va_S.rf
  have hE : entryFrame m args 1 = F0 m 0 ((lg_sl ([.ref a]) ++ List.replicate (1 - (lg_sl ([.ref a])).length) Slot.unset).toArray) [] := by rw [hargs]; exact lg_entry_eq m _ 1
  have hl := lv_entry ([.ref a]) (n := 1) (Nat.le_of_ble_eq_true rfl)
  rw [hE]
  clear hE
  generalize (lg_sl ([.ref a]) ++ List.replicate (1 - (lg_sl ([.ref a])).length) Slot.unset).toArray = ls at hl ⊢
  have hl : lv_has ls 1 [(0, .ref a)] := hl
  generalize hQ : MQ _ _ _ _ _ _ _ = Q
  refine lv_aload_n hx hb dJ16_init_0 rfl (lv_at hl 0 rfl) ?_
  refine lv_bipush (v := nI 16) hx hb dJ16_init_1 (by decide) ?_
  have hPs : va_P D CL ([(a, .inr (17, [.null, .int (nI 0), .int (nI 0), .int (nI 0)]))] ++ []) s.heap := hP.sub [0] rfl
  have hDs : va_D A ([(a, .inr (17, [.null, .int (nI 0), .int (nI 0), .int (nI 0)]))] ++ []) := hD.sub [0] (by decide) rfl
  have hz9 := hS.1
  refine va_callv (va_runI (As := [.int (nI 16)]) (rest := []) ⟨hx, hb, hml, hown, hts⟩ (c_J15_init lh D dA s.heap.size a) (cwI 1 hts (lw_meth q635) rfl rfl rfl (hts _ q85) (hts _ q633) (hts _ q634) rfl (by decide +kernel) ⟨Nat.le_of_ble_eq_true rfl, Nat.le_of_ble_eq_true rfl⟩) ⟨PX.blind (Mv.and Mv.heap (Mv.and Mv.heap (Mv.and Mv.heap (Mv.and Mv.gk KC.mv)))), PX.pre (Mv.and Mv.heap (Mv.and Mv.heap (Mv.and Mv.heap (Mv.and Mv.gk KC.mv)))) ⟨rfl, (va_P_left hPs), (va_D_left hDs), hG, (KC.at hKC hS (va_A_up hDs hA hS.1))⟩⟩ rfl rfl hl.1 rfl (lv_room (Nat.le_of_ble_eq_true rfl)) dJ16_init_3 ⟨Nat.le_of_ble_eq_true rfl, Nat.le_of_ble_eq_true rfl⟩) hS (fun q _ => (va_A_up hDs hA hS.1) q) ((va_A_up hDs hA hS.1)) (fun u t H1 locs ht hvm hp hB hz hk hS => ?_)
  generalize u = u3 at hp hB
  obtain ⟨hP1, hD1, -⟩ := hB
  rw [ht] at hP1
  obtain ⟨hP, hD⟩ := vp_join hPs hDs hP1 hD1 hk hA hz9
  clear ht hvm hz hk hP1 hD1 hPs hDs hz9
  generalize H1 = H at hP hS ⊢
  have hP : va_P D CL [(a, .inr (17, [.ref u3, .int (nI 0), .int (nI 0), .int (nI 0)])), (u3, .inl (dA 1, 16, .inl (fun _ => 0)))] H := hP
  have hD : va_D A [(a, .inr (17, [.ref u3, .int (nI 0), .int (nI 0), .int (nI 0)])), (u3, .inl (dA 1, 16, .inl (fun _ => 0)))] := hD
  subst hQ
  have hP9 : va_P D CL [(a, .inr (17, [.ref u3, .int (nI 0), .int (nI 0), .int (nI 0)])), (u3, .inl (dA 1, 16, .inl (fun _ => 0)))] H := hP.sub [0, 1] rfl
  have hD9 : va_D A [(a, .inr (17, [.ref u3, .int (nI 0), .int (nI 0), .int (nI 0)])), (u3, .inl (dA 1, 16, .inl (fun _ => 0)))] := hD.sub [0, 1] (by decide) rfl
  exact W.vret hx hb hrt (fun t ht hW => ⟨⟨(u3), rfl, trivial, by rw [ht]; exact hP9, hD9, GK.warm hW hG⟩, hS.F ht⟩) hS.2.2 dJ16_init_6

abbrev r_J10_copyOf_3 (k : Nat) : Room := { frames := 1, cells := 1, slots := k, locals := 40 }
set_option maxHeartbeats 1000000 in
theorem c_J10_copyOf_3 (lh : Launch) (D : va_G) (dA : Nat → ClassId) (sz : Nat) (v : Nat) (n : Nat) (k : Nat) (g : Nat → Nat) (h1 : n < k) (h2 : k < 2 ^ 20) (h3 : ∀ j, j < n → g j < 128) : Met lh yJ10_copyOf_3 (ws_ yJ10_copyOf_3 cJ10_copyOf_3 3 (some ((.array .byte)))) (r_J10_copyOf_3 k) (PX (fun U H => H.size = sz ∧ va_P D CL [(v, .inl (dA 1, n, .inl (bw g n)))] H ∧ va_D nT [(v, .inl (dA 1, n, .inl (bw g n)))] ∧ GK D dA U) [.ref v, .int (nI k)]) (va_Qq (fun (r : Option Nat) (u : Nat) => r = some (u)) (fun (u : Nat) t => va_P D CL [(v, .inl (dA 1, n, .inl (bw g n))), (u, .inl (dA 1, k, .inl (bw g n)))] t.heap ∧ va_D (va_A [(v, .inl (dA 1, n, .inl (bw g n)))] sz) [(v, .inl (dA 1, n, .inl (bw g n))), (u, .inl (dA 1, k, .inl (bw g n)))] ∧ GK D dA t) (va_A [(v, .inl (dA 1, n, .inl (bw g n)))] sz)) 1 k (va_A [(v, .inl (dA 1, n, .inl (bw g n)))] sz) := by
  refine Met.ofW (cc := cJ10_copyOf_3) (maxL := 3) (ret := (some ((.array .byte)))) (by decide) rfl ?_
  intro p e s m args below meth cd s₁ B hml hv
  obtain ⟨hargs, hsz, hP, hD, hG⟩ := hv
  have hx := B.exec
  have hb := B.bytes
  have hrt := B.returns
  have hts := atoms_spec (ws := (ws_ yJ10_copyOf_3 cJ10_copyOf_3 3 (some ((.array .byte))))) B.pre
  have hts : ∀ w ∈ lw_all, w.before _ s = true := fun w h => hts w (List.mem_cons_of_mem _ h)
  have hown : s.vm.findClass RJ10 = some m.cls := findClass_of_methodNamed B.named
  have hlocks := B.notSynchronized
  subst hsz
  have hD := hD.self (sz := s.heap.size)
  have hA : ∀ q : Nat, s.heap.size ≤ q → va_A [(v, .inl (dA 1, n, .inl (bw g n)))] s.heap.size q := fun q h => Or.inr h
  generalize va_A [(v, .inl (dA 1, n, .inl (bw g n)))] s.heap.size = A at hD hA ⊢
  have hS : va_S A s.heap s.heap [] := va_S.rf
  have hE : entryFrame m args 3 = F0 m 0 ((lg_sl ([.ref v, .int (nI k)]) ++ List.replicate (3 - (lg_sl ([.ref v, .int (nI k)])).length) Slot.unset).toArray) [] := by rw [hargs]; exact lg_entry_eq m _ 3
  have hl := lv_entry ([.ref v, .int (nI k)]) (n := 3) (Nat.le_of_ble_eq_true rfl)
  rw [hE]
  clear hE
  generalize (lg_sl ([.ref v, .int (nI k)]) ++ List.replicate (3 - (lg_sl ([.ref v, .int (nI k)])).length) Slot.unset).toArray = ls at hl ⊢
  have hl : lv_has ls 3 [(0, .ref v), (1, .int (nI k))] := hl
  generalize hQ : MQ _ _ _ _ _ _ _ = Q
  refine lv_iload_n hx hb dJ10_copyOf_3_0 rfl (lv_at hl 1 rfl) ?_
  refine lv_aload_n hx hb dJ10_copyOf_3_1 rfl (lv_at hl 0 rfl) ?_
  refine va_alen (v := nI n) hx hb hG.1 hP 0 1 rfl rfl rfl dJ10_copyOf_3_2 ?_
  refine kn_cne (tgt := 14) hx hb dJ10_copyOf_3_3 (by decide) (by omega) (by omega) (fun c_3 => ?_) (fun c_3 => ?_)
  · refine lv_iload_n hx hb dJ10_copyOf_3_14 rfl (lv_at hl 1 rfl) ?_
    refine P_newi (atype := .byte) hx hb hG (hts _ q270) rfl 1 rfl hP hD hS hA (n := k) (by omega) (by show k * 1 ≤ _; omega) (Nat.le_of_ble_eq_true rfl) (by show 0 + k ≤ k; omega) dJ10_copyOf_3_15 (fun q15 H hP hD hS => ?_)
    have hP : va_P D CL [(v, .inl (dA 1, n, .inl (bw g n))), (q15, .inl (dA 1, k, .inl (fun _ => 0)))] H := hP
    have hD : va_D A [(v, .inl (dA 1, n, .inl (bw g n))), (q15, .inl (dA 1, k, .inl (fun _ => 0)))] := hD
    refine lv_astore_n (lv' := [(2, .ref q15), (0, .ref v), (1, .int (nI k))]) hx hb dJ10_copyOf_3_17 rfl hl (by decide) rfl (fun ls hl => ?_)
    refine lv_aload_n hx hb dJ10_copyOf_3_18 rfl (lv_at hl 1 rfl) ?_
    refine lv_iconst (v := nI 0) hx hb dJ10_copyOf_3_19 (by decide) ?_
    refine lv_aload_n hx hb dJ10_copyOf_3_20 rfl (lv_at hl 0 rfl) ?_
    refine lv_iconst (v := nI 0) hx hb dJ10_copyOf_3_21 (by decide) ?_
    refine lv_aload_n hx hb dJ10_copyOf_3_22 rfl (lv_at hl 1 rfl) ?_
    refine va_alen (v := nI n) hx hb hG.1 hP 0 1 rfl rfl rfl dJ10_copyOf_3_23 ?_
    refine lv_iload_n hx hb dJ10_copyOf_3_24 rfl (lv_at hl 2 rfl) ?_
    refine va_mmin hx hb (hml.trans hl.1.symm) hown (hts _ q424) (hts _ q425) (hts _ q75) (hts _ q426) (Nat.le_of_ble_eq_true rfl) (Nat.le_of_ble_eq_true rfl) (Nat.le_of_ble_eq_true rfl) (by show _ ≤ k; omega) dJ10_copyOf_3_25 ?_
    refine kx_int (y := nI n) ((mi_n (a := n) (b := k) (by omega) (by omega)).trans (congrArg nI (by split <;> omega))) ?_
    refine va_copyi hx hb (hml.trans hl.1.symm) hown (hts _ q427) (hts _ q429) (hts _ q428) (hts _ q77) hG.1 hP hD hS 0 1 1 1 rfl rfl rfl rfl rfl (nI_pos (by omega)) (nI_pos (by omega)) (nI_pos (by omega)) (by rw [nI_clamp (by omega), nI_clamp (by omega)]; omega) (by rw [nI_clamp (by omega), nI_clamp (by omega)]; omega) (fun i hi => bw_fit h3 _) (Nat.le_of_ble_eq_true rfl) (Nat.le_of_ble_eq_true rfl) dJ10_copyOf_3_28 (fun H locs hP hD hS => ?_)
    rw [nI_clamp (show 0 < 2 ^ 31 by omega), nI_clamp (show n < 2 ^ 31 by omega)] at hP hD
    have hP : va_P D CL [(v, .inl (dA 1, n, .inl (bw g n))), (q15, .inl (dA 1, k, .inl (va_cpy (bw g n) (fun _ => 0) 0 0 n)))] H := hP
    have hD : va_D A [(v, .inl (dA 1, n, .inl (bw g n))), (q15, .inl (dA 1, k, .inl (va_cpy (bw g n) (fun _ => 0) 0 0 n)))] := hD
    rw [show (va_cpy (bw g n) (fun _ => 0) 0 0 n) = (bw g n) from bw_cpy] at hP hD
    have hP : va_P D CL [(v, .inl (dA 1, n, .inl (bw g n))), (q15, .inl (dA 1, k, .inl (bw g n)))] H := hP
    have hD : va_D A [(v, .inl (dA 1, n, .inl (bw g n))), (q15, .inl (dA 1, k, .inl (bw g n)))] := hD
    refine lv_aload_n hx hb dJ10_copyOf_3_31 rfl (lv_at hl 0 rfl) ?_
    subst hQ
    refine W.widen (k := 1) (n := k) (by first | decide | omega) (by first | decide | omega) ?_
    have hP9 : va_P D CL [(v, .inl (dA 1, n, .inl (bw g n))), (q15, .inl (dA 1, k, .inl (bw g n)))] H := hP.sub [0, 1] rfl
    have hD9 : va_D A [(v, .inl (dA 1, n, .inl (bw g n))), (q15, .inl (dA 1, k, .inl (bw g n)))] := hD.sub [0, 1] (by decide) rfl
    exact W.aret (v := va_rf (some (q15))) hx hb hrt (Or.inr ⟨_, rfl⟩) (va_rf_or _) (fun t ht hW => ⟨⟨(some (q15)), (q15), rfl, rfl, by rw [ht]; exact hP9, hD9, GK.warm hW hG⟩, hS.F ht⟩) hS.2.2 dJ10_copyOf_3_32
  · omega
theorem w_J10_copyOf_3 {R : Room} {s : State} {args : Array Value} {own : String} {idx : Nat} (hts : ∀ w ∈ lw_all, w.before args s = true) (h1 : Cond.methodLink own idx yJ10_copyOf_3 ∈ lw_all) {rm : Room} {mc ms : Nat} (hrc : rm.cells = mc) (hrs : rm.slots = ms) (hR : rm.frames + 1 ≤ R.frames ∧ 8 + (3 + 11) + rm.locals ≤ R.locals) : CallB R s args own idx yJ10_copyOf_3 cJ10_copyOf_3 3 (some ((.array .byte))) (ws_ yJ10_copyOf_3 cJ10_copyOf_3 3 (some ((.array .byte)))) rm mc ms 2 ∧ (Cond.static yJ10_copyOf_3).before args s = true := va_cwS 2 hts (lw_S h1 q676 q76 q677) rfl hrc hrs (by decide +kernel) hR
