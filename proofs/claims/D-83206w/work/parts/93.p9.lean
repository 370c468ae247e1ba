set_option maxRecDepth 100000
abbrev r_J3_getBytes : Room := { frames := 1, cells := 0, slots := 0, locals := 40 }
set_option maxHeartbeats 1000000 in
theorem c_J3_getBytes (lh : Launch) (D : va_G) (dA : Nat → ClassId) (sz : Nat) (sa : Nat) (sb : Nat) (k : Nat) (h : Nat → Nat) (v : Nat) (n : Nat) (cap : Nat) (g : Nat → Nat) (h1 : n + k ≤ cap) (h2 : cap < 2 ^ 20) : Met lh yJ3_getBytes (ws_ yJ3_getBytes cJ3_getBytes 4 none) r_J3_getBytes (PX (fun U H => H.size = sz ∧ va_P D CL [(v, .inl (dA 1, cap, .inl (bw g n)))] H ∧ va_D nT [(v, .inl (dA 1, cap, .inl (bw g n)))] ∧ GK D dA U ∧ KC (va_A [(v, .inl (dA 1, cap, .inl (bw g n)))] sz) U H ∧ SA (va_A [(v, .inl (dA 1, cap, .inl (bw g n)))] sz) sa sb k h U H) [.ref sa, .ref v, .int (nI n), .int (nI 0)]) (va_Qv (fun u : Unit => True) (fun (u : Unit) t => va_P D CL [(v, .inl (dA 1, cap, .inl (bw (ap g n h) (n + k))))] t.heap ∧ va_D (va_A [(v, .inl (dA 1, cap, .inl (bw g n)))] sz) [(v, .inl (dA 1, cap, .inl (bw (ap g n h) (n + k))))] ∧ GK D dA t) (va_A [(v, .inl (dA 1, cap, .inl (bw g n)))] sz)) 0 0 (va_A [(v, .inl (dA 1, cap, .inl (bw g n)))] sz) := by
  refine Met.ofW (cc := cJ3_getBytes) (maxL := 4) (ret := none) (by decide) rfl ?_
  intro p e s m args below meth cd s₁ B hml hv
  obtain ⟨hargs, hsz, hP, hD, hG, hKC, hSA⟩ := hv
  have hx := B.exec
  have hb := B.bytes
  have hrt := B.returns
  have hts := atoms_spec (ws := (ws_ yJ3_getBytes cJ3_getBytes 4 none)) B.pre
  have hts : ∀ w ∈ lw_all, w.before _ s = true := fun w h => hts w (List.mem_cons_of_mem _ h)
  have hown : s.vm.findClass RJ3 = some m.cls := findClass_of_methodNamed B.named
  have hlocks := B.notSynchronized
  subst hsz
  have hD := hD.self (sz := s.heap.size)
  have hA : ∀ q : Nat, s.heap.size ≤ q → va_A [(v, .inl (dA 1, cap, .inl (bw g n)))] s.heap.size q := fun q h => Or.inr h
  generalize va_A [(v, .inl (dA 1, cap, .inl (bw g n)))] s.heap.size = A at hD hA hKC hSA ⊢
  have hS : va_S A s.heap s.heap [] := va_S.rf
  have hE : entryFrame m args 4 = F0 m 0 ((lg_sl ([.ref sa, .ref v, .int (nI n), .int (nI 0)]) ++ List.replicate (4 - (lg_sl ([.ref sa, .ref v, .int (nI n), .int (nI 0)])).length) Slot.unset).toArray) [] := by rw [hargs]; exact lg_entry_eq m _ 4
  have hl := lv_entry ([.ref sa, .ref v, .int (nI n), .int (nI 0)]) (n := 4) (Nat.le_of_ble_eq_true rfl)
  rw [hE]
  clear hE
  generalize (lg_sl ([.ref sa, .ref v, .int (nI n), .int (nI 0)]) ++ List.replicate (4 - (lg_sl ([.ref sa, .ref v, .int (nI n), .int (nI 0)])).length) Slot.unset).toArray = ls at hl ⊢
  have hl : lv_has ls 4 [(0, .ref sa), (1, .ref v), (2, .int (nI n)), (3, .int (nI 0))] := hl
  generalize hQ : MQ _ _ _ _ _ _ _ = Q
  refine lv_aload_n hx hb dJ3_getBytes_0 rfl (lv_at hl 0 rfl) ?_
  refine vp_callSi (W.runV (As := []) (rest := []) ⟨hx, hb, hml, hown, hts⟩ (c_J3_coder lh sa sb k h) (w_J3_coder hts q141 rfl rfl ⟨Nat.le_of_ble_eq_true rfl, Nat.le_of_ble_eq_true rfl⟩) ⟨PX.blind (Mv.and KC.mv SA.mv), (SA.recv (SA.at hSA hS)), PX.pre (Mv.and KC.mv SA.mv) ⟨(KC.at hKC hS (fun _ q => q.elim)), (SA.at hSA hS)⟩⟩ rfl rfl hl.1 rfl (lv_room (Nat.le_of_ble_eq_true rfl)) dJ3_getBytes_1 ⟨Nat.le_of_ble_eq_true rfl, Nat.le_of_ble_eq_true rfl⟩) (fun rr hrr => ?_)
  subst hrr
  refine lv_iload_n hx hb dJ3_getBytes_4 rfl (lv_at hl 3 rfl) ?_
  refine kn_cne (tgt := 28) hx hb dJ3_getBytes_5 (by decide) (by decide) (by decide) (fun c => absurd c (by decide)) (fun _ => ?_)
  refine lv_aload_n hx hb dJ3_getBytes_8 rfl (lv_at hl 0 rfl) ?_
  refine S_getv hx hb (SA.at hSA hS) hown (hts _ q764) dJ3_getBytes_9 ?_
  refine lv_iconst (v := nI 0) hx hb dJ3_getBytes_12 (by decide) ?_
  refine lv_aload_n hx hb dJ3_getBytes_13 rfl (lv_at hl 1 rfl) ?_
  refine lv_iload_n hx hb dJ3_getBytes_14 rfl (lv_at hl 2 rfl) ?_
  refine lv_iload_n hx hb dJ3_getBytes_15 rfl (lv_at hl 3 rfl) ?_
  refine lv_ishl hx hb dJ3_getBytes_16 ?_
  refine kx_int (y := nI n) sh0_l ?_
  refine lv_aload_n hx hb dJ3_getBytes_17 rfl (lv_at hl 0 rfl) ?_
  refine S_getv hx hb (SA.at hSA hS) hown (hts _ q764) dJ3_getBytes_18 ?_
  refine T_len hx hb (SA.at hSA hS).2.2.2 dJ3_getBytes_21 ?_
  refine T_copy hx hb (hml.trans hl.1.symm) hown (hts _ q866) (hts _ q429) (hts _ q428) (hts _ q77) hG.1 hP hD hS (SA.at hSA hS).2.2.2 0 1 rfl rfl (nI_pos (by omega)) (nI_pos (by omega)) (nI_pos (by omega)) (by rw [nI_clamp (by omega), nI_clamp (by omega)]; omega) (by rw [nI_clamp (by omega), nI_clamp (by omega)]; omega) (Nat.le_of_ble_eq_true rfl) (Nat.le_of_ble_eq_true rfl) dJ3_getBytes_22 (fun H locs hP hD hS => ?_)
  rw [nI_clamp (show 0 < 2 ^ 31 by omega), nI_clamp (show n < 2 ^ 31 by omega), nI_clamp (show k < 2 ^ 31 by omega)] at hP hD
  have hP : va_P D CL [(v, .inl (dA 1, cap, .inl (va_cpy (fun j => nI (h j)) (bw g n) 0 n k)))] H := hP
  have hD : va_D A [(v, .inl (dA 1, cap, .inl (va_cpy (fun j => nI (h j)) (bw g n) 0 n k)))] := hD
  rw [show (va_cpy (fun j => nI (h j)) (bw g n) 0 n k) = (bw (ap g n h) (n + k)) from bw_ap] at hP hD
  have hP : va_P D CL [(v, .inl (dA 1, cap, .inl (bw (ap g n h) (n + k))))] H := hP
  have hD : va_D A [(v, .inl (dA 1, cap, .inl (bw (ap g n h) (n + k))))] := hD
  refine lv_goto (tgt := 43) hx hb dJ3_getBytes_25 (by decide) ?_
  subst hQ
  have hP9 : va_P D CL [(v, .inl (dA 1, cap, .inl (bw (ap g n h) (n + k))))] H := hP.sub [0] rfl
  have hD9 : va_D A [(v, .inl (dA 1, cap, .inl (bw (ap g n h) (n + k))))] := hD.sub [0] (by decide) rfl
  exact W.vret hx hb hrt (fun t ht hW => ⟨⟨(), rfl, trivial, by rw [ht]; exact hP9, hD9, GK.warm hW hG⟩, hS.F ht⟩) hS.2.2 dJ3_getBytes_43
theorem w_J3_getBytes {R : Room} {s : State} {args : Array Value} {own : String} {idx : Nat} (hts : ∀ w ∈ lw_all, w.before args s = true) (h1 : Cond.methodLink own idx yJ3_getBytes ∈ lw_all) {rm : Room} {mc ms : Nat} (hrc : rm.cells = mc) (hrs : rm.slots = ms) (hR : rm.frames + 1 ≤ R.frames ∧ 8 + (4 + 11) + rm.locals ≤ R.locals) : CallW R s args own RJ3 idx yJ3_getBytes cJ3_getBytes 4 none (ws_ yJ3_getBytes cJ3_getBytes 4 none) rm mc ms 3 := cwV 3 hts (lw_V h1 q863 q864 q66 q865) rfl hrc hrs (by decide +kernel) hR

abbrev r_J15_inflateIfNeededFor : Room := { frames := 1, cells := 0, slots := 0, locals := 20 }
set_option maxHeartbeats 1000000 in
theorem c_J15_inflateIfNeededFor (lh : Launch) (D : va_G) (dA : Nat → ClassId) (a : Nat) (v : Nat) (n : Nat) (sa : Nat) (sb : Nat) (k : Nat) (h : Nat → Nat) : Met lh yJ15_inflateIfNeededFor (ws_ yJ15_inflateIfNeededFor cJ15_inflateIfNeededFor 2 none) r_J15_inflateIfNeededFor (PX (fun U H => va_P D CL [(a, .inr (17, [.ref v, .int (nI 0), .int (nI 0), .int (nI n)]))] H ∧ GK D dA U ∧ KC nA U H ∧ SA nA sa sb k h U H) [.ref a, .ref sa]) (va_Sv (fun _ => True)) 0 0 (fun _ => False) := by
  refine Met.ofW (cc := cJ15_inflateIfNeededFor) (maxL := 2) (ret := none) (by decide) rfl ?_
  intro p e s m args below meth cd s₁ B hml hv
  obtain ⟨hargs, hP, hG, hKC, hSA⟩ := hv
  have hx := B.exec
  have hb := B.bytes
  have hrt := B.returns
  have hts := atoms_spec (ws := (ws_ yJ15_inflateIfNeededFor cJ15_inflateIfNeededFor 2 none)) B.pre
  have hts : ∀ w ∈ lw_all, w.before _ s = true := fun w h => hts w (List.mem_cons_of_mem _ h)
  have hown : s.vm.findClass RJ15 = some m.cls := findClass_of_methodNamed B.named
  have hlocks := B.notSynchronized
  have hS : va_S nA s.heap s.heap [] := va_S.rf
  have hE : entryFrame m args 2 = F0 m 0 ((lg_sl ([.ref a, .ref sa]) ++ List.replicate (2 - (lg_sl ([.ref a, .ref sa])).length) Slot.unset).toArray) [] := by rw [hargs]; exact lg_entry_eq m _ 2
  have hl := lv_entry ([.ref a, .ref sa]) (n := 2) (Nat.le_of_ble_eq_true rfl)
  rw [hE]
  clear hE
  generalize (lg_sl ([.ref a, .ref sa]) ++ List.replicate (2 - (lg_sl ([.ref a, .ref sa])).length) Slot.unset).toArray = ls at hl ⊢
  have hl : lv_has ls 2 [(0, .ref a), (1, .ref sa)] := hl
  generalize hQ : MQ _ _ _ _ _ _ _ = Q
  refine K_getz hx hb (KC.at hKC hS (B := nA) (fun _ q => q.elim)) hown (hts _ q637) dJ15_inflateIfNeededFor_0 ?_
  refine kn_zeq (tgt := 21) hx hb dJ15_inflateIfNeededFor_3 (by decide) (by decide) (fun c => absurd c (by decide)) (fun _ => ?_)
  refine lv_aload_n hx hb dJ15_inflateIfNeededFor_6 rfl (lv_at hl 0 rfl) ?_
  refine va_get (D := D) (ci := 17) (v := .int (nI 0)) (C := RJ16) (T := TJ16) (N := 4) hx hb hts in_J16 hown hG.1 hP 0 rfl rfl 1 (by decide) (hts _ q646) (fun _ h => h) rfl dJ15_inflateIfNeededFor_7 ?_
  refine lv_aload_n hx hb dJ15_inflateIfNeededFor_10 rfl (lv_at hl 1 rfl) ?_
  refine vp_callSi (W.runV (As := []) (rest := [.int (nI 0)]) ⟨hx, hb, hml, hown, hts⟩ (c_J3_coder lh sa sb k h) (w_J3_coder hts q861 rfl rfl ⟨Nat.le_of_ble_eq_true rfl, Nat.le_of_ble_eq_true rfl⟩) ⟨PX.blind (Mv.and KC.mv SA.mv), (SA.recv (SA.at hSA hS)), PX.pre (Mv.and KC.mv SA.mv) ⟨(KC.at hKC hS (fun _ q => q.elim)), (SA.at hSA hS)⟩⟩ rfl rfl hl.1 rfl (lv_room (Nat.le_of_ble_eq_true rfl)) dJ15_inflateIfNeededFor_11 ⟨Nat.le_of_ble_eq_true rfl, Nat.le_of_ble_eq_true rfl⟩) (fun rr hrr => ?_)
  subst hrr
  refine kn_ceq (tgt := 21) hx hb dJ15_inflateIfNeededFor_14 (by decide) (by decide) (by decide) (fun _ => ?_) (fun c => absurd c (by decide))
  subst hQ
  exact W.vret hx hb hrt (fun t ht _ => ⟨rfl, trivial, ht⟩) t_nil dJ15_inflateIfNeededFor_21

abbrev r_J15_putStringAt : Room := { frames := 2, cells := 0, slots := 0, locals := 63 }
set_option maxHeartbeats 1000000 in
theorem c_J15_putStringAt (lh : Launch) (D : va_G) (dA : Nat → ClassId) (sz : Nat) (a : Nat) (v : Nat) (n : Nat) (cap : Nat) (g : Nat → Nat) (sa : Nat) (sb : Nat) (k : Nat) (h : Nat → Nat) (h1 : n + k ≤ cap) (h2 : cap < 2 ^ 20) : Met lh yJ15_putStringAt (ws_ yJ15_putStringAt cJ15_putStringAt 3 none) r_J15_putStringAt (PX (fun U H => H.size = sz ∧ va_P D CL [(a, .inr (17, [.ref v, .int (nI 0), .int (nI 0), .int (nI n)])), (v, .inl (dA 1, cap, .inl (bw g n)))] H ∧ va_D nT [(a, .inr (17, [.ref v, .int (nI 0), .int (nI 0), .int (nI n)])), (v, .inl (dA 1, cap, .inl (bw g n)))] ∧ GK D dA U ∧ KC (va_A [(a, .inr (17, [.ref v, .int (nI 0), .int (nI 0), .int (nI n)])), (v, .inl (dA 1, cap, .inl (bw g n)))] sz) U H ∧ SA (va_A [(a, .inr (17, [.ref v, .int (nI 0), .int (nI 0), .int (nI n)])), (v, .inl (dA 1, cap, .inl (bw g n)))] sz) sa sb k h U H ∧ PV U) [.ref a, .int (nI n), .ref sa]) (va_Qv (fun u : Unit => True) (fun (u : Unit) t => va_P D CL [(a, .inr (17, [.ref v, .int (nI 0), .int (nI 0), .int (nI n)])), (v, .inl (dA 1, cap, .inl (bw (ap g n h) (n + k))))] t.heap ∧ va_D (va_A [(a, .inr (17, [.ref v, .int (nI 0), .int (nI 0), .int (nI n)])), (v, .inl (dA 1, cap, .inl (bw g n)))] sz) [(a, .inr (17, [.ref v, .int (nI 0), .int (nI 0), .int (nI n)])), (v, .inl (dA 1, cap, .inl (bw (ap g n h) (n + k))))] ∧ GK D dA t) (va_A [(a, .inr (17, [.ref v, .int (nI 0), .int (nI 0), .int (nI n)])), (v, .inl (dA 1, cap, .inl (bw g n)))] sz)) 0 0 (va_A [(a, .inr (17, [.ref v, .int (nI 0), .int (nI 0), .int (nI n)])), (v, .inl (dA 1, cap, .inl (bw g n)))] sz) := by
  refine Met.ofW (cc := cJ15_putStringAt) (maxL := 3) (ret := none) (by decide) rfl ?_
  intro p e s m args below meth cd s₁ B hml hv
  obtain ⟨hargs, hsz, hP, hD, hG, hKC, hSA, hPV⟩ := hv
  have hx := B.exec
  have hb := B.bytes
  have hrt := B.returns
  have hts := atoms_spec (ws := (ws_ yJ15_putStringAt cJ15_putStringAt 3 none)) B.pre
  have hts : ∀ w ∈ lw_all, w.before _ s = true := fun w h => hts w (List.mem_cons_of_mem _ h)
  have hown : s.vm.findClass RJ15 = some m.cls := findClass_of_methodNamed B.named
  have hlocks := B.notSynchronized
  subst hsz
  have hD := hD.self (sz := s.heap.size)
  have hA : ∀ q : Nat, s.heap.size ≤ q → va_A [(a, .inr (17, [.ref v, .int (nI 0), .int (nI 0), .int (nI n)])), (v, .inl (dA 1, cap, .inl (bw g n)))] s.heap.size q := fun q h => Or.inr h
  generalize va_A [(a, .inr (17, [.ref v, .int (nI 0), .int (nI 0), .int (nI n)])), (v, .inl (dA 1, cap, .inl (bw g n)))] s.heap.size = A at hD hA hKC hSA ⊢
  have hS : va_S A s.heap s.heap [] := va_S.rf
  have hE : entryFrame m args 3 = F0 m 0 ((lg_sl ([.ref a, .int (nI n), .ref sa]) ++ List.replicate (3 - (lg_sl ([.ref a, .int (nI n), .ref sa])).length) Slot.unset).toArray) [] := by rw [hargs]; exact lg_entry_eq m _ 3
  have hl := lv_entry ([.ref a, .int (nI n), .ref sa]) (n := 3) (Nat.le_of_ble_eq_true rfl)
  rw [hE]
  clear hE
  generalize (lg_sl ([.ref a, .int (nI n), .ref sa]) ++ List.replicate (3 - (lg_sl ([.ref a, .int (nI n), .ref sa])).length) Slot.unset).toArray = ls at hl ⊢
  have hl : lv_has ls 3 [(0, .ref a), (1, .int (nI n)), (2, .ref sa)] := hl
  generalize hQ : MQ _ _ _ _ _ _ _ = Q
  refine lv_aload_n hx hb dJ15_putStringAt_0 rfl (lv_at hl 0 rfl) ?_
  refine lv_aload_n hx hb dJ15_putStringAt_1 rfl (lv_at hl 2 rfl) ?_
  have hPs : va_P D CL ([(a, .inr (17, [.ref v, .int (nI 0), .int (nI 0), .int (nI n)]))] ++ [(v, .inl (dA 1, cap, .inl (bw g n)))]) s.heap := hP.sub [0, 1] rfl
  refine va_csv (va_Run.call (va_runU (As := [.ref sa]) (rest := []) ⟨hx, hb, hml, hown, hts⟩ (c_J15_inflateIfNeededFor lh D dA a v n sa sb k h) (va_cwUP 1 hts q857 q1703 (hPV _ q858 rfl) q859 q85 q860 q629 rfl rfl rfl (by decide +kernel) ⟨Nat.le_of_ble_eq_true rfl, Nat.le_of_ble_eq_true rfl⟩) ⟨PX.blind (Mv.and Mv.heap (Mv.and Mv.gk (Mv.and KC.mv SA.mv))), (va_recv hG.1 hP (ci := 17) (q0 := 0) rfl rfl), PX.pre (Mv.and Mv.heap (Mv.and Mv.gk (Mv.and KC.mv SA.mv))) ⟨(va_P_left hPs), hG, (KC.at hKC hS (fun _ h => h.elim)), (SA.narrow (hSA.kept hS.2.1) (fun _ h => h.elim))⟩⟩ rfl rfl hl.1 rfl (lv_room (Nat.le_of_ble_eq_true rfl)) dJ15_putStringAt_2 ⟨Nat.le_of_ble_eq_true rfl, Nat.le_of_ble_eq_true rfl⟩)) (fun _ => ?_)
  refine lv_aload_n hx hb dJ15_putStringAt_5 rfl (lv_at hl 2 rfl) ?_
  refine lv_aload_n hx hb dJ15_putStringAt_6 rfl (lv_at hl 0 rfl) ?_
  refine va_get (D := D) (ci := 17) (v := .ref v) (C := RJ16) (T := TJ16) (N := 4) hx hb hts in_J16 hown hG.1 hP 0 rfl rfl 0 (by decide) (hts _ q645) (fun _ h => h) rfl dJ15_putStringAt_7 ?_
  refine lv_iload_n hx hb dJ15_putStringAt_10 rfl (lv_at hl 1 rfl) ?_
  refine lv_aload_n hx hb dJ15_putStringAt_11 rfl (lv_at hl 0 rfl) ?_
  refine va_get (D := D) (ci := 17) (v := .int (nI 0)) (C := RJ16) (T := TJ16) (N := 4) hx hb hts in_J16 hown hG.1 hP 0 rfl rfl 1 (by decide) (hts _ q646) (fun _ h => h) rfl dJ15_putStringAt_12 ?_
  have hPs : va_P D CL ([(v, .inl (dA 1, cap, .inl (bw g n)))] ++ [(a, .inr (17, [.ref v, .int (nI 0), .int (nI 0), .int (nI n)]))]) s.heap := hP.sub [1, 0] rfl
  have hDs : va_D A ([(v, .inl (dA 1, cap, .inl (bw g n)))] ++ [(a, .inr (17, [.ref v, .int (nI 0), .int (nI 0), .int (nI n)]))]) := hD.sub [1, 0] (by decide) rfl
  have hz9 := hS.1
  refine va_callv (va_runV (As := [.ref v, .int (nI n), .int (nI 0)]) (rest := []) ⟨hx, hb, hml, hown, hts⟩ (c_J3_getBytes lh D dA s.heap.size sa sb k h v n cap g (h1) (h2)) (w_J3_getBytes hts q862 rfl rfl ⟨Nat.le_of_ble_eq_true rfl, Nat.le_of_ble_eq_true rfl⟩) ⟨PX.blind (Mv.and Mv.heap (Mv.and Mv.heap (Mv.and Mv.heap (Mv.and Mv.gk (Mv.and KC.mv SA.mv))))), (SA.recv (SA.at hSA hS)), PX.pre (Mv.and Mv.heap (Mv.and Mv.heap (Mv.and Mv.heap (Mv.and Mv.gk (Mv.and KC.mv SA.mv))))) ⟨rfl, (va_P_left hPs), (va_D_left hDs), hG, (KC.at hKC hS (va_A_up hDs hA hS.1)), (SA.narrow (hSA.kept hS.2.1) (va_A_up hDs hA hS.1))⟩⟩ rfl rfl hl.1 rfl (lv_room (Nat.le_of_ble_eq_true rfl)) dJ15_putStringAt_15 ⟨Nat.le_of_ble_eq_true rfl, Nat.le_of_ble_eq_true rfl⟩) hS (fun q _ => (va_A_up hDs hA hS.1) q) ((va_A_up hDs hA hS.1)) (fun u t H1 locs ht hvm hp hB hz hk hS => ?_)
  obtain ⟨hP1, hD1, -⟩ := hB
  rw [ht] at hP1
  obtain ⟨hP, hD⟩ := vp_join hPs hDs hP1 hD1 hk hA hz9
  clear ht hvm hz hk hP1 hD1 hPs hDs hz9
  generalize H1 = H at hP hS ⊢
  have hP : va_P D CL [(v, .inl (dA 1, cap, .inl (bw (ap g n h) (n + k)))), (a, .inr (17, [.ref v, .int (nI 0), .int (nI 0), .int (nI n)]))] H := hP
  have hD : va_D A [(v, .inl (dA 1, cap, .inl (bw (ap g n h) (n + k)))), (a, .inr (17, [.ref v, .int (nI 0), .int (nI 0), .int (nI n)]))] := hD
  subst hQ
  have hP9 : va_P D CL [(a, .inr (17, [.ref v, .int (nI 0), .int (nI 0), .int (nI n)])), (v, .inl (dA 1, cap, .inl (bw (ap g n h) (n + k))))] H := hP.sub [1, 0] rfl
  have hD9 : va_D A [(a, .inr (17, [.ref v, .int (nI 0), .int (nI 0), .int (nI n)])), (v, .inl (dA 1, cap, .inl (bw (ap g n h) (n + k))))] := hD.sub [1, 0] (by decide) rfl
  exact W.vret hx hb hrt (fun t ht hW => ⟨⟨(), rfl, trivial, by rw [ht]; exact hP9, hD9, GK.warm hW hG⟩, hS.F ht⟩) hS.2.2 dJ15_putStringAt_18

abbrev r_J15_append_2 : Room := { frames := 3, cells := 0, slots := 0, locals := 85 }
set_option maxHeartbeats 1000000 in
theorem c_J15_append_2 (lh : Launch) (D : va_G) (dA : Nat → ClassId) (sz : Nat) (a : Nat) (v : Nat) (n : Nat) (cap : Nat) (g : Nat → Nat) (sa : Nat) (sb : Nat) (k : Nat) (h : Nat → Nat) (h1 : n + k ≤ cap) (h2 : cap < 2 ^ 20) : Met lh yJ15_append_2 (ws_ yJ15_append_2 cJ15_append_2 3 (some (.object "java/lang/AbstractStringBuilder"))) r_J15_append_2 (PX (fun U H => H.size = sz ∧ va_P D CL [(a, .inr (17, [.ref v, .int (nI 0), .int (nI 0), .int (nI n)])), (v, .inl (dA 1, cap, .inl (bw g n)))] H ∧ va_D nT [(a, .inr (17, [.ref v, .int (nI 0), .int (nI 0), .int (nI n)])), (v, .inl (dA 1, cap, .inl (bw g n)))] ∧ GK D dA U ∧ KC (va_A [(a, .inr (17, [.ref v, .int (nI 0), .int (nI 0), .int (nI n)])), (v, .inl (dA 1, cap, .inl (bw g n)))] sz) U H ∧ SA (va_A [(a, .inr (17, [.ref v, .int (nI 0), .int (nI 0), .int (nI n)])), (v, .inl (dA 1, cap, .inl (bw g n)))] sz) sa sb k h U H ∧ PV U) [.ref a, .ref sa]) (va_Qq (fun (r : Option Nat) (u : Unit) => r = some (a)) (fun (u : Unit) t => va_P D CL [(a, .inr (17, [.ref v, .int (nI 0), .int (nI 0), .int (nI (n + k))])), (v, .inl (dA 1, cap, .inl (bw (ap g n h) (n + k))))] t.heap ∧ va_D (va_A [(a, .inr (17, [.ref v, .int (nI 0), .int (nI 0), .int (nI n)])), (v, .inl (dA 1, cap, .inl (bw g n)))] sz) [(a, .inr (17, [.ref v, .int (nI 0), .int (nI 0), .int (nI (n + k))])), (v, .inl (dA 1, cap, .inl (bw (ap g n h) (n + k))))] ∧ GK D dA t) (va_A [(a, .inr (17, [.ref v, .int (nI 0), .int (nI 0), .int (nI n)])), (v, .inl (dA 1, cap, .inl (bw g n)))] sz)) 0 0 (va_A [(a, .inr (17, [.ref v, .int (nI 0), .int (nI 0), .int (nI n)])), (v, .inl (dA 1, cap, .inl (bw g n)))] sz) := by
  refine Met.ofW (cc := cJ15_append_2) (maxL := 3) (ret := (some (.object "java/lang/AbstractStringBuilder"))) (by decide) rfl ?_
  intro p e s m args below meth cd s₁ B hml hv
  obtain ⟨hargs, hsz, hP, hD, hG, hKC, hSA, hPV⟩ := hv
  have hx := B.exec
  have hb := B.bytes
  have hrt := B.returns
  have hts := atoms_spec (ws := (ws_ yJ15_append_2 cJ15_append_2 3 (some (.object "java/lang/AbstractStringBuilder")))) B.pre
  have hts : ∀ w ∈ lw_all, w.before _ s = true := fun w h => hts w (List.mem_cons_of_mem _ h)
  have hown : s.vm.findClass RJ15 = some m.cls := findClass_of_methodNamed B.named
  have hlocks := B.notSynchronized
  subst hsz
  have hD := hD.self (sz := s.heap.size)
  have hA : ∀ q : Nat, s.heap.size ≤ q → va_A [(a, .inr (17, [.ref v, .int (nI 0), .int (nI 0), .int (nI n)])), (v, .inl (dA 1, cap, .inl (bw g n)))] s.heap.size q := fun q h => Or.inr h
  generalize va_A [(a, .inr (17, [.ref v, .int (nI 0), .int (nI 0), .int (nI n)])), (v, .inl (dA 1, cap, .inl (bw g n)))] s.heap.size = A at hD hA hKC hSA ⊢
  have hS : va_S A s.heap s.heap [] := va_S.rf
  have hE : entryFrame m args 3 = F0 m 0 ((lg_sl ([.ref a, .ref sa]) ++ List.replicate (3 - (lg_sl ([.ref a, .ref sa])).length) Slot.unset).toArray) [] := by rw [hargs]; exact lg_entry_eq m _ 3
  have hl := lv_entry ([.ref a, .ref sa]) (n := 3) (Nat.le_of_ble_eq_true rfl)
  rw [hE]
  clear hE
  generalize (lg_sl ([.ref a, .ref sa]) ++ List.replicate (3 - (lg_sl ([.ref a, .ref sa])).length) Slot.unset).toArray = ls at hl ⊢
  have hl : lv_has ls 3 [(0, .ref a), (1, .ref sa)] := hl
  generalize hQ : MQ _ _ _ _ _ _ _ = Q
  refine lv_aload_n hx hb dJ15_append_2_0 rfl (lv_at hl 1 rfl) ?_
  refine lv_ifnonnull (tgt := 9) hx hb dJ15_append_2_1 (by decide) ?_
  refine lv_aload_n hx hb dJ15_append_2_9 rfl (lv_at hl 1 rfl) ?_
  refine vp_callSi (W.runV (As := []) (rest := []) ⟨hx, hb, hml, hown, hts⟩ (c_J3_length lh sa sb k h) (w_J3_length hts q852 rfl rfl ⟨Nat.le_of_ble_eq_true rfl, Nat.le_of_ble_eq_true rfl⟩) ⟨PX.blind (Mv.and KC.mv SA.mv), (SA.recv (SA.at hSA hS)), PX.pre (Mv.and KC.mv SA.mv) ⟨(KC.at hKC hS (fun _ q => q.elim)), (SA.at hSA hS)⟩⟩ rfl rfl hl.1 rfl (lv_room (Nat.le_of_ble_eq_true rfl)) dJ15_append_2_10 ⟨Nat.le_of_ble_eq_true rfl, Nat.le_of_ble_eq_true rfl⟩) (fun rr hrr => ?_)
  subst hrr
  refine lv_istore_n (lv' := [(2, .int (nI k)), (0, .ref a), (1, .ref sa)]) hx hb dJ15_append_2_13 rfl hl (by decide) rfl (fun ls hl => ?_)
  refine lv_aload_n hx hb dJ15_append_2_14 rfl (lv_at hl 1 rfl) ?_
  refine lv_aload_n hx hb dJ15_append_2_15 rfl (lv_at hl 1 rfl) ?_
  refine va_get (D := D) (ci := 17) (v := .int (nI n)) (C := RJ16) (T := TJ16) (N := 4) hx hb hts in_J16 hown hG.1 hP 0 rfl rfl 3 (by decide) (hts _ q648) (fun _ h => h) rfl dJ15_append_2_16 ?_
  refine lv_iload_n hx hb dJ15_append_2_19 rfl (lv_at hl 0 rfl) ?_
  refine kn_add hx hb dJ15_append_2_20 ?_
  have hPs : va_P D CL ([(a, .inr (17, [.ref v, .int (nI 0), .int (nI 0), .int (nI n)])), (v, .inl (dA 1, cap, .inl (bw g n)))] ++ []) s.heap := hP.sub [0, 1] rfl
  refine va_csv (va_Run.call (va_runU (As := [.int (nI (n + k))]) (rest := []) ⟨hx, hb, hml, hown, hts⟩ (c_J15_ensureCapacityInternal_R lh D dA a v n cap (bw g n) (n + k) (h1) (by omega)) (va_cwUP 1 hts q665 q1697 (hPV _ q666 rfl) q667 q85 q668 q629 rfl rfl rfl (by decide +kernel) ⟨Nat.le_of_ble_eq_true rfl, Nat.le_of_ble_eq_true rfl⟩) ⟨PX.blind (Mv.and Mv.heap Mv.gk), (va_recv hG.1 hP (ci := 17) (q0 := 0) rfl rfl), PX.pre (Mv.and Mv.heap Mv.gk) ⟨(va_P_left hPs), hG⟩⟩ rfl rfl hl.1 rfl (lv_room (Nat.le_of_ble_eq_true rfl)) dJ15_append_2_21 ⟨Nat.le_of_ble_eq_true rfl, Nat.le_of_ble_eq_true rfl⟩)) (fun _ => ?_)
  refine lv_aload_n hx hb dJ15_append_2_24 rfl (lv_at hl 1 rfl) ?_
  refine lv_aload_n hx hb dJ15_append_2_25 rfl (lv_at hl 1 rfl) ?_
  refine va_get (D := D) (ci := 17) (v := .int (nI n)) (C := RJ16) (T := TJ16) (N := 4) hx hb hts in_J16 hown hG.1 hP 0 rfl rfl 3 (by decide) (hts _ q648) (fun _ h => h) rfl dJ15_append_2_26 ?_
  refine lv_aload_n hx hb dJ15_append_2_29 rfl (lv_at hl 2 rfl) ?_
  have hPs : va_P D CL ([(a, .inr (17, [.ref v, .int (nI 0), .int (nI 0), .int (nI n)])), (v, .inl (dA 1, cap, .inl (bw g n)))] ++ []) s.heap := hP.sub [0, 1] rfl
  have hDs : va_D A ([(a, .inr (17, [.ref v, .int (nI 0), .int (nI 0), .int (nI n)])), (v, .inl (dA 1, cap, .inl (bw g n)))] ++ []) := hD.sub [0, 1] (by decide) rfl
  have hz9 := hS.1
  refine va_callv (va_runU (As := [.int (nI n), .ref sa]) (rest := []) ⟨hx, hb, hml, hown, hts⟩ (c_J15_putStringAt lh D dA s.heap.size a v n cap g sa sb k h (h1) (h2)) (va_cwUP 2 hts q853 q1702 (hPV _ q854 rfl) q855 q85 q856 q629 rfl rfl rfl (by decide +kernel) ⟨Nat.le_of_ble_eq_true rfl, Nat.le_of_ble_eq_true rfl⟩) ⟨PX.blind (Mv.and Mv.heap (Mv.and Mv.heap (Mv.and Mv.heap (Mv.and Mv.gk (Mv.and KC.mv (Mv.and SA.mv PV.mv)))))), (va_recv hG.1 hP (ci := 17) (q0 := 0) rfl rfl), PX.pre (Mv.and Mv.heap (Mv.and Mv.heap (Mv.and Mv.heap (Mv.and Mv.gk (Mv.and KC.mv (Mv.and SA.mv PV.mv)))))) ⟨rfl, (va_P_left hPs), (va_D_left hDs), hG, (KC.at hKC hS (va_A_up hDs hA hS.1)), (SA.narrow (hSA.kept hS.2.1) (va_A_up hDs hA hS.1)), hPV⟩⟩ rfl rfl hl.1 rfl (lv_room (Nat.le_of_ble_eq_true rfl)) dJ15_append_2_30 ⟨Nat.le_of_ble_eq_true rfl, Nat.le_of_ble_eq_true rfl⟩) hS (fun q _ => (va_A_up hDs hA hS.1) q) ((va_A_up hDs hA hS.1)) (fun u t H1 locs ht hvm hp hB hz hk hS => ?_)
  obtain ⟨hP1, hD1, -⟩ := hB
  rw [ht] at hP1
  obtain ⟨hP, hD⟩ := vp_join hPs hDs hP1 hD1 hk hA hz9
  clear ht hvm hz hk hP1 hD1 hPs hDs hz9
  generalize H1 = H at hP hS ⊢
  have hP : va_P D CL [(a, .inr (17, [.ref v, .int (nI 0), .int (nI 0), .int (nI n)])), (v, .inl (dA 1, cap, .inl (bw (ap g n h) (n + k))))] H := hP
  have hD : va_D A [(a, .inr (17, [.ref v, .int (nI 0), .int (nI 0), .int (nI n)])), (v, .inl (dA 1, cap, .inl (bw (ap g n h) (n + k))))] := hD
  refine lv_aload_n hx hb dJ15_append_2_33 rfl (lv_at hl 1 rfl) ?_
  refine lv_dup hx hb dJ15_append_2_34 rfl ?_
  refine va_get (D := D) (ci := 17) (v := .int (nI n)) (C := RJ16) (T := TJ16) (N := 4) hx hb hts in_J16 hown hG.1 hP 0 rfl rfl 3 (by decide) (hts _ q648) (fun _ h => h) rfl dJ15_append_2_35 ?_
  refine lv_iload_n hx hb dJ15_append_2_38 rfl (lv_at hl 0 rfl) ?_
  refine kn_add hx hb dJ15_append_2_39 ?_
  refine va_put (D := D) (ci := 17) (v := .int (nI (n + k))) (C := RJ16) (T := TJ16) (N := 4) hx hb hts in_J16 tyJ16 tyJ16_ok nmJ16 hown hG.1 hP hD hS 0 rfl rfl 3 (by decide) (hts _ q648) (fun _ h => h) rfl rfl (rfl) (rfl) (Nat.le_of_ble_eq_true rfl) dJ15_append_2_40 (fun H locs hP hD hS => ?_)
  have hP : va_P D CL [(a, .inr (17, [.ref v, .int (nI 0), .int (nI 0), .int (nI (n + k))])), (v, .inl (dA 1, cap, .inl (bw (ap g n h) (n + k))))] H := hP
  have hD : va_D A [(a, .inr (17, [.ref v, .int (nI 0), .int (nI 0), .int (nI (n + k))])), (v, .inl (dA 1, cap, .inl (bw (ap g n h) (n + k))))] := hD
  refine lv_aload_n hx hb dJ15_append_2_43 rfl (lv_at hl 1 rfl) ?_
  subst hQ
  have hP9 : va_P D CL [(a, .inr (17, [.ref v, .int (nI 0), .int (nI 0), .int (nI (n + k))])), (v, .inl (dA 1, cap, .inl (bw (ap g n h) (n + k))))] H := hP.sub [0, 1] rfl
  have hD9 : va_D A [(a, .inr (17, [.ref v, .int (nI 0), .int (nI 0), .int (nI (n + k))])), (v, .inl (dA 1, cap, .inl (bw (ap g n h) (n + k))))] := hD.sub [0, 1] (by decide) rfl
  exact W.aret (v := va_rf (some (a))) hx hb hrt (Or.inl ⟨_, rfl⟩) (va_rf_or _) (fun t ht hW => ⟨⟨(some (a)), (), rfl, rfl, by rw [ht]; exact hP9, hD9, GK.warm hW hG⟩, hS.F ht⟩) hS.2.2 dJ15_append_2_44

abbrev r_J16_append_2 : Room := { frames := 4, cells := 0, slots := 0, locals := 107 }
set_option maxHeartbeats 1000000 in
theorem c_J16_append_2 (lh : Launch) (D : va_G) (dA : Nat → ClassId) (sz : Nat) (a : Nat) (v : Nat) (n : Nat) (cap : Nat) (g : Nat → Nat) (sa : Nat) (sb : Nat) (k : Nat) (h : Nat → Nat) (h1 : n + k ≤ cap) (h2 : cap < 2 ^ 20) : Met lh yJ16_append_2 (ws_ yJ16_append_2 cJ16_append_2 2 (some (.object "java/lang/StringBuilder"))) r_J16_append_2 (PX (fun U H => H.size = sz ∧ va_P D CL [(a, .inr (17, [.ref v, .int (nI 0), .int (nI 0), .int (nI n)])), (v, .inl (dA 1, cap, .inl (bw g n)))] H ∧ va_D nT [(a, .inr (17, [.ref v, .int (nI 0), .int (nI 0), .int (nI n)])), (v, .inl (dA 1, cap, .inl (bw g n)))] ∧ GK D dA U ∧ KC (va_A [(a, .inr (17, [.ref v, .int (nI 0), .int (nI 0), .int (nI n)])), (v, .inl (dA 1, cap, .inl (bw g n)))] sz) U H ∧ SA (va_A [(a, .inr (17, [.ref v, .int (nI 0), .int (nI 0), .int (nI n)])), (v, .inl (dA 1, cap, .inl (bw g n)))] sz) sa sb k h U H ∧ PV U) [.ref a, .ref sa]) (va_Qq (fun (r : Option Nat) (u : Unit) => r = some (a)) (fun (u : Unit) t => va_P D CL [(a, .inr (17, [.ref v, .int (nI 0), .int (nI 0), .int (nI (n + k))])), (v, .inl (dA 1, cap, .inl (bw (ap g n h) (n + k))))] t.heap ∧ va_D (va_A [(a, .inr (17, [.ref v, .int (nI 0), .int (nI 0), .int (nI n)])), (v, .inl (dA 1, cap, .inl (bw g n)))] sz) [(a, .inr (17, [.ref v, .int (nI 0), .int (nI 0), .int (nI (n + k))])), (v, .inl (dA 1, cap, .inl (bw (ap g n h) (n + k))))] ∧ GK D dA t) (va_A [(a, .inr (17, [.ref v, .int (nI 0), .int (nI 0), .int (nI n)])), (v, .inl (dA 1, cap, .inl (bw g n)))] sz)) 0 0 (va_A [(a, .inr (17, [.ref v, .int (nI 0), .int (nI 0), .int (nI n)])), (v, .inl (dA 1, cap, .inl (bw g n)))] sz) := by
  refine Met.ofW (cc := cJ16_append_2) (maxL := 2) (ret := (some (.object "java/lang/StringBuilder"))) (by decide) rfl ?_
  intro p e s m args below meth cd s₁ B hml hv
  obtain ⟨hargs, hsz, hP, hD, hG, hKC, hSA, hPV⟩ := hv
  have hx := B.exec
  have hb := B.bytes
  have hrt := B.returns
  have hts := atoms_spec (ws := (ws_ yJ16_append_2 cJ16_append_2 2 (some (.object "java/lang/StringBuilder")))) B.pre
  have hts : ∀ w ∈ lw_all, w.before _ s = true := fun w h => hts w (List.mem_cons_of_mem _ h)
  have hown : s.vm.findClass RJ16 = some m.cls := findClass_of_methodNamed B.named
  have hlocks := B.notSynchronized
  subst hsz
  have hD := hD.self (sz := s.heap.size)
  have hA : ∀ q : Nat, s.heap.size ≤ q → va_A [(a, .inr (17, [.ref v, .int (nI 0), .int (nI 0), .int (nI n)])), (v, .inl (dA 1, cap, .inl (bw g n)))] s.heap.size q := fun q h => Or.inr h
  generalize va_A [(a, .inr (17, [.ref v, .int (nI 0), .int (nI 0), .int (nI n)])), (v, .inl (dA 1, cap, .inl (bw g n)))] s.heap.size = A at hD hA hKC hSA ⊢
  have hS : va_S A s.heap s.heap [] := va_S.rf
  have hE : entryFrame m args 2 = F0 m 0 ((lg_sl ([.ref a, .ref sa]) ++ List.replicate (2 - (lg_sl ([.ref a, .ref sa])).length) Slot.unset).toArray) [] := by rw [hargs]; exact lg_entry_eq m _ 2
  have hl := lv_entry ([.ref a, .ref sa]) (n := 2) (Nat.le_of_ble_eq_true rfl)
  rw [hE]
  clear hE
  generalize (lg_sl ([.ref a, .ref sa]) ++ List.replicate (2 - (lg_sl ([.ref a, .ref sa])).length) Slot.unset).toArray = ls at hl ⊢
  have hl : lv_has ls 2 [(0, .ref a), (1, .ref sa)] := hl
  generalize hQ : MQ _ _ _ _ _ _ _ = Q
  refine lv_aload_n hx hb dJ16_append_2_0 rfl (lv_at hl 0 rfl) ?_
  refine lv_aload_n hx hb dJ16_append_2_1 rfl (lv_at hl 1 rfl) ?_
  have hPs : va_P D CL ([(a, .inr (17, [.ref v, .int (nI 0), .int (nI 0), .int (nI n)])), (v, .inl (dA 1, cap, .inl (bw g n)))] ++ []) s.heap := hP.sub [0, 1] rfl
  have hDs : va_D A ([(a, .inr (17, [.ref v, .int (nI 0), .int (nI 0), .int (nI n)])), (v, .inl (dA 1, cap, .inl (bw g n)))] ++ []) := hD.sub [0, 1] (by decide) rfl
  have hz9 := hS.1
  refine va_callq (va_runSU (hG.1.1 17 _ rfl).2 (As := [.ref sa]) (rest := []) ⟨hx, hb, hml, hown, hts⟩ (c_J15_append_2 lh D dA s.heap.size a v n cap g sa sb k h (h1) (h2)) (va_cwSU 1 hts (lw_SU q833 q1700 q657 q834 q85 q835) rfl rfl rfl (by decide +kernel) ⟨Nat.le_of_ble_eq_true rfl, Nat.le_of_ble_eq_true rfl⟩) ⟨PX.blind (Mv.and Mv.heap (Mv.and Mv.heap (Mv.and Mv.heap (Mv.and Mv.gk (Mv.and KC.mv (Mv.and SA.mv PV.mv)))))), (va_recv hG.1 hP (ci := 17) (q0 := 0) rfl rfl), PX.pre (Mv.and Mv.heap (Mv.and Mv.heap (Mv.and Mv.heap (Mv.and Mv.gk (Mv.and KC.mv (Mv.and SA.mv PV.mv)))))) ⟨rfl, (va_P_left hPs), (va_D_left hDs), hG, (KC.at hKC hS (va_A_up hDs hA hS.1)), (SA.narrow (hSA.kept hS.2.1) (va_A_up hDs hA hS.1)), hPV⟩⟩ rfl rfl hl.1 rfl (lv_room (Nat.le_of_ble_eq_true rfl)) dJ16_append_2_2 ⟨Nat.le_of_ble_eq_true rfl, Nat.le_of_ble_eq_true rfl⟩) hS (fun q _ => (va_A_up hDs hA hS.1) q) ((va_A_up hDs hA hS.1)) (fun rr u t H1 locs ht hvm hp hB hz hk hS => ?_)
  obtain ⟨hP1, hD1, -⟩ := hB
  rw [ht] at hP1
  obtain ⟨hP, hD⟩ := vp_join hPs hDs hP1 hD1 hk hA hz9
  clear ht hvm hz hk hP1 hD1 hPs hDs hz9
  generalize H1 = H at hP hS ⊢
  have hP : va_P D CL [(a, .inr (17, [.ref v, .int (nI 0), .int (nI 0), .int (nI (n + k))])), (v, .inl (dA 1, cap, .inl (bw (ap g n h) (n + k))))] H := hP
  have hD : va_D A [(a, .inr (17, [.ref v, .int (nI 0), .int (nI 0), .int (nI (n + k))])), (v, .inl (dA 1, cap, .inl (bw (ap g n h) (n + k))))] := hD
  have hrr := hp
  try dsimp only at hrr
  subst hrr
  show W p lh e r_J16_append_2 s m args below meth cd _ _ _ _ Q (F0 m _ ls (.ref a :: _))
  refine lv_pop hx hb dJ16_append_2_5 rfl ?_
  refine lv_aload_n hx hb dJ16_append_2_6 rfl (lv_at hl 0 rfl) ?_
  subst hQ
  have hP9 : va_P D CL [(a, .inr (17, [.ref v, .int (nI 0), .int (nI 0), .int (nI (n + k))])), (v, .inl (dA 1, cap, .inl (bw (ap g n h) (n + k))))] H := hP.sub [0, 1] rfl
  have hD9 : va_D A [(a, .inr (17, [.ref v, .int (nI 0), .int (nI 0), .int (nI (n + k))])), (v, .inl (dA 1, cap, .inl (bw (ap g n h) (n + k))))] := hD.sub [0, 1] (by decide) rfl
  exact W.aret (v := va_rf (some (a))) hx hb hrt (Or.inl ⟨_, rfl⟩) (va_rf_or _) (fun t ht hW => ⟨⟨(some (a)), (), rfl, rfl, by rw [ht]; exact hP9, hD9, GK.warm hW hG⟩, hS.F ht⟩) hS.2.2 dJ16_append_2_7
theorem w_J16_append_2 {R : Room} {s : State} {args : Array Value} {own : String} {idx : Nat} (hts : ∀ w ∈ lw_all, w.before args s = true) (h1 : Cond.methodLink own idx yJ16_append_2 ∈ lw_all) {rm : Room} {mc ms : Nat} (hrc : rm.cells = mc) (hrs : rm.slots = ms) (hR : rm.frames + 1 ≤ R.frames ∧ 8 + (2 + 11) + rm.locals ≤ R.locals) : CallW R s args own RJ16 idx yJ16_append_2 cJ16_append_2 2 (some (.object "java/lang/StringBuilder")) (ws_ yJ16_append_2 cJ16_append_2 2 (some (.object "java/lang/StringBuilder"))) rm mc ms 1 := cwV 1 hts (lw_V h1 q830 q831 q86 q832) rfl hrc hrs (by decide +kernel) hR
