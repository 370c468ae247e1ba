set_option maxRecDepth 100000
abbrev r_X2_actAtHand : Room := { frames := 5, cells := 0, slots := 0, locals := 111 }
set_option maxHeartbeats 400000 in
theorem c_X2_actAtHand (lh : Launch) (D : va_G) (dA : Nat → ClassId) (a0 : Nat) (ad : Nat → Nat) (N : Nat → Nat) (I : Nat → Int32) (G : Nat → Nat → Nat) (J : Nat → Nat → Int32) (K : Nat → Nat) (h1 : PsOk N) : Met lh yX2_actAtHand (ws_ yX2_actAtHand cX2_actAtHand 1 (some .int)) r_X2_actAtHand (PX (fun U H => RM D dA a0 ad N I G J H ∧ GK D dA U ∧ KZ K nA U H) [.ref a0]) (vp_Si (fun rv => rv = oI (whQ N J 13))) 0 0 (fun _ => False) := by
  refine Met.ofW (cc := cX2_actAtHand) (maxL := 1) (ret := (some .int)) (by decide) rfl ?_
  intro p e s m args below meth cd s₁ B hml hv
  obtain ⟨hargs, hM, hG, hKZ⟩ := hv
  have hS : va_S nA s.heap s.heap [] := va_S.rf
  have hx := B.exec
  have hb := B.bytes
  have hrt := B.returns
  have hts := atoms_spec (ws := (ws_ yX2_actAtHand cX2_actAtHand 1 (some .int))) B.pre
  have hts : ∀ w ∈ lw_all, w.before _ s = true := fun w h => hts w (List.mem_cons_of_mem _ h)
  have hown : s.vm.findClass RX2 = some m.cls := findClass_of_methodNamed B.named
  have hlocks := B.notSynchronized
  have hE : entryFrame m args 1 = F0 m 0 ((lg_sl ([.ref a0]) ++ List.replicate (1 - (lg_sl ([.ref a0])).length) Slot.unset).toArray) [] := by rw [hargs]; exact lg_entry_eq m _ 1
  have hl := lv_entry ([.ref a0]) (n := 1) (Nat.le_of_ble_eq_true rfl)
  rw [hE]
  clear hE
  generalize (lg_sl ([.ref a0]) ++ List.replicate (1 - (lg_sl ([.ref a0])).length) Slot.unset).toArray = ls at hl ⊢
  have hl : lv_has ls 1 [(0, .ref a0)] := hl
  generalize hQ : MQ _ _ _ _ _ _ _ = Q
  refine lv_aload_n hx hb dX2_actAtHand_0 rfl (lv_at hl 0 rfl) ?_
  refine va_ldcS hx hb hown (show vk_R RX2 211 "press throw ready cool warm salt " (K 13) s from hKZ.2.2 13 (by decide)) dX2_actAtHand_1 ?_
  refine vp_callSi (W.runV (As := [.ref (K 13)]) (rest := []) ⟨hx, hb, hml, hown, hts⟩ (c_X2_which lh D dA a0 ad N I G J (K 13) (K (100 + 13)) (klen 13) (kch 13) (h1)) (w_X2_which hts q1551 rfl rfl ⟨Nat.le_of_ble_eq_true rfl, Nat.le_of_ble_eq_true rfl⟩) ⟨PX.blind (Mv.and Mv.heap (Mv.and Mv.gk (Mv.and KC.mv SA.mv))), M_recv hG hM, PX.pre (Mv.and Mv.heap (Mv.and Mv.gk (Mv.and KC.mv SA.mv))) ⟨hM, hG, (KZ.kc hKZ hS), (KZ.str hKZ hS 13 (by decide))⟩⟩ rfl rfl hl.1 rfl (lv_room (Nat.le_of_ble_eq_true rfl)) dX2_actAtHand_3 ⟨Nat.le_of_ble_eq_true rfl, Nat.le_of_ble_eq_true rfl⟩) (fun rr hrr => ?_)
  subst hrr
  refine kx_int (y := oI (whQ N J 13)) rfl ?_
  rcases ho3 : whQ N J 13 with _ | k3
  · show W p lh e r_X2_actAtHand s m args below meth cd _ _ _ _ Q (F0 m _ ls (.int (-1) :: _))
    subst hQ
    exact W.iret (v := (-1)) hx hb hrt (fun t ht _ => ⟨_, rfl, (show (-1) = oI (whQ N J 13) from by rw [ho3]; rfl), ht⟩) t_nil dX2_actAtHand_6
  · show W p lh e r_X2_actAtHand s m args below meth cd _ _ _ _ Q (F0 m _ ls (.int (nI k3) :: _))
    have hk3 := whQ13 ho3
    subst hQ
    exact W.iret (v := nI k3) hx hb hrt (fun t ht _ => ⟨_, rfl, (show nI k3 = oI (whQ N J 13) from by rw [ho3]; rfl), ht⟩) t_nil dX2_actAtHand_6
theorem w_X2_actAtHand {R : Room} {s : State} {args : Array Value} {own : String} {idx : Nat} (hts : ∀ w ∈ lw_all, w.before args s = true) (h1 : Cond.methodLink own idx yX2_actAtHand ∈ lw_all) {rm : Room} {mc ms : Nat} (hrc : rm.cells = mc) (hrs : rm.slots = ms) (hR : rm.frames + 1 ≤ R.frames ∧ 8 + (1 + 11) + rm.locals ≤ R.locals) : CallW R s args own RX2 idx yX2_actAtHand cX2_actAtHand 1 (some .int) (ws_ yX2_actAtHand cX2_actAtHand 1 (some .int)) rm mc ms 0 := cwV 0 hts (lw_V h1 q1548 qs40 q70 q1549) rfl hrc hrs (by decide +kernel) hR

abbrev r_X2_must : Room := { frames := 5, cells := 0, slots := 0, locals := 108 }
set_option maxHeartbeats 400000 in
theorem c_X2_must (lh : Launch) (D : va_G) (dA : Nat → ClassId) (a0 : Nat) (ad : Nat → Nat) (N : Nat → Nat) (I : Nat → Int32) (G : Nat → Nat → Nat) (J : Nat → Nat → Int32) (sz : Nat) (w : Nat) (b : Nat) (n : Nat) (f : Nat → Nat) (h1 : PsOk N) : Met lh yX2_must (ws_ yX2_must cX2_must 2 (some .boolean)) r_X2_must (PX (fun U H => H.size = sz ∧ RM D dA a0 ad N I G J H ∧ GK D dA U ∧ KC nA U H ∧ SA nA w b n f U H) [.ref a0, .ref w]) (va_Qi (fun (r : Int32) (u : SgT) => r = bI (isT N J n f n) ∧ u = (muN N J (isT N J n f n), muI N I (isT N J n f n), G, J)) (BmM D dA a0 ad) (AM a0 ad sz)) 0 0 (AM a0 ad sz) := by
  refine Met.ofW (cc := cX2_must) (maxL := 2) (ret := (some .boolean)) (by decide) rfl ?_
  intro p e s m args below meth cd s₁ B hml hv
  obtain ⟨hargs, hsz, hM, hG, hKC, h_w⟩ := hv
  have hx := B.exec
  have hb := B.bytes
  have hrt := B.returns
  have hts := atoms_spec (ws := (ws_ yX2_must cX2_must 2 (some .boolean))) B.pre
  have hts : ∀ w ∈ lw_all, w.before _ s = true := fun w h => hts w (List.mem_cons_of_mem _ h)
  have hown : s.vm.findClass RX2 = some m.cls := findClass_of_methodNamed B.named
  have hlocks := B.notSynchronized
  subst hsz
  have hS : va_S (AM a0 ad s.heap.size) s.heap s.heap [] := va_S.rf
  have hE : entryFrame m args 2 = F0 m 0 ((lg_sl ([.ref a0, .ref w]) ++ List.replicate (2 - (lg_sl ([.ref a0, .ref w])).length) Slot.unset).toArray) [] := by rw [hargs]; exact lg_entry_eq m _ 2
  have hl := lv_entry ([.ref a0, .ref w]) (n := 2) (Nat.le_of_ble_eq_true rfl)
  rw [hE]
  clear hE
  generalize (lg_sl ([.ref a0, .ref w]) ++ List.replicate (2 - (lg_sl ([.ref a0, .ref w])).length) Slot.unset).toArray = ls at hl ⊢
  have hl : lv_has ls 2 [(0, .ref a0), (1, .ref w)] := hl
  generalize hQ : MQ _ _ _ _ _ _ _ = Q
  refine lv_aload_n hx hb dX2_must_0 rfl (lv_at hl 0 rfl) ?_
  refine lv_aload_n hx hb dX2_must_1 rfl (lv_at hl 1 rfl) ?_
  refine vp_callSi (W.runV (As := [.ref w]) (rest := []) ⟨hx, hb, hml, hown, hts⟩ (c_X2_is lh D dA a0 ad N I G J w b n f (h1)) (w_X2_is hts q1540 rfl rfl ⟨Nat.le_of_ble_eq_true rfl, Nat.le_of_ble_eq_true rfl⟩) ⟨PX.blind (Mv.and Mv.heap (Mv.and Mv.gk (Mv.and KC.mv SA.mv))), M_recv hG hM, PX.pre (Mv.and Mv.heap (Mv.and Mv.gk (Mv.and KC.mv SA.mv))) ⟨hM, hG, hKC, h_w⟩⟩ rfl rfl hl.1 rfl (lv_room (Nat.le_of_ble_eq_true rfl)) dX2_must_2 ⟨Nat.le_of_ble_eq_true rfl, Nat.le_of_ble_eq_true rfl⟩) (fun rr hrr => ?_)
  subst hrr
  refine kb_ne (tgt := 14) hx hb dX2_must_5 (by decide) (fun c_5 => ?_) (fun c_5 => ?_)
  · refine lv_aload_n hx hb dX2_must_14 rfl (lv_at hl 0 rfl) ?_
    refine va_callv (va_runV (As := []) (rest := []) ⟨hx, hb, hml, hown, hts⟩ (c_X2_token lh D dA a0 ad N I G J s.heap.size (h1.1) (h1.2.2.1)) (w_X2_token hts q1527 rfl rfl ⟨Nat.le_of_ble_eq_true rfl, Nat.le_of_ble_eq_true rfl⟩) ⟨PmM.blind, M_recv hG hM, PmM.pre hG hM⟩ rfl rfl hl.1 rfl (lv_room (Nat.le_of_ble_eq_true rfl)) dX2_must_15 ⟨Nat.le_of_ble_eq_true rfl, Nat.le_of_ble_eq_true rfl⟩) hS (fun q _ h => AM.up (hS.1) q h) (fun q h => AM.up (hS.1) q h) (fun u t H1 locs ht hvm hp hB hz hk hS => ?_)
    obtain ⟨hM, -⟩ := hB
    rw [ht] at hM
    clear ht hz hk
    generalize H1 = H at hM hS ⊢
    subst hp
    dsimp only at hM
    refine lv_iconst (v := nI 1) hx hb dX2_must_18 (by decide) ?_
    subst hQ
    exact W.zret (v := nI 1) hx hb hrt rfl (fun t ht hW => ⟨⟨_, ((tokN N J), I, G, J), rfl, (by rw [c_5]; exact ⟨rfl, rfl⟩), by rw [ht]; exact hM, GK.warm hW hG⟩, hS.F ht⟩) hS.2.2 dX2_must_19
  · refine lv_aload_n hx hb dX2_must_8 rfl (lv_at hl 0 rfl) ?_
    refine lv_iconst (v := nI 1) hx hb dX2_must_9 (by decide) ?_
    refine va_calli (va_runV (As := [.int (nI 1)]) (rest := []) ⟨hx, hb, hml, hown, hts⟩ (c_X2_wrong lh D dA a0 ad N I G J s.heap.size 1 (by have := h1.2.2.2.1; omega)) (w_X2_wrong hts q1555 rfl rfl ⟨Nat.le_of_ble_eq_true rfl, Nat.le_of_ble_eq_true rfl⟩) ⟨PmM.blind, M_recv hG hM, PmM.pre hG hM⟩ rfl rfl hl.1 rfl (lv_room (Nat.le_of_ble_eq_true rfl)) dX2_must_10 ⟨Nat.le_of_ble_eq_true rfl, Nat.le_of_ble_eq_true rfl⟩) hS (fun q _ h => AM.up (hS.1) q h) (fun q h => AM.up (hS.1) q h) (fun rr u t H1 locs ht hvm hp hB hz hk hS => ?_)
    obtain ⟨hM, -⟩ := hB
    rw [ht] at hM
    clear ht hz hk
    generalize H1 = H at hM hS ⊢
    obtain ⟨hrr, hu⟩ := hp
    subst hrr hu
    dsimp only at hM
    subst hQ
    exact W.zret (v := nI 0) hx hb hrt rfl (fun t ht hW => ⟨⟨_, ((wrN N 1), (wrI N I), G, J), rfl, (by rw [c_5]; exact ⟨rfl, rfl⟩), by rw [ht]; exact hM, GK.warm hW hG⟩, hS.F ht⟩) hS.2.2 dX2_must_13
theorem w_X2_must {R : Room} {s : State} {args : Array Value} {own : String} {idx : Nat} (hts : ∀ w ∈ lw_all, w.before args s = true) (h1 : Cond.methodLink own idx yX2_must ∈ lw_all) {rm : Room} {mc ms : Nat} (hrc : rm.cells = mc) (hrs : rm.slots = ms) (hR : rm.frames + 1 ≤ R.frames ∧ 8 + (2 + 11) + rm.locals ≤ R.locals) : CallW R s args own RX2 idx yX2_must cX2_must 2 (some .boolean) (ws_ yX2_must cX2_must 2 (some .boolean)) rm mc ms 1 := cwV 1 hts (lw_V h1 q1575 qs45 q70 q1576) rfl hrc hrs (by decide +kernel) hR

abbrev r_X2_condition : Room := { frames := 5, cells := 0, slots := 0, locals := 111 }
set_option maxHeartbeats 400000 in
theorem c_X2_condition (lh : Launch) (D : va_G) (dA : Nat → ClassId) (a0 : Nat) (ad : Nat → Nat) (N : Nat → Nat) (I : Nat → Int32) (G : Nat → Nat → Nat) (J : Nat → Nat → Int32) (sz : Nat) (K : Nat → Nat) (r : Nat) (h1 : PsOk N) (h2 : ∀ a b, G a b < 2 ^ 31) (h3 : r < 110) (h4 : G 28 r ≤ 3) : Met lh yX2_condition (ws_ yX2_condition cX2_condition 4 (some .boolean)) r_X2_condition (PX (fun U H => H.size = sz ∧ RM D dA a0 ad N I G J H ∧ GK D dA U ∧ KZ K (AM a0 ad sz) U H) [.ref a0, .int (nI r)]) (va_Qi (fun (r' : Int32) (u : SgT) => r' = bI (coT N I G J r).1 ∧ u = ((coT N I G J r).2.1, (coT N I G J r).2.2.1, (coT N I G J r).2.2.2, J)) (BmM D dA a0 ad) (AM a0 ad sz)) 0 0 (AM a0 ad sz) := by
  refine Met.ofW (cc := cX2_condition) (maxL := 4) (ret := (some .boolean)) (by decide) rfl ?_
  intro p e s m args below meth cd s₁ B hml hv
  obtain ⟨hargs, hsz, hM, hG, hKZ⟩ := hv
  have hx := B.exec
  have hb := B.bytes
  have hrt := B.returns
  have hts := atoms_spec (ws := (ws_ yX2_condition cX2_condition 4 (some .boolean))) B.pre
  have hts : ∀ w ∈ lw_all, w.before _ s = true := fun w h => hts w (List.mem_cons_of_mem _ h)
  have hown : s.vm.findClass RX2 = some m.cls := findClass_of_methodNamed B.named
  have hlocks := B.notSynchronized
  subst hsz
  have hS : va_S (AM a0 ad s.heap.size) s.heap s.heap [] := va_S.rf
  have hE : entryFrame m args 4 = F0 m 0 ((lg_sl ([.ref a0, .int (nI r)]) ++ List.replicate (4 - (lg_sl ([.ref a0, .int (nI r)])).length) Slot.unset).toArray) [] := by rw [hargs]; exact lg_entry_eq m _ 4
  have hl := lv_entry ([.ref a0, .int (nI r)]) (n := 4) (Nat.le_of_ble_eq_true rfl)
  rw [hE]
  clear hE
  generalize (lg_sl ([.ref a0, .int (nI r)]) ++ List.replicate (4 - (lg_sl ([.ref a0, .int (nI r)])).length) Slot.unset).toArray = ls at hl ⊢
  have hl : lv_has ls 4 [(0, .ref a0), (1, .int (nI r))] := hl
  generalize hQ : MQ _ _ _ _ _ _ _ = Q
  obtain ⟨p33, p37, p38, p34, p36, p39⟩ := id h1
  refine lv_aload_n hx hb dX2_condition_0 rfl (lv_at hl 0 rfl) ?_
  refine va_ldcS hx hb hown (show vk_R RX2 217 "low high gas salt hours tests cold day " (K 14) s from hKZ.2.2 14 (by decide)) dX2_condition_1 ?_
  refine vp_callSi (W.runV (As := [.ref (K 14)]) (rest := []) ⟨hx, hb, hml, hown, hts⟩ (c_X2_which lh D dA a0 ad N I G J (K 14) (K (100 + 14)) (klen 14) (kch 14) (h1)) (w_X2_which hts q1551 rfl rfl ⟨Nat.le_of_ble_eq_true rfl, Nat.le_of_ble_eq_true rfl⟩) ⟨PX.blind (Mv.and Mv.heap (Mv.and Mv.gk (Mv.and KC.mv SA.mv))), M_recv hG hM, PX.pre (Mv.and Mv.heap (Mv.and Mv.gk (Mv.and KC.mv SA.mv))) ⟨hM, hG, (KZ.kc hKZ hS), (KZ.str hKZ hS 14 (by decide))⟩⟩ rfl rfl hl.1 rfl (lv_room (Nat.le_of_ble_eq_true rfl)) dX2_condition_3 ⟨Nat.le_of_ble_eq_true rfl, Nat.le_of_ble_eq_true rfl⟩) (fun rr hrr => ?_)
  subst hrr
  refine kx_int (y := oI (whQ N J 14)) rfl ?_
  rcases ho3 : whQ N J 14 with _ | k3
  · show W p lh e r_X2_condition s m args below meth cd _ _ _ _ Q (F0 m _ ls (.int (-1) :: _))
    refine lv_istore_n (lv' := [(2, .int (-1)), (0, .ref a0), (1, .int (nI r))]) hx hb dX2_condition_6 rfl hl (by decide) rfl (fun ls hl => ?_)
    refine lv_iload_n hx hb dX2_condition_7 rfl (lv_at hl 0 rfl) ?_
    refine lv_iconst (v := -1) hx hb dX2_condition_8 (by decide) ?_
    refine lv_icmp_ne (tgt := 18) hx hb dX2_condition_9 (by decide) (fun c => absurd rfl c) (fun _ => ?_)
    refine lv_aload_n hx hb dX2_condition_12 rfl (lv_at hl 1 rfl) ?_
    refine lv_iconst (v := nI 1) hx hb dX2_condition_13 (by decide) ?_
    refine va_calli (va_runV (As := [.int (nI 1)]) (rest := []) ⟨hx, hb, hml, hown, hts⟩ (c_X2_wrong lh D dA a0 ad N I G J s.heap.size 1 (by have := h1.2.2.2.1; omega)) (w_X2_wrong hts q1555 rfl rfl ⟨Nat.le_of_ble_eq_true rfl, Nat.le_of_ble_eq_true rfl⟩) ⟨PmM.blind, M_recv hG hM, PmM.pre hG hM⟩ rfl rfl hl.1 rfl (lv_room (Nat.le_of_ble_eq_true rfl)) dX2_condition_14 ⟨Nat.le_of_ble_eq_true rfl, Nat.le_of_ble_eq_true rfl⟩) hS (fun q _ h => AM.up (hS.1) q h) (fun q h => AM.up (hS.1) q h) (fun rr u t H1 locs ht hvm hp hB hz hk hS => ?_)
    obtain ⟨hM, -⟩ := hB
    rw [ht] at hM
    clear ht hz hk
    generalize H1 = H at hM hS ⊢
    obtain ⟨hrr, hu⟩ := hp
    subst hrr hu
    dsimp only at hM
    subst hQ
    exact W.zret (v := nI 0) hx hb hrt rfl (fun t ht hW => ⟨⟨_, ((wrN N 1), (wrI N I), G, J), rfl, (by rw [show coT N I G J r = (false, wrN N 1, wrI N I, G) from by unfold coT; rw [ho3]]; exact ⟨rfl, rfl⟩), by rw [ht]; exact hM, GK.warm hW hG⟩, hS.F ht⟩) hS.2.2 dX2_condition_17
  · show W p lh e r_X2_condition s m args below meth cd _ _ _ _ Q (F0 m _ ls (.int (nI k3) :: _))
    have hk3 := whQ14 ho3
    refine lv_istore_n (lv' := [(2, .int (nI k3)), (0, .ref a0), (1, .int (nI r))]) hx hb dX2_condition_6 rfl hl (by decide) rfl (fun ls hl => ?_)
    refine lv_iload_n hx hb dX2_condition_7 rfl (lv_at hl 0 rfl) ?_
    refine lv_iconst (v := -1) hx hb dX2_condition_8 (by decide) ?_
    refine lv_icmp_ne (tgt := 18) hx hb dX2_condition_9 (by decide) (fun _ => ?_) (fun c => absurd c (nI_nm1 (by omega)))
    refine lv_aload_n hx hb dX2_condition_18 rfl (lv_at hl 1 rfl) ?_
    refine M_get (v := .ref (ad 28)) hx hb hts hown hG hM 28 (by decide) q1320 rfl rfl dX2_condition_19 ?_
    refine lv_iload_n hx hb dX2_condition_22 rfl (lv_at hl 2 rfl) ?_
    refine M_iald (v := nI (G 28 r)) hx hb hG hM 28 rfl rfl (show r < 110 from by omega) (rfl) dX2_condition_23 ?_
    refine lv_iconst (v := nI 3) hx hb dX2_condition_24 (by decide) ?_
    refine kn_cne (tgt := 34) hx hb dX2_condition_25 (by decide) (by omega) (by omega) (fun c_25 => ?_) (fun c_25 => ?_)
    · refine lv_iconst (v := nI 3) hx hb dX2_condition_34 (by decide) ?_
      refine lv_iload_n hx hb dX2_condition_35 rfl (lv_at hl 2 rfl) ?_
      refine kn_mul hx hb dX2_condition_36 ?_
      refine lv_aload_n hx hb dX2_condition_37 rfl (lv_at hl 1 rfl) ?_
      refine M_get (v := .ref (ad 28)) hx hb hts hown hG hM 28 (by decide) q1320 rfl rfl dX2_condition_38 ?_
      refine lv_iload_n hx hb dX2_condition_41 rfl (lv_at hl 2 rfl) ?_
      refine M_iald (v := nI (G 28 r)) hx hb hG hM 28 rfl rfl (show r < 110 from by omega) (rfl) dX2_condition_42 ?_
      refine kn_add hx hb dX2_condition_43 ?_
      refine lv_istore_n (lv' := [(3, .int (nI (3 * r + (G 28 r)))), (2, .int (nI k3)), (0, .ref a0), (1, .int (nI r))]) hx hb dX2_condition_44 rfl hl (by decide) rfl (fun ls hl => ?_)
      refine lv_aload_n hx hb dX2_condition_45 rfl (lv_at hl 2 rfl) ?_
      refine va_callv (va_runV (As := []) (rest := []) ⟨hx, hb, hml, hown, hts⟩ (c_X2_token lh D dA a0 ad N I G J s.heap.size (h1.1) (h1.2.2.1)) (w_X2_token hts q1527 rfl rfl ⟨Nat.le_of_ble_eq_true rfl, Nat.le_of_ble_eq_true rfl⟩) ⟨PmM.blind, M_recv hG hM, PmM.pre hG hM⟩ rfl rfl hl.1 rfl (lv_room (Nat.le_of_ble_eq_true rfl)) dX2_condition_46 ⟨Nat.le_of_ble_eq_true rfl, Nat.le_of_ble_eq_true rfl⟩) hS (fun q _ h => AM.up (hS.1) q h) (fun q h => AM.up (hS.1) q h) (fun u t H1 locs ht hvm hp hB hz hk hS => ?_)
      obtain ⟨hM, -⟩ := hB
      rw [ht] at hM
      clear ht hz hk
      generalize H1 = H at hM hS ⊢
      subst hp
      dsimp only at hM
      refine lv_aload_n hx hb dX2_condition_49 rfl (lv_at hl 2 rfl) ?_
      refine M_get (v := .ref (ad 29)) hx hb hts hown hG hM 29 (by decide) q1321 rfl rfl dX2_condition_50 ?_
      refine lv_iload_n hx hb dX2_condition_53 rfl (lv_at hl 0 rfl) ?_
      refine lv_iload_n hx hb dX2_condition_54 rfl (lv_at hl 1 rfl) ?_
      refine M_iastN (v := k3) hx hb hG hS hM 29 rfl (AM.a 29 rfl) rfl rfl (show 3 * r + (G 28 r) < 330 from by omega) dX2_condition_55 (fun H locs hM hz hS => ?_)
      refine lv_aload_n hx hb dX2_condition_56 rfl (lv_at hl 2 rfl) ?_
      refine va_ldcS hx hb hown (show vk_R RX2 219 "<" (K 15) s from hKZ.2.2 15 (by decide)) dX2_condition_57 ?_
      refine vp_callSi (W.runV (As := [.ref (K 15)]) (rest := []) ⟨hx, hb, hml, hown, hts⟩ (c_X2_is lh D dA a0 ad (tokN N J) I (up2 G 29 (3 * r + (G 28 r)) k3) J (K 15) (K (100 + 15)) (klen 15) (kch 15) ((PsOk.tok (J := J) h1))) (w_X2_is hts q1540 rfl rfl ⟨Nat.le_of_ble_eq_true rfl, Nat.le_of_ble_eq_true rfl⟩) ⟨PX.blind (Mv.and Mv.heap (Mv.and Mv.gk (Mv.and KC.mv SA.mv))), M_recv hG hM, PX.pre (Mv.and Mv.heap (Mv.and Mv.gk (Mv.and KC.mv SA.mv))) ⟨hM, hG, (KZ.kc hKZ hS), (KZ.str hKZ hS 15 (by decide))⟩⟩ rfl rfl hl.1 rfl (lv_room (Nat.le_of_ble_eq_true rfl)) dX2_condition_59 ⟨Nat.le_of_ble_eq_true rfl, Nat.le_of_ble_eq_true rfl⟩) (fun rr hrr => ?_)
      subst hrr
      refine kx_int (y := bI (isQ (tokN N J) J 15)) rfl ?_
      refine kb_ne (tgt := 89) hx hb dX2_condition_62 (by decide) (fun c_62 => ?_) (fun c_62 => ?_)
      · refine lv_aload_n hx hb dX2_condition_89 rfl (lv_at hl 2 rfl) ?_
        refine M_get (v := .ref (ad 30)) hx hb hts hown hG hM 30 (by decide) q1322 rfl rfl dX2_condition_90 ?_
        refine lv_iload_n hx hb dX2_condition_93 rfl (lv_at hl 0 rfl) ?_
        refine lv_aload_n hx hb dX2_condition_94 rfl (lv_at hl 2 rfl) ?_
        refine va_ldcS hx hb hown (show vk_R RX2 219 "<" (K 15) s from hKZ.2.2 15 (by decide)) dX2_condition_95 ?_
        refine vp_callSi (W.runV (As := [.ref (K 15)]) (rest := [.int (nI (3 * r + (G 28 r))), .ref (ad 30)]) ⟨hx, hb, hml, hown, hts⟩ (c_X2_is lh D dA a0 ad (tokN N J) I (up2 G 29 (3 * r + (G 28 r)) k3) J (K 15) (K (100 + 15)) (klen 15) (kch 15) ((PsOk.tok (J := J) h1))) (w_X2_is hts q1540 rfl rfl ⟨Nat.le_of_ble_eq_true rfl, Nat.le_of_ble_eq_true rfl⟩) ⟨PX.blind (Mv.and Mv.heap (Mv.and Mv.gk (Mv.and KC.mv SA.mv))), M_recv hG hM, PX.pre (Mv.and Mv.heap (Mv.and Mv.gk (Mv.and KC.mv SA.mv))) ⟨hM, hG, (KZ.kc hKZ hS), (KZ.str hKZ hS 15 (by decide))⟩⟩ rfl rfl hl.1 rfl (lv_room (Nat.le_of_ble_eq_true rfl)) dX2_condition_97 ⟨Nat.le_of_ble_eq_true rfl, Nat.le_of_ble_eq_true rfl⟩) (fun rr hrr => ?_)
        subst hrr
        refine kx_int (y := bI (isQ (tokN N J) J 15)) rfl ?_
        refine kb_eq (tgt := 107) hx hb dX2_condition_100 (by decide) (fun c_100 => ?_) (fun c_100 => ?_)
        · rw [c_62] at c_100
          cases c_100
        · refine lv_iconst (v := nI 0) hx hb dX2_condition_103 (by decide) ?_
          refine lv_goto (tgt := 121) hx hb dX2_condition_104 (by decide) ?_
          refine M_iastN (v := 0) hx hb hG hS hM 30 rfl (AM.a 30 rfl) rfl rfl (show 3 * r + (G 28 r) < 330 from by omega) dX2_condition_121 (fun H locs hM hz hS => ?_)
          refine lv_aload_n hx hb dX2_condition_122 rfl (lv_at hl 2 rfl) ?_
          refine va_callv (va_runV (As := []) (rest := []) ⟨hx, hb, hml, hown, hts⟩ (c_X2_token lh D dA a0 ad (tokN N J) I (up2 (up2 G 29 (3 * r + (G 28 r)) k3) 30 (3 * r + (G 28 r)) 0) J H.size ((PsOk.tok (J := J) h1).1) ((PsOk.tok (J := J) h1).2.2.1)) (w_X2_token hts q1527 rfl rfl ⟨Nat.le_of_ble_eq_true rfl, Nat.le_of_ble_eq_true rfl⟩) ⟨PmM.blind, M_recv hG hM, PmM.pre hG hM⟩ rfl rfl hl.1 rfl (lv_room (Nat.le_of_ble_eq_true rfl)) dX2_condition_123 ⟨Nat.le_of_ble_eq_true rfl, Nat.le_of_ble_eq_true rfl⟩) hS (fun q _ h => AM.up (hS.1) q h) (fun q h => AM.up (hS.1) q h) (fun u t H1 locs ht hvm hp hB hz hk hS => ?_)
          obtain ⟨hM, -⟩ := hB
          rw [ht] at hM
          clear ht hz hk
          generalize H1 = H at hM hS ⊢
          subst hp
          dsimp only at hM
          refine lv_aload_n hx hb dX2_condition_126 rfl (lv_at hl 2 rfl) ?_
          refine M_get (v := .ref (ad 31)) hx hb hts hown hG hM 31 (by decide) q1323 rfl rfl dX2_condition_127 ?_
          refine lv_iload_n hx hb dX2_condition_130 rfl (lv_at hl 0 rfl) ?_
          refine lv_aload_n hx hb dX2_condition_131 rfl (lv_at hl 2 rfl) ?_
          refine va_calli (va_runV (As := []) (rest := [.int (nI (3 * r + (G 28 r))), .ref (ad 31)]) ⟨hx, hb, hml, hown, hts⟩ (c_X2_number lh D dA a0 ad (tokN (tokN N J) J) I (up2 (up2 G 29 (3 * r + (G 28 r)) k3) 30 (3 * r + (G 28 r)) 0) J H.size ((PsOk.tok (J := J) (PsOk.tok (J := J) h1)).1) ((PsOk.tok (J := J) (PsOk.tok (J := J) h1)).2.2.1) (by have := (PsOk.tok (J := J) (PsOk.tok (J := J) h1)).2.2.2.1; omega) (by have := (PsOk.tok (J := J) (PsOk.tok (J := J) h1)).2.2.2.2.1; omega)) (w_X2_number hts q1567 rfl rfl ⟨Nat.le_of_ble_eq_true rfl, Nat.le_of_ble_eq_true rfl⟩) ⟨PmM.blind, M_recv hG hM, PmM.pre hG hM⟩ rfl rfl hl.1 rfl (lv_room (Nat.le_of_ble_eq_true rfl)) dX2_condition_132 ⟨Nat.le_of_ble_eq_true rfl, Nat.le_of_ble_eq_true rfl⟩) hS (fun q _ h => AM.up (hS.1) q h) (fun q h => AM.up (hS.1) q h) (fun rr u t H1 locs ht hvm hp hB hz hk hS => ?_)
          obtain ⟨hM, -⟩ := hB
          rw [ht] at hM
          clear ht hz hk
          generalize H1 = H at hM hS ⊢
          obtain ⟨hrr, hu⟩ := hp
          subst hrr hu
          dsimp only at hM
          refine M_iastN (v := nuV (tokN (tokN N J) J)) hx hb hG hS hM 31 rfl (AM.a 31 rfl) rfl rfl (show 3 * r + (G 28 r) < 330 from by omega) dX2_condition_135 (fun H locs hM hz hS => ?_)
          refine lv_aload_n hx hb dX2_condition_136 rfl (lv_at hl 2 rfl) ?_
          refine M_get (v := .ref (ad 28)) hx hb hts hown hG hM 28 (by decide) q1320 rfl rfl dX2_condition_137 ?_
          refine lv_iload_n hx hb dX2_condition_140 rfl (lv_at hl 3 rfl) ?_
          refine lv_dup2_11 hx hb dX2_condition_141 rfl rfl ?_
          refine M_iald (v := nI (G 28 r)) hx hb hG hM 28 rfl rfl (show r < 110 from by omega) (rfl) dX2_condition_142 ?_
          refine lv_iconst (v := nI 1) hx hb dX2_condition_143 (by decide) ?_
          refine kn_add hx hb dX2_condition_144 ?_
          refine M_iastN (v := G 28 r + 1) hx hb hG hS hM 28 rfl (AM.a 28 rfl) rfl rfl (show r < 110 from by omega) dX2_condition_145 (fun H locs hM hz hS => ?_)
          refine lv_aload_n hx hb dX2_condition_146 rfl (lv_at hl 2 rfl) ?_
          refine M_get (v := .int (nI ((nuN (tokN (tokN N J) J) J) 34))) hx hb hts hown hG hM 34 (by decide) q1326 rfl rfl dX2_condition_147 ?_
          refine kn_zne (tgt := 157) hx hb dX2_condition_150 (by decide) (by have := (PsOk.nu (J := J) (PsOk.tok (J := J) (PsOk.tok (J := J) h1))).2.2.2.1; omega) (fun c_150 => ?_) (fun c_150 => ?_)
          · refine lv_iconst (v := nI 0) hx hb dX2_condition_157 (by decide) ?_
            subst hQ
            exact W.zret (v := nI 0) hx hb hrt rfl (fun t ht hW => ⟨⟨_, ((nuN (tokN (tokN N J) J) J), (nuI (tokN (tokN N J) J) I), (up2 (up2 (up2 (up2 G 29 (3 * r + (G 28 r)) k3) 30 (3 * r + (G 28 r)) 0) 31 (3 * r + (G 28 r)) (nuV (tokN (tokN N J) J))) 28 r (G 28 r + 1)), J), rfl, (by rw [show coT N I G J r = (decide (nuN (tokN (tokN N J) J) J 34 = 0), nuN (tokN (tokN N J) J) J, nuI (tokN (tokN N J) J) I, up2 (up2 (up2 (up2 G 29 (3 * r + G 28 r) k3) 30 (3 * r + G 28 r) (relS (tokN N J) J)) 31 (3 * r + G 28 r) (nuV (tokN (tokN N J) J))) 28 r (G 28 r + 1)) from by unfold coT; rw [ho3]; exact (if_neg c_25).trans (if_pos (Or.inl c_62)), show relS (tokN N J) J = 0 from if_pos c_100]; exact ⟨by rw [decide_eq_false c_150]; rfl, rfl⟩), by rw [ht]; exact hM, GK.warm hW hG⟩, hS.F ht⟩) hS.2.2 dX2_condition_158
          · refine lv_iconst (v := nI 1) hx hb dX2_condition_153 (by decide) ?_
            refine lv_goto (tgt := 158) hx hb dX2_condition_154 (by decide) ?_
            subst hQ
            exact W.zret (v := nI 1) hx hb hrt rfl (fun t ht hW => ⟨⟨_, ((nuN (tokN (tokN N J) J) J), (nuI (tokN (tokN N J) J) I), (up2 (up2 (up2 (up2 G 29 (3 * r + (G 28 r)) k3) 30 (3 * r + (G 28 r)) 0) 31 (3 * r + (G 28 r)) (nuV (tokN (tokN N J) J))) 28 r (G 28 r + 1)), J), rfl, (by rw [show coT N I G J r = (decide (nuN (tokN (tokN N J) J) J 34 = 0), nuN (tokN (tokN N J) J) J, nuI (tokN (tokN N J) J) I, up2 (up2 (up2 (up2 G 29 (3 * r + G 28 r) k3) 30 (3 * r + G 28 r) (relS (tokN N J) J)) 31 (3 * r + G 28 r) (nuV (tokN (tokN N J) J))) 28 r (G 28 r + 1)) from by unfold coT; rw [ho3]; exact (if_neg c_25).trans (if_pos (Or.inl c_62)), show relS (tokN N J) J = 0 from if_pos c_100]; exact ⟨by rw [decide_eq_true c_150]; rfl, rfl⟩), by rw [ht]; exact hM, GK.warm hW hG⟩, hS.F ht⟩) hS.2.2 dX2_condition_158
      · refine lv_aload_n hx hb dX2_condition_65 rfl (lv_at hl 2 rfl) ?_
        refine va_ldcS hx hb hown (show vk_R RX2 221 "=" (K 16) s from hKZ.2.2 16 (by decide)) dX2_condition_66 ?_
        refine vp_callSi (W.runV (As := [.ref (K 16)]) (rest := []) ⟨hx, hb, hml, hown, hts⟩ (c_X2_is lh D dA a0 ad (tokN N J) I (up2 G 29 (3 * r + (G 28 r)) k3) J (K 16) (K (100 + 16)) (klen 16) (kch 16) ((PsOk.tok (J := J) h1))) (w_X2_is hts q1540 rfl rfl ⟨Nat.le_of_ble_eq_true rfl, Nat.le_of_ble_eq_true rfl⟩) ⟨PX.blind (Mv.and Mv.heap (Mv.and Mv.gk (Mv.and KC.mv SA.mv))), M_recv hG hM, PX.pre (Mv.and Mv.heap (Mv.and Mv.gk (Mv.and KC.mv SA.mv))) ⟨hM, hG, (KZ.kc hKZ hS), (KZ.str hKZ hS 16 (by decide))⟩⟩ rfl rfl hl.1 rfl (lv_room (Nat.le_of_ble_eq_true rfl)) dX2_condition_68 ⟨Nat.le_of_ble_eq_true rfl, Nat.le_of_ble_eq_true rfl⟩) (fun rr hrr => ?_)
        subst hrr
        refine kx_int (y := bI (isQ (tokN N J) J 16)) rfl ?_
        refine kb_ne (tgt := 89) hx hb dX2_condition_71 (by decide) (fun c_71 => ?_) (fun c_71 => ?_)
        · refine lv_aload_n hx hb dX2_condition_89 rfl (lv_at hl 2 rfl) ?_
          refine M_get (v := .ref (ad 30)) hx hb hts hown hG hM 30 (by decide) q1322 rfl rfl dX2_condition_90 ?_
          refine lv_iload_n hx hb dX2_condition_93 rfl (lv_at hl 0 rfl) ?_
          refine lv_aload_n hx hb dX2_condition_94 rfl (lv_at hl 2 rfl) ?_
          refine va_ldcS hx hb hown (show vk_R RX2 219 "<" (K 15) s from hKZ.2.2 15 (by decide)) dX2_condition_95 ?_
          refine vp_callSi (W.runV (As := [.ref (K 15)]) (rest := [.int (nI (3 * r + (G 28 r))), .ref (ad 30)]) ⟨hx, hb, hml, hown, hts⟩ (c_X2_is lh D dA a0 ad (tokN N J) I (up2 G 29 (3 * r + (G 28 r)) k3) J (K 15) (K (100 + 15)) (klen 15) (kch 15) ((PsOk.tok (J := J) h1))) (w_X2_is hts q1540 rfl rfl ⟨Nat.le_of_ble_eq_true rfl, Nat.le_of_ble_eq_true rfl⟩) ⟨PX.blind (Mv.and Mv.heap (Mv.and Mv.gk (Mv.and KC.mv SA.mv))), M_recv hG hM, PX.pre (Mv.and Mv.heap (Mv.and Mv.gk (Mv.and KC.mv SA.mv))) ⟨hM, hG, (KZ.kc hKZ hS), (KZ.str hKZ hS 15 (by decide))⟩⟩ rfl rfl hl.1 rfl (lv_room (Nat.le_of_ble_eq_true rfl)) dX2_condition_97 ⟨Nat.le_of_ble_eq_true rfl, Nat.le_of_ble_eq_true rfl⟩) (fun rr hrr => ?_)
          subst hrr
          refine kx_int (y := bI (isQ (tokN N J) J 15)) rfl ?_
          refine kb_eq (tgt := 107) hx hb dX2_condition_100 (by decide) (fun c_100 => ?_) (fun c_100 => ?_)
          · refine lv_aload_n hx hb dX2_condition_107 rfl (lv_at hl 2 rfl) ?_
            refine va_ldcS hx hb hown (show vk_R RX2 221 "=" (K 16) s from hKZ.2.2 16 (by decide)) dX2_condition_108 ?_
            refine vp_callSi (W.runV (As := [.ref (K 16)]) (rest := [.int (nI (3 * r + (G 28 r))), .ref (ad 30)]) ⟨hx, hb, hml, hown, hts⟩ (c_X2_is lh D dA a0 ad (tokN N J) I (up2 G 29 (3 * r + (G 28 r)) k3) J (K 16) (K (100 + 16)) (klen 16) (kch 16) ((PsOk.tok (J := J) h1))) (w_X2_is hts q1540 rfl rfl ⟨Nat.le_of_ble_eq_true rfl, Nat.le_of_ble_eq_true rfl⟩) ⟨PX.blind (Mv.and Mv.heap (Mv.and Mv.gk (Mv.and KC.mv SA.mv))), M_recv hG hM, PX.pre (Mv.and Mv.heap (Mv.and Mv.gk (Mv.and KC.mv SA.mv))) ⟨hM, hG, (KZ.kc hKZ hS), (KZ.str hKZ hS 16 (by decide))⟩⟩ rfl rfl hl.1 rfl (lv_room (Nat.le_of_ble_eq_true rfl)) dX2_condition_110 ⟨Nat.le_of_ble_eq_true rfl, Nat.le_of_ble_eq_true rfl⟩) (fun rr hrr => ?_)
            subst hrr
            refine kx_int (y := bI (isQ (tokN N J) J 16)) rfl ?_
            refine kb_eq (tgt := 120) hx hb dX2_condition_113 (by decide) (fun c_113 => ?_) (fun c_113 => ?_)
            · rw [c_71] at c_113
              cases c_113
            · refine lv_iconst (v := nI 1) hx hb dX2_condition_116 (by decide) ?_
              refine lv_goto (tgt := 121) hx hb dX2_condition_117 (by decide) ?_
              refine M_iastN (v := 1) hx hb hG hS hM 30 rfl (AM.a 30 rfl) rfl rfl (show 3 * r + (G 28 r) < 330 from by omega) dX2_condition_121 (fun H locs hM hz hS => ?_)
              refine lv_aload_n hx hb dX2_condition_122 rfl (lv_at hl 2 rfl) ?_
              refine va_callv (va_runV (As := []) (rest := []) ⟨hx, hb, hml, hown, hts⟩ (c_X2_token lh D dA a0 ad (tokN N J) I (up2 (up2 G 29 (3 * r + (G 28 r)) k3) 30 (3 * r + (G 28 r)) 1) J H.size ((PsOk.tok (J := J) h1).1) ((PsOk.tok (J := J) h1).2.2.1)) (w_X2_token hts q1527 rfl rfl ⟨Nat.le_of_ble_eq_true rfl, Nat.le_of_ble_eq_true rfl⟩) ⟨PmM.blind, M_recv hG hM, PmM.pre hG hM⟩ rfl rfl hl.1 rfl (lv_room (Nat.le_of_ble_eq_true rfl)) dX2_condition_123 ⟨Nat.le_of_ble_eq_true rfl, Nat.le_of_ble_eq_true rfl⟩) hS (fun q _ h => AM.up (hS.1) q h) (fun q h => AM.up (hS.1) q h) (fun u t H1 locs ht hvm hp hB hz hk hS => ?_)
              obtain ⟨hM, -⟩ := hB
              rw [ht] at hM
              clear ht hz hk
              generalize H1 = H at hM hS ⊢
              subst hp
              dsimp only at hM
              refine lv_aload_n hx hb dX2_condition_126 rfl (lv_at hl 2 rfl) ?_
              refine M_get (v := .ref (ad 31)) hx hb hts hown hG hM 31 (by decide) q1323 rfl rfl dX2_condition_127 ?_
              refine lv_iload_n hx hb dX2_condition_130 rfl (lv_at hl 0 rfl) ?_
              refine lv_aload_n hx hb dX2_condition_131 rfl (lv_at hl 2 rfl) ?_
              refine va_calli (va_runV (As := []) (rest := [.int (nI (3 * r + (G 28 r))), .ref (ad 31)]) ⟨hx, hb, hml, hown, hts⟩ (c_X2_number lh D dA a0 ad (tokN (tokN N J) J) I (up2 (up2 G 29 (3 * r + (G 28 r)) k3) 30 (3 * r + (G 28 r)) 1) J H.size ((PsOk.tok (J := J) (PsOk.tok (J := J) h1)).1) ((PsOk.tok (J := J) (PsOk.tok (J := J) h1)).2.2.1) (by have := (PsOk.tok (J := J) (PsOk.tok (J := J) h1)).2.2.2.1; omega) (by have := (PsOk.tok (J := J) (PsOk.tok (J := J) h1)).2.2.2.2.1; omega)) (w_X2_number hts q1567 rfl rfl ⟨Nat.le_of_ble_eq_true rfl, Nat.le_of_ble_eq_true rfl⟩) ⟨PmM.blind, M_recv hG hM, PmM.pre hG hM⟩ rfl rfl hl.1 rfl (lv_room (Nat.le_of_ble_eq_true rfl)) dX2_condition_132 ⟨Nat.le_of_ble_eq_true rfl, Nat.le_of_ble_eq_true rfl⟩) hS (fun q _ h => AM.up (hS.1) q h) (fun q h => AM.up (hS.1) q h) (fun rr u t H1 locs ht hvm hp hB hz hk hS => ?_)
              obtain ⟨hM, -⟩ := hB
              rw [ht] at hM
              clear ht hz hk
              generalize H1 = H at hM hS ⊢
              obtain ⟨hrr, hu⟩ := hp
              subst hrr hu
              dsimp only at hM
              refine M_iastN (v := nuV (tokN (tokN N J) J)) hx hb hG hS hM 31 rfl (AM.a 31 rfl) rfl rfl (show 3 * r + (G 28 r) < 330 from by omega) dX2_condition_135 (fun H locs hM hz hS => ?_)
              refine lv_aload_n hx hb dX2_condition_136 rfl (lv_at hl 2 rfl) ?_
              refine M_get (v := .ref (ad 28)) hx hb hts hown hG hM 28 (by decide) q1320 rfl rfl dX2_condition_137 ?_
              refine lv_iload_n hx hb dX2_condition_140 rfl (lv_at hl 3 rfl) ?_
              refine lv_dup2_11 hx hb dX2_condition_141 rfl rfl ?_
              refine M_iald (v := nI (G 28 r)) hx hb hG hM 28 rfl rfl (show r < 110 from by omega) (rfl) dX2_condition_142 ?_
              refine lv_iconst (v := nI 1) hx hb dX2_condition_143 (by decide) ?_
              refine kn_add hx hb dX2_condition_144 ?_
              refine M_iastN (v := G 28 r + 1) hx hb hG hS hM 28 rfl (AM.a 28 rfl) rfl rfl (show r < 110 from by omega) dX2_condition_145 (fun H locs hM hz hS => ?_)
              refine lv_aload_n hx hb dX2_condition_146 rfl (lv_at hl 2 rfl) ?_
              refine M_get (v := .int (nI ((nuN (tokN (tokN N J) J) J) 34))) hx hb hts hown hG hM 34 (by decide) q1326 rfl rfl dX2_condition_147 ?_
              refine kn_zne (tgt := 157) hx hb dX2_condition_150 (by decide) (by have := (PsOk.nu (J := J) (PsOk.tok (J := J) (PsOk.tok (J := J) h1))).2.2.2.1; omega) (fun c_150 => ?_) (fun c_150 => ?_)
              · refine lv_iconst (v := nI 0) hx hb dX2_condition_157 (by decide) ?_
                subst hQ
                exact W.zret (v := nI 0) hx hb hrt rfl (fun t ht hW => ⟨⟨_, ((nuN (tokN (tokN N J) J) J), (nuI (tokN (tokN N J) J) I), (up2 (up2 (up2 (up2 G 29 (3 * r + (G 28 r)) k3) 30 (3 * r + (G 28 r)) 1) 31 (3 * r + (G 28 r)) (nuV (tokN (tokN N J) J))) 28 r (G 28 r + 1)), J), rfl, (by rw [show coT N I G J r = (decide (nuN (tokN (tokN N J) J) J 34 = 0), nuN (tokN (tokN N J) J) J, nuI (tokN (tokN N J) J) I, up2 (up2 (up2 (up2 G 29 (3 * r + G 28 r) k3) 30 (3 * r + G 28 r) (relS (tokN N J) J)) 31 (3 * r + G 28 r) (nuV (tokN (tokN N J) J))) 28 r (G 28 r + 1)) from by unfold coT; rw [ho3]; exact (if_neg c_25).trans (if_pos (Or.inr (Or.inl c_71))), show relS (tokN N J) J = 1 from (if_neg (by rw [c_100]; decide)).trans (if_pos c_113)]; exact ⟨by rw [decide_eq_false c_150]; rfl, rfl⟩), by rw [ht]; exact hM, GK.warm hW hG⟩, hS.F ht⟩) hS.2.2 dX2_condition_158
              · refine lv_iconst (v := nI 1) hx hb dX2_condition_153 (by decide) ?_
                refine lv_goto (tgt := 158) hx hb dX2_condition_154 (by decide) ?_
                subst hQ
                exact W.zret (v := nI 1) hx hb hrt rfl (fun t ht hW => ⟨⟨_, ((nuN (tokN (tokN N J) J) J), (nuI (tokN (tokN N J) J) I), (up2 (up2 (up2 (up2 G 29 (3 * r + (G 28 r)) k3) 30 (3 * r + (G 28 r)) 1) 31 (3 * r + (G 28 r)) (nuV (tokN (tokN N J) J))) 28 r (G 28 r + 1)), J), rfl, (by rw [show coT N I G J r = (decide (nuN (tokN (tokN N J) J) J 34 = 0), nuN (tokN (tokN N J) J) J, nuI (tokN (tokN N J) J) I, up2 (up2 (up2 (up2 G 29 (3 * r + G 28 r) k3) 30 (3 * r + G 28 r) (relS (tokN N J) J)) 31 (3 * r + G 28 r) (nuV (tokN (tokN N J) J))) 28 r (G 28 r + 1)) from by unfold coT; rw [ho3]; exact (if_neg c_25).trans (if_pos (Or.inr (Or.inl c_71))), show relS (tokN N J) J = 1 from (if_neg (by rw [c_100]; decide)).trans (if_pos c_113)]; exact ⟨by rw [decide_eq_true c_150]; rfl, rfl⟩), by rw [ht]; exact hM, GK.warm hW hG⟩, hS.F ht⟩) hS.2.2 dX2_condition_158
          · rw [c_62] at c_100
            cases c_100
        · refine lv_aload_n hx hb dX2_condition_74 rfl (lv_at hl 2 rfl) ?_
          refine va_ldcS hx hb hown (show vk_R RX2 223 ">" (K 17) s from hKZ.2.2 17 (by decide)) dX2_condition_75 ?_
          refine vp_callSi (W.runV (As := [.ref (K 17)]) (rest := []) ⟨hx, hb, hml, hown, hts⟩ (c_X2_is lh D dA a0 ad (tokN N J) I (up2 G 29 (3 * r + (G 28 r)) k3) J (K 17) (K (100 + 17)) (klen 17) (kch 17) ((PsOk.tok (J := J) h1))) (w_X2_is hts q1540 rfl rfl ⟨Nat.le_of_ble_eq_true rfl, Nat.le_of_ble_eq_true rfl⟩) ⟨PX.blind (Mv.and Mv.heap (Mv.and Mv.gk (Mv.and KC.mv SA.mv))), M_recv hG hM, PX.pre (Mv.and Mv.heap (Mv.and Mv.gk (Mv.and KC.mv SA.mv))) ⟨hM, hG, (KZ.kc hKZ hS), (KZ.str hKZ hS 17 (by decide))⟩⟩ rfl rfl hl.1 rfl (lv_room (Nat.le_of_ble_eq_true rfl)) dX2_condition_77 ⟨Nat.le_of_ble_eq_true rfl, Nat.le_of_ble_eq_true rfl⟩) (fun rr hrr => ?_)
          subst hrr
          refine kx_int (y := bI (isQ (tokN N J) J 17)) rfl ?_
          refine kb_ne (tgt := 89) hx hb dX2_condition_80 (by decide) (fun c_80 => ?_) (fun c_80 => ?_)
          · refine lv_aload_n hx hb dX2_condition_89 rfl (lv_at hl 2 rfl) ?_
            refine M_get (v := .ref (ad 30)) hx hb hts hown hG hM 30 (by decide) q1322 rfl rfl dX2_condition_90 ?_
            refine lv_iload_n hx hb dX2_condition_93 rfl (lv_at hl 0 rfl) ?_
            refine lv_aload_n hx hb dX2_condition_94 rfl (lv_at hl 2 rfl) ?_
            refine va_ldcS hx hb hown (show vk_R RX2 219 "<" (K 15) s from hKZ.2.2 15 (by decide)) dX2_condition_95 ?_
            refine vp_callSi (W.runV (As := [.ref (K 15)]) (rest := [.int (nI (3 * r + (G 28 r))), .ref (ad 30)]) ⟨hx, hb, hml, hown, hts⟩ (c_X2_is lh D dA a0 ad (tokN N J) I (up2 G 29 (3 * r + (G 28 r)) k3) J (K 15) (K (100 + 15)) (klen 15) (kch 15) ((PsOk.tok (J := J) h1))) (w_X2_is hts q1540 rfl rfl ⟨Nat.le_of_ble_eq_true rfl, Nat.le_of_ble_eq_true rfl⟩) ⟨PX.blind (Mv.and Mv.heap (Mv.and Mv.gk (Mv.and KC.mv SA.mv))), M_recv hG hM, PX.pre (Mv.and Mv.heap (Mv.and Mv.gk (Mv.and KC.mv SA.mv))) ⟨hM, hG, (KZ.kc hKZ hS), (KZ.str hKZ hS 15 (by decide))⟩⟩ rfl rfl hl.1 rfl (lv_room (Nat.le_of_ble_eq_true rfl)) dX2_condition_97 ⟨Nat.le_of_ble_eq_true rfl, Nat.le_of_ble_eq_true rfl⟩) (fun rr hrr => ?_)
            subst hrr
            refine kx_int (y := bI (isQ (tokN N J) J 15)) rfl ?_
            refine kb_eq (tgt := 107) hx hb dX2_condition_100 (by decide) (fun c_100 => ?_) (fun c_100 => ?_)
            · refine lv_aload_n hx hb dX2_condition_107 rfl (lv_at hl 2 rfl) ?_
              refine va_ldcS hx hb hown (show vk_R RX2 221 "=" (K 16) s from hKZ.2.2 16 (by decide)) dX2_condition_108 ?_
              refine vp_callSi (W.runV (As := [.ref (K 16)]) (rest := [.int (nI (3 * r + (G 28 r))), .ref (ad 30)]) ⟨hx, hb, hml, hown, hts⟩ (c_X2_is lh D dA a0 ad (tokN N J) I (up2 G 29 (3 * r + (G 28 r)) k3) J (K 16) (K (100 + 16)) (klen 16) (kch 16) ((PsOk.tok (J := J) h1))) (w_X2_is hts q1540 rfl rfl ⟨Nat.le_of_ble_eq_true rfl, Nat.le_of_ble_eq_true rfl⟩) ⟨PX.blind (Mv.and Mv.heap (Mv.and Mv.gk (Mv.and KC.mv SA.mv))), M_recv hG hM, PX.pre (Mv.and Mv.heap (Mv.and Mv.gk (Mv.and KC.mv SA.mv))) ⟨hM, hG, (KZ.kc hKZ hS), (KZ.str hKZ hS 16 (by decide))⟩⟩ rfl rfl hl.1 rfl (lv_room (Nat.le_of_ble_eq_true rfl)) dX2_condition_110 ⟨Nat.le_of_ble_eq_true rfl, Nat.le_of_ble_eq_true rfl⟩) (fun rr hrr => ?_)
              subst hrr
              refine kx_int (y := bI (isQ (tokN N J) J 16)) rfl ?_
              refine kb_eq (tgt := 120) hx hb dX2_condition_113 (by decide) (fun c_113 => ?_) (fun c_113 => ?_)
              · refine lv_iconst (v := nI 2) hx hb dX2_condition_120 (by decide) ?_
                refine M_iastN (v := 2) hx hb hG hS hM 30 rfl (AM.a 30 rfl) rfl rfl (show 3 * r + (G 28 r) < 330 from by omega) dX2_condition_121 (fun H locs hM hz hS => ?_)
                refine lv_aload_n hx hb dX2_condition_122 rfl (lv_at hl 2 rfl) ?_
                refine va_callv (va_runV (As := []) (rest := []) ⟨hx, hb, hml, hown, hts⟩ (c_X2_token lh D dA a0 ad (tokN N J) I (up2 (up2 G 29 (3 * r + (G 28 r)) k3) 30 (3 * r + (G 28 r)) 2) J H.size ((PsOk.tok (J := J) h1).1) ((PsOk.tok (J := J) h1).2.2.1)) (w_X2_token hts q1527 rfl rfl ⟨Nat.le_of_ble_eq_true rfl, Nat.le_of_ble_eq_true rfl⟩) ⟨PmM.blind, M_recv hG hM, PmM.pre hG hM⟩ rfl rfl hl.1 rfl (lv_room (Nat.le_of_ble_eq_true rfl)) dX2_condition_123 ⟨Nat.le_of_ble_eq_true rfl, Nat.le_of_ble_eq_true rfl⟩) hS (fun q _ h => AM.up (hS.1) q h) (fun q h => AM.up (hS.1) q h) (fun u t H1 locs ht hvm hp hB hz hk hS => ?_)
                obtain ⟨hM, -⟩ := hB
                rw [ht] at hM
                clear ht hz hk
                generalize H1 = H at hM hS ⊢
                subst hp
                dsimp only at hM
                refine lv_aload_n hx hb dX2_condition_126 rfl (lv_at hl 2 rfl) ?_
                refine M_get (v := .ref (ad 31)) hx hb hts hown hG hM 31 (by decide) q1323 rfl rfl dX2_condition_127 ?_
                refine lv_iload_n hx hb dX2_condition_130 rfl (lv_at hl 0 rfl) ?_
                refine lv_aload_n hx hb dX2_condition_131 rfl (lv_at hl 2 rfl) ?_
                refine va_calli (va_runV (As := []) (rest := [.int (nI (3 * r + (G 28 r))), .ref (ad 31)]) ⟨hx, hb, hml, hown, hts⟩ (c_X2_number lh D dA a0 ad (tokN (tokN N J) J) I (up2 (up2 G 29 (3 * r + (G 28 r)) k3) 30 (3 * r + (G 28 r)) 2) J H.size ((PsOk.tok (J := J) (PsOk.tok (J := J) h1)).1) ((PsOk.tok (J := J) (PsOk.tok (J := J) h1)).2.2.1) (by have := (PsOk.tok (J := J) (PsOk.tok (J := J) h1)).2.2.2.1; omega) (by have := (PsOk.tok (J := J) (PsOk.tok (J := J) h1)).2.2.2.2.1; omega)) (w_X2_number hts q1567 rfl rfl ⟨Nat.le_of_ble_eq_true rfl, Nat.le_of_ble_eq_true rfl⟩) ⟨PmM.blind, M_recv hG hM, PmM.pre hG hM⟩ rfl rfl hl.1 rfl (lv_room (Nat.le_of_ble_eq_true rfl)) dX2_condition_132 ⟨Nat.le_of_ble_eq_true rfl, Nat.le_of_ble_eq_true rfl⟩) hS (fun q _ h => AM.up (hS.1) q h) (fun q h => AM.up (hS.1) q h) (fun rr u t H1 locs ht hvm hp hB hz hk hS => ?_)
                obtain ⟨hM, -⟩ := hB
                rw [ht] at hM
                clear ht hz hk
                generalize H1 = H at hM hS ⊢
                obtain ⟨hrr, hu⟩ := hp
                subst hrr hu
                dsimp only at hM
                refine M_iastN (v := nuV (tokN (tokN N J) J)) hx hb hG hS hM 31 rfl (AM.a 31 rfl) rfl rfl (show 3 * r + (G 28 r) < 330 from by omega) dX2_condition_135 (fun H locs hM hz hS => ?_)
                refine lv_aload_n hx hb dX2_condition_136 rfl (lv_at hl 2 rfl) ?_
                refine M_get (v := .ref (ad 28)) hx hb hts hown hG hM 28 (by decide) q1320 rfl rfl dX2_condition_137 ?_
                refine lv_iload_n hx hb dX2_condition_140 rfl (lv_at hl 3 rfl) ?_
                refine lv_dup2_11 hx hb dX2_condition_141 rfl rfl ?_
                refine M_iald (v := nI (G 28 r)) hx hb hG hM 28 rfl rfl (show r < 110 from by omega) (rfl) dX2_condition_142 ?_
                refine lv_iconst (v := nI 1) hx hb dX2_condition_143 (by decide) ?_
                refine kn_add hx hb dX2_condition_144 ?_
                refine M_iastN (v := G 28 r + 1) hx hb hG hS hM 28 rfl (AM.a 28 rfl) rfl rfl (show r < 110 from by omega) dX2_condition_145 (fun H locs hM hz hS => ?_)
                refine lv_aload_n hx hb dX2_condition_146 rfl (lv_at hl 2 rfl) ?_
                refine M_get (v := .int (nI ((nuN (tokN (tokN N J) J) J) 34))) hx hb hts hown hG hM 34 (by decide) q1326 rfl rfl dX2_condition_147 ?_
                refine kn_zne (tgt := 157) hx hb dX2_condition_150 (by decide) (by have := (PsOk.nu (J := J) (PsOk.tok (J := J) (PsOk.tok (J := J) h1))).2.2.2.1; omega) (fun c_150 => ?_) (fun c_150 => ?_)
                · refine lv_iconst (v := nI 0) hx hb dX2_condition_157 (by decide) ?_
                  subst hQ
                  exact W.zret (v := nI 0) hx hb hrt rfl (fun t ht hW => ⟨⟨_, ((nuN (tokN (tokN N J) J) J), (nuI (tokN (tokN N J) J) I), (up2 (up2 (up2 (up2 G 29 (3 * r + (G 28 r)) k3) 30 (3 * r + (G 28 r)) 2) 31 (3 * r + (G 28 r)) (nuV (tokN (tokN N J) J))) 28 r (G 28 r + 1)), J), rfl, (by rw [show coT N I G J r = (decide (nuN (tokN (tokN N J) J) J 34 = 0), nuN (tokN (tokN N J) J) J, nuI (tokN (tokN N J) J) I, up2 (up2 (up2 (up2 G 29 (3 * r + G 28 r) k3) 30 (3 * r + G 28 r) (relS (tokN N J) J)) 31 (3 * r + G 28 r) (nuV (tokN (tokN N J) J))) 28 r (G 28 r + 1)) from by unfold coT; rw [ho3]; exact (if_neg c_25).trans (if_pos (Or.inr (Or.inr c_80))), show relS (tokN N J) J = 2 from (if_neg (by rw [c_100]; decide)).trans (if_neg (by rw [c_113]; decide))]; exact ⟨by rw [decide_eq_false c_150]; rfl, rfl⟩), by rw [ht]; exact hM, GK.warm hW hG⟩, hS.F ht⟩) hS.2.2 dX2_condition_158
                · refine lv_iconst (v := nI 1) hx hb dX2_condition_153 (by decide) ?_
                  refine lv_goto (tgt := 158) hx hb dX2_condition_154 (by decide) ?_
                  subst hQ
                  exact W.zret (v := nI 1) hx hb hrt rfl (fun t ht hW => ⟨⟨_, ((nuN (tokN (tokN N J) J) J), (nuI (tokN (tokN N J) J) I), (up2 (up2 (up2 (up2 G 29 (3 * r + (G 28 r)) k3) 30 (3 * r + (G 28 r)) 2) 31 (3 * r + (G 28 r)) (nuV (tokN (tokN N J) J))) 28 r (G 28 r + 1)), J), rfl, (by rw [show coT N I G J r = (decide (nuN (tokN (tokN N J) J) J 34 = 0), nuN (tokN (tokN N J) J) J, nuI (tokN (tokN N J) J) I, up2 (up2 (up2 (up2 G 29 (3 * r + G 28 r) k3) 30 (3 * r + G 28 r) (relS (tokN N J) J)) 31 (3 * r + G 28 r) (nuV (tokN (tokN N J) J))) 28 r (G 28 r + 1)) from by unfold coT; rw [ho3]; exact (if_neg c_25).trans (if_pos (Or.inr (Or.inr c_80))), show relS (tokN N J) J = 2 from (if_neg (by rw [c_100]; decide)).trans (if_neg (by rw [c_113]; decide))]; exact ⟨by rw [decide_eq_true c_150]; rfl, rfl⟩), by rw [ht]; exact hM, GK.warm hW hG⟩, hS.F ht⟩) hS.2.2 dX2_condition_158
              · rw [c_71] at c_113
                cases c_113
            · rw [c_62] at c_100
              cases c_100
          · refine lv_aload_n hx hb dX2_condition_83 rfl (lv_at hl 2 rfl) ?_
            refine lv_iconst (v := nI 1) hx hb dX2_condition_84 (by decide) ?_
            refine va_calli (va_runV (As := [.int (nI 1)]) (rest := []) ⟨hx, hb, hml, hown, hts⟩ (c_X2_wrong lh D dA a0 ad (tokN N J) I (up2 G 29 (3 * r + (G 28 r)) k3) J H.size 1 (by have := (PsOk.tok (J := J) h1).2.2.2.1; omega)) (w_X2_wrong hts q1555 rfl rfl ⟨Nat.le_of_ble_eq_true rfl, Nat.le_of_ble_eq_true rfl⟩) ⟨PmM.blind, M_recv hG hM, PmM.pre hG hM⟩ rfl rfl hl.1 rfl (lv_room (Nat.le_of_ble_eq_true rfl)) dX2_condition_85 ⟨Nat.le_of_ble_eq_true rfl, Nat.le_of_ble_eq_true rfl⟩) hS (fun q _ h => AM.up (hS.1) q h) (fun q h => AM.up (hS.1) q h) (fun rr u t H1 locs ht hvm hp hB hz hk hS => ?_)
            obtain ⟨hM, -⟩ := hB
            rw [ht] at hM
            clear ht hz hk
            generalize H1 = H at hM hS ⊢
            obtain ⟨hrr, hu⟩ := hp
            subst hrr hu
            dsimp only at hM
            subst hQ
            exact W.zret (v := nI 0) hx hb hrt rfl (fun t ht hW => ⟨⟨_, ((wrN (tokN N J) 1), (wrI (tokN N J) I), (up2 G 29 (3 * r + (G 28 r)) k3), J), rfl, (by rw [show coT N I G J r = (false, wrN (tokN N J) 1, wrI (tokN N J) I, up2 G 29 (3 * r + G 28 r) k3) from by unfold coT; rw [ho3]; exact (if_neg c_25).trans (if_neg (by rw [c_62, c_71, c_80]; decide))]; exact ⟨rfl, rfl⟩), by rw [ht]; exact hM, GK.warm hW hG⟩, hS.F ht⟩) hS.2.2 dX2_condition_88
    · refine lv_aload_n hx hb dX2_condition_28 rfl (lv_at hl 1 rfl) ?_
      refine lv_iconst (v := nI 2) hx hb dX2_condition_29 (by decide) ?_
      refine va_calli (va_runV (As := [.int (nI 2)]) (rest := []) ⟨hx, hb, hml, hown, hts⟩ (c_X2_wrong lh D dA a0 ad N I G J s.heap.size 2 (by have := h1.2.2.2.1; omega)) (w_X2_wrong hts q1555 rfl rfl ⟨Nat.le_of_ble_eq_true rfl, Nat.le_of_ble_eq_true rfl⟩) ⟨PmM.blind, M_recv hG hM, PmM.pre hG hM⟩ rfl rfl hl.1 rfl (lv_room (Nat.le_of_ble_eq_true rfl)) dX2_condition_30 ⟨Nat.le_of_ble_eq_true rfl, Nat.le_of_ble_eq_true rfl⟩) hS (fun q _ h => AM.up (hS.1) q h) (fun q h => AM.up (hS.1) q h) (fun rr u t H1 locs ht hvm hp hB hz hk hS => ?_)
      obtain ⟨hM, -⟩ := hB
      rw [ht] at hM
      clear ht hz hk
      generalize H1 = H at hM hS ⊢
      obtain ⟨hrr, hu⟩ := hp
      subst hrr hu
      dsimp only at hM
      subst hQ
      exact W.zret (v := nI 0) hx hb hrt rfl (fun t ht hW => ⟨⟨_, ((wrN N 2), (wrI N I), G, J), rfl, (by rw [show coT N I G J r = (false, wrN N 2, wrI N I, G) from by unfold coT; rw [ho3]; exact if_pos c_25]; exact ⟨rfl, rfl⟩), by rw [ht]; exact hM, GK.warm hW hG⟩, hS.F ht⟩) hS.2.2 dX2_condition_33
theorem w_X2_condition {R : Room} {s : State} {args : Array Value} {own : String} {idx : Nat} (hts : ∀ w ∈ lw_all, w.before args s = true) (h1 : Cond.methodLink own idx yX2_condition ∈ lw_all) {rm : Room} {mc ms : Nat} (hrc : rm.cells = mc) (hrs : rm.slots = ms) (hR : rm.frames + 1 ≤ R.frames ∧ 8 + (4 + 11) + rm.locals ≤ R.locals) : CallW R s args own RX2 idx yX2_condition cX2_condition 4 (some .boolean) (ws_ yX2_condition cX2_condition 4 (some .boolean)) rm mc ms 1 := cwV 1 hts (lw_V h1 q1561 qs43 q70 q1562) rfl hrc hrs (by decide +kernel) hR
