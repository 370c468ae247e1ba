set_option maxRecDepth 100000
abbrev r_X2_goes : Room := { frames := 1, cells := 0, slots := 0, locals := 23 }
set_option maxHeartbeats 400000 in
theorem c_X2_goes (lh : Launch) (D : va_G) (dA : Nat → ClassId) (a0 : Nat) (ad : Nat → Nat) (N : Nat → Nat) (I : Nat → Int32) (G : Nat → Nat → Nat) (J : Nat → Nat → Int32) (sz : Nat) (c : Nat) (sv : Nat) (h1 : c < 10) : Met lh yX2_goes (ws_ yX2_goes cX2_goes 4 none) r_X2_goes (PmM D dA a0 ad N I G J sz [.ref a0, .int (nI c), .int (nI sv)]) (va_Qv (fun u : SgT => u = (up1 N 15 (N 15 + gr G c), I, goesG G c sv, J)) (BmM D dA a0 ad) (AM a0 ad sz)) 0 0 (AM a0 ad sz) := by
  refine Met.ofW (cc := cX2_goes) (maxL := 4) (ret := none) (by decide) rfl ?_
  intro p e s m args below meth cd s₁ B hml hv
  obtain ⟨hargs, hsz, hM, hG⟩ := hv
  have hx := B.exec
  have hb := B.bytes
  have hrt := B.returns
  have hts := atoms_spec (ws := (ws_ yX2_goes cX2_goes 4 none)) B.pre
  have hts : ∀ w ∈ lw_all, w.before _ s = true := fun w h => hts w (List.mem_cons_of_mem _ h)
  have hown : s.vm.findClass RX2 = some m.cls := findClass_of_methodNamed B.named
  have hlocks := B.notSynchronized
  subst hsz
  have hS : va_S (AM a0 ad s.heap.size) s.heap s.heap [] := va_S.rf
  have hE : entryFrame m args 4 = F0 m 0 ((lg_sl ([.ref a0, .int (nI c), .int (nI sv)]) ++ List.replicate (4 - (lg_sl ([.ref a0, .int (nI c), .int (nI sv)])).length) Slot.unset).toArray) [] := by rw [hargs]; exact lg_entry_eq m _ 4
  have hl := lv_entry ([.ref a0, .int (nI c), .int (nI sv)]) (n := 4) (Nat.le_of_ble_eq_true rfl)
  rw [hE]
  clear hE
  generalize (lg_sl ([.ref a0, .int (nI c), .int (nI sv)]) ++ List.replicate (4 - (lg_sl ([.ref a0, .int (nI c), .int (nI sv)])).length) Slot.unset).toArray = ls at hl ⊢
  have hl : lv_has ls 4 [(0, .ref a0), (1, .int (nI c)), (2, .int (nI sv))] := hl
  generalize hQ : MQ _ _ _ _ _ _ _ = Q
  refine lv_aload_n hx hb dX2_goes_0 rfl (lv_at hl 0 rfl) ?_
  refine lv_dup hx hb dX2_goes_1 rfl ?_
  refine M_get (v := .int (nI (N 15))) hx hb hts hown hG hM 15 (by decide) q1307 rfl rfl dX2_goes_2 ?_
  refine lv_aload_n hx hb dX2_goes_5 rfl (lv_at hl 0 rfl) ?_
  refine lv_iload_n hx hb dX2_goes_6 rfl (lv_at hl 1 rfl) ?_
  refine vp_callSi (W.runV (As := [.int (nI c)]) (rest := [.int (nI (N 15)), .ref a0]) ⟨hx, hb, hml, hown, hts⟩ (c_X2_grams lh D dA a0 ad N I G J c (show c < 10 from by first | omega | assumption | exact hB_up (by assumption) (by omega))) (w_X2_grams hts q1487 rfl rfl ⟨Nat.le_of_ble_eq_true rfl, Nat.le_of_ble_eq_true rfl⟩) ⟨PqM.blind, M_recv hG hM, PqM.pre hG hM⟩ rfl rfl hl.1 rfl (lv_room (Nat.le_of_ble_eq_true rfl)) dX2_goes_7 ⟨Nat.le_of_ble_eq_true rfl, Nat.le_of_ble_eq_true rfl⟩) (fun rr hrr => ?_)
  subst hrr
  refine kn_add hx hb dX2_goes_10 ?_
  refine M_put hx hb hts hown hG hS AM.o hM 15 (by decide) q1307 rfl rfl rfl (up1 N 15 (N 15 + (gr G c))) I rfl dX2_goes_11 (fun H locs hM hz hS => ?_)
  refine lv_iconst (v := nI 0) hx hb dX2_goes_14 (by decide) ?_
  refine lv_istore_n (lv' := [(3, .int (nI 0)), (0, .ref a0), (1, .int (nI c)), (2, .int (nI sv))]) hx hb dX2_goes_15 rfl hl (by decide) rfl (fun ls hl => ?_)
  have L16 : ∀ (nn16 : Nat) (l : Nat), (l ≤ 20) → 20 - l < nn16 → ∀ (H : Heap) (locs : List Loc), RM D dA a0 ad (up1 N 15 (N 15 + gr G c)) I (zeroG G c l) J H → va_S (AM a0 ad s.heap.size) s.heap H locs → ∀ (ls : Array Slot), lv_has ls 4 [(0, .ref a0), (1, .int (nI c)), (2, .int (nI sv)), (3, .int (nI l))] → W p lh e r_X2_goes s m args below meth cd H locs 0 0 Q (F0 m 16 ls []) := by
    intro nn16
    induction nn16 with
    | zero => intro l i16_0 hm16; exact absurd hm16 (Nat.not_lt_zero _)
    | succ nn16 ih16 =>
      intro l i16_0 hm16 H locs hM hS ls hl
      refine lv_iload_n hx hb dX2_goes_16 rfl (lv_at hl 3 rfl) ?_
      refine lv_bipush (v := nI 20) hx hb dX2_goes_17 (by decide) ?_
      refine kn_cge (tgt := 40) hx hb dX2_goes_19 (by decide) (by omega) (by omega) (fun c_19 => ?_) (fun c_19 => ?_)
      · refine lv_aload_n hx hb dX2_goes_40 rfl (lv_at hl 0 rfl) ?_
        refine M_get (v := .ref (ad 6)) hx hb hts hown hG hM 6 (by decide) q1298 rfl rfl dX2_goes_41 ?_
        refine lv_iload_n hx hb dX2_goes_44 rfl (lv_at hl 1 rfl) ?_
        refine lv_iload_n hx hb dX2_goes_45 rfl (lv_at hl 2 rfl) ?_
        refine M_iastN (v := sv) hx hb hG hS hM 6 rfl (AM.a 6 rfl) rfl rfl (show c < 10 from by omega) dX2_goes_46 (fun H locs hM hz hS => ?_)
        subst hQ
        exact W.vret hx hb hrt (fun t ht hW => ⟨⟨((up1 N 15 (N 15 + gr G c)), I, (up2 (zeroG G c l) 6 c sv), J), rfl, (by have e : l = 20 := (by omega); subst e; rfl), by rw [ht]; exact hM, GK.warm hW hG⟩, hS.F ht⟩) hS.2.2 dX2_goes_47
      · refine lv_aload_n hx hb dX2_goes_22 rfl (lv_at hl 0 rfl) ?_
        refine M_get (v := .ref (ad 4)) hx hb hts hown hG hM 4 (by decide) q1296 rfl rfl dX2_goes_23 ?_
        refine lv_bipush (v := nI 20) hx hb dX2_goes_26 (by decide) ?_
        refine lv_iload_n hx hb dX2_goes_28 rfl (lv_at hl 1 rfl) ?_
        refine kn_mul hx hb dX2_goes_29 ?_
        refine lv_iload_n hx hb dX2_goes_30 rfl (lv_at hl 3 rfl) ?_
        refine kn_add hx hb dX2_goes_31 ?_
        refine lv_iconst (v := nI 0) hx hb dX2_goes_32 (by decide) ?_
        refine M_iastN (v := 0) hx hb hG hS hM 4 rfl (AM.a 4 rfl) rfl rfl (show 20 * c + l < 200 from by omega) dX2_goes_33 (fun H locs hM hz hS => ?_)
        refine lv_iinc (v := nI (l + 1)) (lv' := [(3, .int (nI (l + 1))), (0, .ref a0), (1, .int (nI c)), (2, .int (nI sv))]) hx hb dX2_goes_34 hl (k := 3) rfl (show nI l + Int32.ofInt 1 = nI (l + 1) from nI_add _ 1) (by decide) rfl (fun ls hl => ?_)
        refine lv_goto (tgt := 16) hx hb dX2_goes_37 (by decide) ?_
        exact ih16 (l + 1) (by omega) (by omega) _ _ hM hS _ (lv_sub hl [1, 2, 3, 0] rfl)
  exact L16 _ 0 (by omega) (Nat.lt_succ_self _) _ _ hM hS _ (lv_sub hl [1, 2, 3, 0] rfl)
theorem w_X2_goes {R : Room} {s : State} {args : Array Value} {own : String} {idx : Nat} (hts : ∀ w ∈ lw_all, w.before args s = true) (h1 : Cond.methodLink own idx yX2_goes ∈ lw_all) {rm : Room} {mc ms : Nat} (hrc : rm.cells = mc) (hrs : rm.slots = ms) (hR : rm.frames + 1 ≤ R.frames ∧ 8 + (4 + 11) + rm.locals ≤ R.locals) : CallW R s args own RX2 idx yX2_goes cX2_goes 4 none (ws_ yX2_goes cX2_goes 4 none) rm mc ms 2 := cwV 2 hts (lw_V h1 q1608 qs51 q70 q1609) rfl hrc hrs (by decide +kernel) hR

abbrev r_X2_part : Room := { frames := 2, cells := 0, slots := 0, locals := 43 }
set_option maxHeartbeats 400000 in
theorem c_X2_part (lh : Launch) (D : va_G) (dA : Nat → ClassId) (a0 : Nat) (ad : Nat → Nat) (N : Nat → Nat) (I : Nat → Int32) (G : Nat → Nat → Nat) (J : Nat → Nat → Int32) (sz : Nat) (c : Int32) (l : Int32) (h1 : N 3 ≤ 10) (h2 : N 1 ≤ 20) : Met lh yX2_part (ws_ yX2_part cX2_part 4 (some .int)) r_X2_part (PmM D dA a0 ad N I G J sz [.ref a0, .int c, .int l]) (va_Qi (fun (r : Int32) (u : SgT) => if partB N c l = true then r = nI (G 4 (20 * tn c + tn l)) ∧ u = (up1 N 0 0, I, G, J) else r = nI 0 ∧ u = (up1 N 0 1, I, G, J)) (BmM D dA a0 ad) (AM a0 ad sz)) 0 0 (AM a0 ad sz) := by
  refine Met.ofW (cc := cX2_part) (maxL := 4) (ret := (some .int)) (by decide) rfl ?_
  intro p e s m args below meth cd s₁ B hml hv
  obtain ⟨hargs, hsz, hM, hG⟩ := hv
  have hx := B.exec
  have hb := B.bytes
  have hrt := B.returns
  have hts := atoms_spec (ws := (ws_ yX2_part cX2_part 4 (some .int))) B.pre
  have hts : ∀ w ∈ lw_all, w.before _ s = true := fun w h => hts w (List.mem_cons_of_mem _ h)
  have hown : s.vm.findClass RX2 = some m.cls := findClass_of_methodNamed B.named
  have hlocks := B.notSynchronized
  subst hsz
  have hS : va_S (AM a0 ad s.heap.size) s.heap s.heap [] := va_S.rf
  have hE : entryFrame m args 4 = F0 m 0 ((lg_sl ([.ref a0, .int c, .int l]) ++ List.replicate (4 - (lg_sl ([.ref a0, .int c, .int l])).length) Slot.unset).toArray) [] := by rw [hargs]; exact lg_entry_eq m _ 4
  have hl := lv_entry ([.ref a0, .int c, .int l]) (n := 4) (Nat.le_of_ble_eq_true rfl)
  rw [hE]
  clear hE
  generalize (lg_sl ([.ref a0, .int c, .int l]) ++ List.replicate (4 - (lg_sl ([.ref a0, .int c, .int l])).length) Slot.unset).toArray = ls at hl ⊢
  have hl : lv_has ls 4 [(0, .ref a0), (1, .int c), (2, .int l)] := hl
  generalize hQ : MQ _ _ _ _ _ _ _ = Q
  refine lv_aload_n hx hb dX2_part_0 rfl (lv_at hl 0 rfl) ?_
  refine lv_iload_n hx hb dX2_part_1 rfl (lv_at hl 1 rfl) ?_
  refine vp_callSi (W.runV (As := [.int c]) (rest := []) ⟨hx, hb, hml, hown, hts⟩ (c_X2_isCrock lh D dA a0 ad N I G J c) (w_X2_isCrock hts q1483 rfl rfl ⟨Nat.le_of_ble_eq_true rfl, Nat.le_of_ble_eq_true rfl⟩) ⟨PqM.blind, M_recv hG hM, PqM.pre hG hM⟩ rfl rfl hl.1 rfl (lv_room (Nat.le_of_ble_eq_true rfl)) dX2_part_2 ⟨Nat.le_of_ble_eq_true rfl, Nat.le_of_ble_eq_true rfl⟩) (fun rr hrr => ?_)
  subst hrr
  refine kb_eq (tgt := 26) hx hb dX2_part_5 (by decide) (fun c_5 => ?_) (fun c_5 => ?_)
  · refine lv_iconst (v := nI 0) hx hb dX2_part_26 (by decide) ?_
    refine lv_istore_n (lv' := [(3, .int (nI 0)), (0, .ref a0), (1, .int c), (2, .int l)]) hx hb dX2_part_27 rfl hl (by decide) rfl (fun ls hl => ?_)
    refine lv_aload_n hx hb dX2_part_28 rfl (lv_at hl 1 rfl) ?_
    refine lv_iload_n hx hb dX2_part_29 rfl (lv_at hl 0 rfl) ?_
    refine kn_zeq (tgt := 37) hx hb dX2_part_30 (by decide) (by decide) (fun _ => ?_) (fun c => absurd c (by decide))
    refine lv_iconst (v := nI 1) hx hb dX2_part_37 (by decide) ?_
    refine M_put hx hb hts hown hG hS AM.o hM 0 (by decide) q1292 rfl rfl rfl (up1 N 0 1) I rfl dX2_part_38 (fun H locs hM hz hS => ?_)
    refine lv_iload_n hx hb dX2_part_41 rfl (lv_at hl 0 rfl) ?_
    refine kn_zeq (tgt := 59) hx hb dX2_part_42 (by decide) (by decide) (fun _ => ?_) (fun c => absurd c (by decide))
    refine lv_iconst (v := nI 0) hx hb dX2_part_59 (by decide) ?_
    subst hQ
    exact W.iret (v := nI 0) hx hb hrt (fun t ht hW => ⟨⟨_, ((up1 N 0 1), I, G, J), rfl, (by dsimp only; rw [if_neg (by simp [partB, c_5])]; exact ⟨rfl, rfl⟩), by rw [ht]; exact hM, GK.warm hW hG⟩, hS.F ht⟩) hS.2.2 dX2_part_60
  · obtain ⟨j, hj, rfl⟩ := wi_cnt (by omega) c_5
    refine lv_iload_n hx hb dX2_part_8 rfl (lv_at hl 2 rfl) ?_
    refine lv_iconst (v := nI 0) hx hb dX2_part_9 (by decide) ?_
    refine lv_aload_n hx hb dX2_part_10 rfl (lv_at hl 0 rfl) ?_
    refine M_get (v := .int (nI (N 1))) hx hb hts hown hG hM 1 (by decide) q1293 rfl rfl dX2_part_11 ?_
    refine lv_iconst (v := nI 1) hx hb dX2_part_14 (by decide) ?_
    refine lv_isub hx hb dX2_part_15 ?_
    refine vp_callSi (W.runS (As := [.int l, .int (nI 0), .int (nI (N 1) - (nI 1))]) (rest := []) ⟨hx, hb, hml, hown, hts⟩ (c_X2_within lh l (nI 0) (nI (N 1) - (nI 1))) (w_X2_within hts q1464 rfl rfl ⟨Nat.le_of_ble_eq_true rfl, Nat.le_of_ble_eq_true rfl⟩) ⟨P0.blind, P0.pre⟩ rfl rfl hl.1 rfl (lv_room (Nat.le_of_ble_eq_true rfl)) dX2_part_16 ⟨Nat.le_of_ble_eq_true rfl, Nat.le_of_ble_eq_true rfl⟩) (fun rr hrr => ?_)
    subst hrr
    refine kb_eq (tgt := 26) hx hb dX2_part_19 (by decide) (fun c_19 => ?_) (fun c_19 => ?_)
    · refine lv_iconst (v := nI 0) hx hb dX2_part_26 (by decide) ?_
      refine lv_istore_n (lv' := [(3, .int (nI 0)), (0, .ref a0), (1, .int (nI j)), (2, .int l)]) hx hb dX2_part_27 rfl hl (by decide) rfl (fun ls hl => ?_)
      refine lv_aload_n hx hb dX2_part_28 rfl (lv_at hl 1 rfl) ?_
      refine lv_iload_n hx hb dX2_part_29 rfl (lv_at hl 0 rfl) ?_
      refine kn_zeq (tgt := 37) hx hb dX2_part_30 (by decide) (by decide) (fun _ => ?_) (fun c => absurd c (by decide))
      refine lv_iconst (v := nI 1) hx hb dX2_part_37 (by decide) ?_
      refine M_put hx hb hts hown hG hS AM.o hM 0 (by decide) q1292 rfl rfl rfl (up1 N 0 1) I rfl dX2_part_38 (fun H locs hM hz hS => ?_)
      refine lv_iload_n hx hb dX2_part_41 rfl (lv_at hl 0 rfl) ?_
      refine kn_zeq (tgt := 59) hx hb dX2_part_42 (by decide) (by decide) (fun _ => ?_) (fun c => absurd c (by decide))
      refine lv_iconst (v := nI 0) hx hb dX2_part_59 (by decide) ?_
      subst hQ
      exact W.iret (v := nI 0) hx hb hrt (fun t ht hW => ⟨⟨_, ((up1 N 0 1), I, G, J), rfl, (by dsimp only; rw [if_neg (by simp [partB, c_5, c_19, tn_nI (show j < 2 ^ 31 by omega)])]; exact ⟨rfl, rfl⟩), by rw [ht]; exact hM, GK.warm hW hG⟩, hS.F ht⟩) hS.2.2 dX2_part_60
    · obtain ⟨k, hk, rfl⟩ := wi_cnt (by omega) c_19
      refine lv_iconst (v := nI 1) hx hb dX2_part_22 (by decide) ?_
      refine lv_goto (tgt := 27) hx hb dX2_part_23 (by decide) ?_
      refine lv_istore_n (lv' := [(3, .int (nI 1)), (0, .ref a0), (1, .int (nI j)), (2, .int (nI k))]) hx hb dX2_part_27 rfl hl (by decide) rfl (fun ls hl => ?_)
      refine lv_aload_n hx hb dX2_part_28 rfl (lv_at hl 1 rfl) ?_
      refine lv_iload_n hx hb dX2_part_29 rfl (lv_at hl 0 rfl) ?_
      refine kn_zeq (tgt := 37) hx hb dX2_part_30 (by decide) (by decide) (fun c => absurd c (by decide)) (fun _ => ?_)
      refine lv_iconst (v := nI 0) hx hb dX2_part_33 (by decide) ?_
      refine lv_goto (tgt := 38) hx hb dX2_part_34 (by decide) ?_
      refine M_put hx hb hts hown hG hS AM.o hM 0 (by decide) q1292 rfl rfl rfl (up1 N 0 0) I rfl dX2_part_38 (fun H locs hM hz hS => ?_)
      refine lv_iload_n hx hb dX2_part_41 rfl (lv_at hl 0 rfl) ?_
      refine kn_zeq (tgt := 59) hx hb dX2_part_42 (by decide) (by decide) (fun c => absurd c (by decide)) (fun _ => ?_)
      refine lv_aload_n hx hb dX2_part_45 rfl (lv_at hl 1 rfl) ?_
      refine M_get (v := .ref (ad 4)) hx hb hts hown hG hM 4 (by decide) q1296 rfl rfl dX2_part_46 ?_
      refine lv_bipush (v := nI 20) hx hb dX2_part_49 (by decide) ?_
      refine lv_iload_n hx hb dX2_part_51 rfl (lv_at hl 2 rfl) ?_
      refine kn_mul hx hb dX2_part_52 ?_
      refine lv_iload_n hx hb dX2_part_53 rfl (lv_at hl 3 rfl) ?_
      refine kn_add hx hb dX2_part_54 ?_
      refine M_iald (v := nI (G 4 (20 * j + k))) hx hb hG hM 4 rfl rfl (show 20 * j + k < 200 from by omega) (rfl) dX2_part_55 ?_
      refine lv_goto (tgt := 60) hx hb dX2_part_56 (by decide) ?_
      subst hQ
      exact W.iret (v := nI (G 4 (20 * j + k))) hx hb hrt (fun t ht hW => ⟨⟨_, ((up1 N 0 0), I, G, J), rfl, (by dsimp only; rw [if_pos (by simp [partB, c_5, c_19, tn_nI (show j < 2 ^ 31 by omega), tn_nI (show k < 2 ^ 31 by omega)])]; refine ⟨?_, ?_⟩ <;> (try simp only [tn_nI (show j < 2 ^ 31 by omega), tn_nI (show k < 2 ^ 31 by omega)]) <;> (try rfl)), by rw [ht]; exact hM, GK.warm hW hG⟩, hS.F ht⟩) hS.2.2 dX2_part_60
theorem w_X2_part {R : Room} {s : State} {args : Array Value} {own : String} {idx : Nat} (hts : ∀ w ∈ lw_all, w.before args s = true) (h1 : Cond.methodLink own idx yX2_part ∈ lw_all) {rm : Room} {mc ms : Nat} (hrc : rm.cells = mc) (hrs : rm.slots = ms) (hR : rm.frames + 1 ≤ R.frames ∧ 8 + (4 + 11) + rm.locals ≤ R.locals) : CallW R s args own RX2 idx yX2_part cX2_part 4 (some .int) (ws_ yX2_part cX2_part 4 (some .int)) rm mc ms 2 := cwV 2 hts (lw_V h1 q1492 q1493 q70 q1494) rfl hrc hrs (by decide +kernel) hR

abbrev r_X2_warmth : Room := { frames := 1, cells := 0, slots := 0, locals := 22 }
set_option maxHeartbeats 400000 in
theorem c_X2_warmth (lh : Launch) (D : va_G) (dA : Nat → ClassId) (a0 : Nat) (ad : Nat → Nat) (N : Nat → Nat) (I : Nat → Int32) (G : Nat → Nat → Nat) (J : Nat → Nat → Int32) (sz : Nat) (z : Int32) (h : Int32) (v : Int32) (h1 : N 14 ≤ 600) : Met lh yX2_warmth (ws_ yX2_warmth cX2_warmth 4 (some .boolean)) r_X2_warmth (PmM D dA a0 ad N I G J sz [.ref a0, .int z, .int h, .int v]) (va_Qi (fun (r : Int32) (u : SgT) => if warmB N z h v = true then r = nI 1 ∧ u = (up1 N 0 0, I, up2 G 17 (600 * tn z + tn h) 1, up2 J 16 (600 * tn z + tn h) v) else r = nI 0 ∧ u = (up1 N 0 0, I, G, J)) (BmM D dA a0 ad) (AM a0 ad sz)) 0 0 (AM a0 ad sz) := by
  refine Met.ofW (cc := cX2_warmth) (maxL := 4) (ret := (some .boolean)) (by decide) rfl ?_
  intro p e s m args below meth cd s₁ B hml hv
  obtain ⟨hargs, hsz, hM, hG⟩ := hv
  have hx := B.exec
  have hb := B.bytes
  have hrt := B.returns
  have hts := atoms_spec (ws := (ws_ yX2_warmth cX2_warmth 4 (some .boolean))) B.pre
  have hts : ∀ w ∈ lw_all, w.before _ s = true := fun w h => hts w (List.mem_cons_of_mem _ h)
  have hown : s.vm.findClass RX2 = some m.cls := findClass_of_methodNamed B.named
  have hlocks := B.notSynchronized
  subst hsz
  have hS : va_S (AM a0 ad s.heap.size) s.heap s.heap [] := va_S.rf
  have hE : entryFrame m args 4 = F0 m 0 ((lg_sl ([.ref a0, .int z, .int h, .int v]) ++ List.replicate (4 - (lg_sl ([.ref a0, .int z, .int h, .int v])).length) Slot.unset).toArray) [] := by rw [hargs]; exact lg_entry_eq m _ 4
  have hl := lv_entry ([.ref a0, .int z, .int h, .int v]) (n := 4) (Nat.le_of_ble_eq_true rfl)
  rw [hE]
  clear hE
  generalize (lg_sl ([.ref a0, .int z, .int h, .int v]) ++ List.replicate (4 - (lg_sl ([.ref a0, .int z, .int h, .int v])).length) Slot.unset).toArray = ls at hl ⊢
  have hl : lv_has ls 4 [(0, .ref a0), (1, .int z), (2, .int h), (3, .int v)] := hl
  generalize hQ : MQ _ _ _ _ _ _ _ = Q
  refine lv_aload_n hx hb dX2_warmth_0 rfl (lv_at hl 0 rfl) ?_
  refine lv_iconst (v := nI 0) hx hb dX2_warmth_1 (by decide) ?_
  refine M_put hx hb hts hown hG hS AM.o hM 0 (by decide) q1292 rfl rfl rfl (up1 N 0 0) I rfl dX2_warmth_2 (fun H locs hM hz hS => ?_)
  refine lv_iload_n hx hb dX2_warmth_5 rfl (lv_at hl 1 rfl) ?_
  refine lv_iconst (v := nI 0) hx hb dX2_warmth_6 (by decide) ?_
  refine lv_iconst (v := nI 2) hx hb dX2_warmth_7 (by decide) ?_
  refine vp_callSi (W.runS (As := [.int z, .int (nI 0), .int (nI 2)]) (rest := []) ⟨hx, hb, hml, hown, hts⟩ (c_X2_within lh z (nI 0) (nI 2)) (w_X2_within hts q1464 rfl rfl ⟨Nat.le_of_ble_eq_true rfl, Nat.le_of_ble_eq_true rfl⟩) ⟨P0.blind, P0.pre⟩ rfl rfl hl.1 rfl (lv_room (Nat.le_of_ble_eq_true rfl)) dX2_warmth_8 ⟨Nat.le_of_ble_eq_true rfl, Nat.le_of_ble_eq_true rfl⟩) (fun rr hrr => ?_)
  subst hrr
  refine kx_int (y := bI (wi z (nI 0) (nI 2))) rfl ?_
  refine kb_eq (tgt := 39) hx hb dX2_warmth_11 (by decide) (fun c_11 => ?_) (fun c_11 => ?_)
  · refine lv_iconst (v := nI 0) hx hb dX2_warmth_39 (by decide) ?_
    subst hQ
    exact W.zret (v := nI 0) hx hb hrt rfl (fun t ht hW => ⟨⟨_, ((up1 N 0 0), I, G, J), rfl, (by dsimp only; rw [if_neg (by simp [warmB, c_11])]; exact ⟨rfl, rfl⟩), by rw [ht]; exact hM, GK.warm hW hG⟩, hS.F ht⟩) hS.2.2 dX2_warmth_40
  · obtain ⟨j, hj1, hj2, rfl⟩ := wi_nat (by decide) (by decide) c_11
    refine lv_iload_n hx hb dX2_warmth_14 rfl (lv_at hl 2 rfl) ?_
    refine lv_aload_n hx hb dX2_warmth_15 rfl (lv_at hl 0 rfl) ?_
    refine M_get (v := .int (nI (N 14))) hx hb hts hown hG hM 14 (by decide) q1306 rfl rfl dX2_warmth_16 ?_
    refine lv_sipush (v := nI 599) hx hb dX2_warmth_19 (by decide) ?_
    refine vp_callSi (W.runS (As := [.int h, .int (nI (N 14)), .int (nI 599)]) (rest := []) ⟨hx, hb, hml, hown, hts⟩ (c_X2_within lh h (nI (N 14)) (nI 599)) (w_X2_within hts q1464 rfl rfl ⟨Nat.le_of_ble_eq_true rfl, Nat.le_of_ble_eq_true rfl⟩) ⟨P0.blind, P0.pre⟩ rfl rfl hl.1 rfl (lv_room (Nat.le_of_ble_eq_true rfl)) dX2_warmth_22 ⟨Nat.le_of_ble_eq_true rfl, Nat.le_of_ble_eq_true rfl⟩) (fun rr hrr => ?_)
    subst hrr
    refine kx_int (y := bI (wi h (nI (N 14)) (nI 599))) rfl ?_
    refine kb_eq (tgt := 39) hx hb dX2_warmth_25 (by decide) (fun c_25 => ?_) (fun c_25 => ?_)
    · refine lv_iconst (v := nI 0) hx hb dX2_warmth_39 (by decide) ?_
      subst hQ
      exact W.zret (v := nI 0) hx hb hrt rfl (fun t ht hW => ⟨⟨_, ((up1 N 0 0), I, G, J), rfl, (by dsimp only; rw [if_neg (by simp [warmB, c_11, c_25, tn_nI (show j < 2 ^ 31 by omega)])]; exact ⟨rfl, rfl⟩), by rw [ht]; exact hM, GK.warm hW hG⟩, hS.F ht⟩) hS.2.2 dX2_warmth_40
    · obtain ⟨k, hk1, hk2, rfl⟩ := wi_nat (by omega) (by decide) c_25
      refine lv_iload_n hx hb dX2_warmth_28 rfl (lv_at hl 3 rfl) ?_
      refine lv_bipush (v := -5) hx hb dX2_warmth_29 (by decide) ?_
      refine lv_bipush (v := nI 42) hx hb dX2_warmth_31 (by decide) ?_
      refine vp_callSi (W.runS (As := [.int v, .int (-5), .int (nI 42)]) (rest := []) ⟨hx, hb, hml, hown, hts⟩ (c_X2_within lh v (-5) (nI 42)) (w_X2_within hts q1464 rfl rfl ⟨Nat.le_of_ble_eq_true rfl, Nat.le_of_ble_eq_true rfl⟩) ⟨P0.blind, P0.pre⟩ rfl rfl hl.1 rfl (lv_room (Nat.le_of_ble_eq_true rfl)) dX2_warmth_33 ⟨Nat.le_of_ble_eq_true rfl, Nat.le_of_ble_eq_true rfl⟩) (fun rr hrr => ?_)
      subst hrr
      refine kx_int (y := bI (wi v (-5) (nI 42))) rfl ?_
      refine kb_ne (tgt := 41) hx hb dX2_warmth_36 (by decide) (fun c_36 => ?_) (fun c_36 => ?_)
      · refine lv_aload_n hx hb dX2_warmth_41 rfl (lv_at hl 0 rfl) ?_
        refine M_get (v := .ref (ad 16)) hx hb hts hown hG hM 16 (by decide) q1308 rfl rfl dX2_warmth_42 ?_
        refine lv_sipush (v := nI 600) hx hb dX2_warmth_45 (by decide) ?_
        refine lv_iload_n hx hb dX2_warmth_48 rfl (lv_at hl 1 rfl) ?_
        refine kn_mul hx hb dX2_warmth_49 ?_
        refine lv_iload_n hx hb dX2_warmth_50 rfl (lv_at hl 2 rfl) ?_
        refine kn_add hx hb dX2_warmth_51 ?_
        refine lv_iload_n hx hb dX2_warmth_52 rfl (lv_at hl 3 rfl) ?_
        refine lv_i2b (v := v.toInt8.toInt32) hx hb dX2_warmth_53 rfl ?_
        refine M_bastJ (v := v) hx hb hG hS hM 16 rfl (AM.a 16 rfl) rfl rfl (show 600 * j + k < 1800 from by omega) ((vb_i c_36).1) dX2_warmth_54 (fun H locs hM hz hS => ?_)
        refine lv_aload_n hx hb dX2_warmth_55 rfl (lv_at hl 0 rfl) ?_
        refine M_get (v := .ref (ad 17)) hx hb hts hown hG hM 17 (by decide) q1309 rfl rfl dX2_warmth_56 ?_
        refine lv_sipush (v := nI 600) hx hb dX2_warmth_59 (by decide) ?_
        refine lv_iload_n hx hb dX2_warmth_62 rfl (lv_at hl 1 rfl) ?_
        refine kn_mul hx hb dX2_warmth_63 ?_
        refine lv_iload_n hx hb dX2_warmth_64 rfl (lv_at hl 2 rfl) ?_
        refine kn_add hx hb dX2_warmth_65 ?_
        refine lv_iconst (v := nI 1) hx hb dX2_warmth_66 (by decide) ?_
        refine M_zastN (v := 1) hx hb hG hS hM 17 rfl (AM.a 17 rfl) rfl rfl (show 600 * j + k < 1800 from by omega) (rfl) dX2_warmth_67 (fun H locs hM hz hS => ?_)
        refine lv_iconst (v := nI 1) hx hb dX2_warmth_68 (by decide) ?_
        subst hQ
        exact W.zret (v := nI 1) hx hb hrt rfl (fun t ht hW => ⟨⟨_, ((up1 N 0 0), I, (up2 G 17 (600 * j + k) 1), (up2 J 16 (600 * j + k) v)), rfl, (by dsimp only; rw [if_pos (by simp [warmB, c_11, c_25, c_36, tn_nI (show j < 2 ^ 31 by omega), tn_nI (show k < 2 ^ 31 by omega)])]; refine ⟨?_, ?_⟩ <;> (try simp only [tn_nI (show j < 2 ^ 31 by omega), tn_nI (show k < 2 ^ 31 by omega)]) <;> (try first | rfl | simp [c_11, c_25, c_36])), by rw [ht]; exact hM, GK.warm hW hG⟩, hS.F ht⟩) hS.2.2 dX2_warmth_69
      · refine lv_iconst (v := nI 0) hx hb dX2_warmth_39 (by decide) ?_
        subst hQ
        exact W.zret (v := nI 0) hx hb hrt rfl (fun t ht hW => ⟨⟨_, ((up1 N 0 0), I, G, J), rfl, (by dsimp only; rw [if_neg (by simp [warmB, c_11, c_25, c_36, tn_nI (show j < 2 ^ 31 by omega), tn_nI (show k < 2 ^ 31 by omega)])]; exact ⟨rfl, rfl⟩), by rw [ht]; exact hM, GK.warm hW hG⟩, hS.F ht⟩) hS.2.2 dX2_warmth_40
theorem w_X2_warmth {R : Room} {s : State} {args : Array Value} {own : String} {idx : Nat} (hts : ∀ w ∈ lw_all, w.before args s = true) (h1 : Cond.methodLink own idx yX2_warmth ∈ lw_all) {rm : Room} {mc ms : Nat} (hrc : rm.cells = mc) (hrs : rm.slots = ms) (hR : rm.frames + 1 ≤ R.frames ∧ 8 + (4 + 11) + rm.locals ≤ R.locals) : CallW R s args own RX2 idx yX2_warmth cX2_warmth 4 (some .boolean) (ws_ yX2_warmth cX2_warmth 4 (some .boolean)) rm mc ms 3 := cwV 3 hts (lw_V h1 q1496 q1497 q70 q1498) rfl hrc hrs (by decide +kernel) hR

abbrev r_X2_test : Room := { frames := 3, cells := 0, slots := 0, locals := 64 }
set_option maxHeartbeats 400000 in
theorem c_X2_test (lh : Launch) (D : va_G) (dA : Nat → ClassId) (a0 : Nat) (ad : Nat → Nat) (N : Nat → Nat) (I : Nat → Int32) (G : Nat → Nat → Nat) (J : Nat → Nat → Int32) (sz : Nat) (c : Int32) (h : Int32) (v : Int32) (h1 : ∀ a b, G a b < 2 ^ 31) (h2 : N 3 ≤ 10) (h3 : N 14 ≤ 600) (h4 : N 19 ≤ 100) : Met lh yX2_test (ws_ yX2_test cX2_test 4 (some .int)) r_X2_test (PmM D dA a0 ad N I G J sz [.ref a0, .int c, .int h, .int v]) (va_Qi (fun (r : Int32) (u : SgT) => if testB N G c h v = true then r = nI (N 19) ∧ u = (up1 (up1 N 0 0) 19 (N 19 + 1), I, testG G (N 19) (tn c) (tn h) (tn v), J) else r = -1 ∧ u = (up1 N 0 0, I, G, J)) (BmM D dA a0 ad) (AM a0 ad sz)) 0 0 (AM a0 ad sz) := by
  refine Met.ofW (cc := cX2_test) (maxL := 4) (ret := (some .int)) (by decide) rfl ?_
  intro p e s m args below meth cd s₁ B hml hv
  obtain ⟨hargs, hsz, hM, hG⟩ := hv
  have hx := B.exec
  have hb := B.bytes
  have hrt := B.returns
  have hts := atoms_spec (ws := (ws_ yX2_test cX2_test 4 (some .int))) B.pre
  have hts : ∀ w ∈ lw_all, w.before _ s = true := fun w h => hts w (List.mem_cons_of_mem _ h)
  have hown : s.vm.findClass RX2 = some m.cls := findClass_of_methodNamed B.named
  have hlocks := B.notSynchronized
  subst hsz
  have hS : va_S (AM a0 ad s.heap.size) s.heap s.heap [] := va_S.rf
  have hE : entryFrame m args 4 = F0 m 0 ((lg_sl ([.ref a0, .int c, .int h, .int v]) ++ List.replicate (4 - (lg_sl ([.ref a0, .int c, .int h, .int v])).length) Slot.unset).toArray) [] := by rw [hargs]; exact lg_entry_eq m _ 4
  have hl := lv_entry ([.ref a0, .int c, .int h, .int v]) (n := 4) (Nat.le_of_ble_eq_true rfl)
  rw [hE]
  clear hE
  generalize (lg_sl ([.ref a0, .int c, .int h, .int v]) ++ List.replicate (4 - (lg_sl ([.ref a0, .int c, .int h, .int v])).length) Slot.unset).toArray = ls at hl ⊢
  have hl : lv_has ls 4 [(0, .ref a0), (1, .int c), (2, .int h), (3, .int v)] := hl
  generalize hQ : MQ _ _ _ _ _ _ _ = Q
  refine lv_aload_n hx hb dX2_test_0 rfl (lv_at hl 0 rfl) ?_
  refine lv_iconst (v := nI 0) hx hb dX2_test_1 (by decide) ?_
  refine M_put hx hb hts hown hG hS AM.o hM 0 (by decide) q1292 rfl rfl rfl (up1 N 0 0) I rfl dX2_test_2 (fun H locs hM hz hS => ?_)
  refine lv_aload_n hx hb dX2_test_5 rfl (lv_at hl 0 rfl) ?_
  refine lv_iload_n hx hb dX2_test_6 rfl (lv_at hl 1 rfl) ?_
  refine vp_callSi (W.runV (As := [.int c]) (rest := []) ⟨hx, hb, hml, hown, hts⟩ (c_X2_lives lh D dA a0 ad (up1 N 0 0) I G J c (show ∀ a b, G a b < 2 ^ 31 from by first | omega | assumption | exact hB_up (by assumption) (by omega)) (show (N 3) ≤ 10 from by first | omega | assumption | exact hB_up (by assumption) (by omega))) (w_X2_lives hts q1479 rfl rfl ⟨Nat.le_of_ble_eq_true rfl, Nat.le_of_ble_eq_true rfl⟩) ⟨PqM.blind, M_recv hG hM, PqM.pre hG hM⟩ rfl rfl hl.1 rfl (lv_room (Nat.le_of_ble_eq_true rfl)) dX2_test_7 ⟨Nat.le_of_ble_eq_true rfl, Nat.le_of_ble_eq_true rfl⟩) (fun rr hrr => ?_)
  subst hrr
  refine kx_int (y := bI (lvI ((N 3)) G c)) rfl ?_
  refine kb_eq (tgt := 50) hx hb dX2_test_10 (by decide) (fun c_10 => ?_) (fun c_10 => ?_)
  · refine lv_iconst (v := -1) hx hb dX2_test_50 (by decide) ?_
    subst hQ
    exact W.iret (v := (-1)) hx hb hrt (fun t ht hW => ⟨⟨_, ((up1 N 0 0), I, G, J), rfl, (by dsimp only; rw [if_neg (by simp [testB, c_10])]; exact ⟨rfl, rfl⟩), by rw [ht]; exact hM, GK.warm hW hG⟩, hS.F ht⟩) hS.2.2 dX2_test_51
  · obtain ⟨j, hj, rfl, hlj⟩ := lvI_nat (by omega) c_10
    refine lv_iload_n hx hb dX2_test_13 rfl (lv_at hl 2 rfl) ?_
    refine lv_aload_n hx hb dX2_test_14 rfl (lv_at hl 0 rfl) ?_
    refine M_get (v := .ref (ad 9)) hx hb hts hown hG hM 9 (by decide) q1301 rfl rfl dX2_test_15 ?_
    refine lv_iload_n hx hb dX2_test_18 rfl (lv_at hl 1 rfl) ?_
    refine M_iald (v := nI (G 9 j)) hx hb hG hM 9 rfl rfl (show j < 10 from by omega) (rfl) dX2_test_19 ?_
    refine lv_aload_n hx hb dX2_test_20 rfl (lv_at hl 0 rfl) ?_
    refine M_get (v := .int (nI (N 14))) hx hb hts hown hG hM 14 (by decide) q1306 rfl rfl dX2_test_21 ?_
    refine vp_callSi (W.runS (As := [.int h, .int (nI (G 9 j)), .int (nI (N 14))]) (rest := []) ⟨hx, hb, hml, hown, hts⟩ (c_X2_within lh h (nI (G 9 j)) (nI (N 14))) (w_X2_within hts q1464 rfl rfl ⟨Nat.le_of_ble_eq_true rfl, Nat.le_of_ble_eq_true rfl⟩) ⟨P0.blind, P0.pre⟩ rfl rfl hl.1 rfl (lv_room (Nat.le_of_ble_eq_true rfl)) dX2_test_24 ⟨Nat.le_of_ble_eq_true rfl, Nat.le_of_ble_eq_true rfl⟩) (fun rr hrr => ?_)
    subst hrr
    refine kx_int (y := bI (wi h (nI (G 9 j)) (nI (N 14)))) rfl ?_
    refine kb_eq (tgt := 50) hx hb dX2_test_27 (by decide) (fun c_27 => ?_) (fun c_27 => ?_)
    · refine lv_iconst (v := -1) hx hb dX2_test_50 (by decide) ?_
      subst hQ
      exact W.iret (v := (-1)) hx hb hrt (fun t ht hW => ⟨⟨_, ((up1 N 0 0), I, G, J), rfl, (by dsimp only; rw [if_neg (by simp [testB, c_10, c_27, tn_nI (show j < 2 ^ 31 by omega)])]; exact ⟨rfl, rfl⟩), by rw [ht]; exact hM, GK.warm hW hG⟩, hS.F ht⟩) hS.2.2 dX2_test_51
    · obtain ⟨k, hk1, hk2, rfl⟩ := wi_nat (h1 _ _) (by omega) c_27
      refine lv_iload_n hx hb dX2_test_30 rfl (lv_at hl 3 rfl) ?_
      refine lv_iconst (v := nI 0) hx hb dX2_test_31 (by decide) ?_
      refine lv_sipush (v := nI 1000) hx hb dX2_test_32 (by decide) ?_
      refine vp_callSi (W.runS (As := [.int v, .int (nI 0), .int (nI 1000)]) (rest := []) ⟨hx, hb, hml, hown, hts⟩ (c_X2_within lh v (nI 0) (nI 1000)) (w_X2_within hts q1464 rfl rfl ⟨Nat.le_of_ble_eq_true rfl, Nat.le_of_ble_eq_true rfl⟩) ⟨P0.blind, P0.pre⟩ rfl rfl hl.1 rfl (lv_room (Nat.le_of_ble_eq_true rfl)) dX2_test_35 ⟨Nat.le_of_ble_eq_true rfl, Nat.le_of_ble_eq_true rfl⟩) (fun rr hrr => ?_)
      subst hrr
      refine kx_int (y := bI (wi v (nI 0) (nI 1000))) rfl ?_
      refine kb_eq (tgt := 50) hx hb dX2_test_38 (by decide) (fun c_38 => ?_) (fun c_38 => ?_)
      · refine lv_iconst (v := -1) hx hb dX2_test_50 (by decide) ?_
        subst hQ
        exact W.iret (v := (-1)) hx hb hrt (fun t ht hW => ⟨⟨_, ((up1 N 0 0), I, G, J), rfl, (by dsimp only; rw [if_neg (by simp [testB, c_10, c_27, c_38, tn_nI (show j < 2 ^ 31 by omega), tn_nI (show k < 2 ^ 31 by omega)])]; exact ⟨rfl, rfl⟩), by rw [ht]; exact hM, GK.warm hW hG⟩, hS.F ht⟩) hS.2.2 dX2_test_51
      · obtain ⟨q, hq1, hq2, rfl⟩ := wi_nat (by decide) (by decide) c_38
        refine lv_aload_n hx hb dX2_test_41 rfl (lv_at hl 0 rfl) ?_
        refine M_get (v := .int (nI (N 19))) hx hb hts hown hG hM 19 (by decide) q1311 rfl rfl dX2_test_42 ?_
        refine lv_bipush (v := nI 100) hx hb dX2_test_45 (by decide) ?_
        refine kn_cne (tgt := 52) hx hb dX2_test_47 (by decide) (by omega) (by omega) (fun c_47 => ?_) (fun c_47 => ?_)
        · refine lv_aload_n hx hb dX2_test_52 rfl (lv_at hl 0 rfl) ?_
          refine M_get (v := .ref (ad 20)) hx hb hts hown hG hM 20 (by decide) q1312 rfl rfl dX2_test_53 ?_
          refine lv_aload_n hx hb dX2_test_56 rfl (lv_at hl 0 rfl) ?_
          refine M_get (v := .int (nI (N 19))) hx hb hts hown hG hM 19 (by decide) q1311 rfl rfl dX2_test_57 ?_
          refine lv_iload_n hx hb dX2_test_60 rfl (lv_at hl 1 rfl) ?_
          refine M_iastN (v := j) hx hb hG hS hM 20 rfl (AM.a 20 rfl) rfl rfl (show N 19 < 100 from by omega) dX2_test_61 (fun H locs hM hz hS => ?_)
          refine lv_aload_n hx hb dX2_test_62 rfl (lv_at hl 0 rfl) ?_
          refine M_get (v := .ref (ad 21)) hx hb hts hown hG hM 21 (by decide) q1313 rfl rfl dX2_test_63 ?_
          refine lv_aload_n hx hb dX2_test_66 rfl (lv_at hl 0 rfl) ?_
          refine M_get (v := .int (nI (N 19))) hx hb hts hown hG hM 19 (by decide) q1311 rfl rfl dX2_test_67 ?_
          refine lv_iload_n hx hb dX2_test_70 rfl (lv_at hl 2 rfl) ?_
          refine M_iastN (v := k) hx hb hG hS hM 21 rfl (AM.a 21 rfl) rfl rfl (show N 19 < 100 from by omega) dX2_test_71 (fun H locs hM hz hS => ?_)
          refine lv_aload_n hx hb dX2_test_72 rfl (lv_at hl 0 rfl) ?_
          refine M_get (v := .ref (ad 22)) hx hb hts hown hG hM 22 (by decide) q1314 rfl rfl dX2_test_73 ?_
          refine lv_aload_n hx hb dX2_test_76 rfl (lv_at hl 0 rfl) ?_
          refine M_get (v := .int (nI (N 19))) hx hb hts hown hG hM 19 (by decide) q1311 rfl rfl dX2_test_77 ?_
          refine lv_iload_n hx hb dX2_test_80 rfl (lv_at hl 3 rfl) ?_
          refine M_iastN (v := q) hx hb hG hS hM 22 rfl (AM.a 22 rfl) rfl rfl (show N 19 < 100 from by omega) dX2_test_81 (fun H locs hM hz hS => ?_)
          refine lv_aload_n hx hb dX2_test_82 rfl (lv_at hl 0 rfl) ?_
          refine lv_dup hx hb dX2_test_83 rfl ?_
          refine M_get (v := .int (nI (N 19))) hx hb hts hown hG hM 19 (by decide) q1311 rfl rfl dX2_test_84 ?_
          refine lv_iconst (v := nI 1) hx hb dX2_test_87 (by decide) ?_
          refine kn_add hx hb dX2_test_88 ?_
          refine M_put hx hb hts hown hG hS AM.o hM 19 (by decide) q1311 rfl rfl rfl (up1 (up1 N 0 0) 19 (N 19 + 1)) I rfl dX2_test_89 (fun H locs hM hz hS => ?_)
          refine lv_aload_n hx hb dX2_test_92 rfl (lv_at hl 0 rfl) ?_
          refine M_get (v := .int (nI (N 19 + 1))) hx hb hts hown hG hM 19 (by decide) q1311 rfl rfl dX2_test_93 ?_
          refine lv_iconst (v := nI 1) hx hb dX2_test_96 (by decide) ?_
          refine kn_sub hx hb dX2_test_97 (by omega) ?_
          subst hQ
          exact W.iret (v := nI (N 19 + 1 - 1)) hx hb hrt (fun t ht hW => ⟨⟨_, ((up1 (up1 N 0 0) 19 (N 19 + 1)), I, (up2 (up2 (up2 G 20 (N 19) j) 21 (N 19) k) 22 (N 19) q), J), rfl, (by dsimp only; rw [if_pos (by simp [testB, c_10, c_27, c_38, c_47, tn_nI (show j < 2 ^ 31 by omega), tn_nI (show k < 2 ^ 31 by omega), tn_nI (show q < 2 ^ 31 by omega)])]; refine ⟨?_, ?_⟩ <;> (try simp only [tn_nI (show j < 2 ^ 31 by omega), tn_nI (show k < 2 ^ 31 by omega), tn_nI (show q < 2 ^ 31 by omega)]) <;> (try first | rfl | simp [c_10, c_27, c_38, c_47])), by rw [ht]; exact hM, GK.warm hW hG⟩, hS.F ht⟩) hS.2.2 dX2_test_98
        · refine lv_iconst (v := -1) hx hb dX2_test_50 (by decide) ?_
          subst hQ
          exact W.iret (v := (-1)) hx hb hrt (fun t ht hW => ⟨⟨_, ((up1 N 0 0), I, G, J), rfl, (by dsimp only; rw [if_neg (by simp [testB, c_10, c_27, c_38, c_47, tn_nI (show j < 2 ^ 31 by omega), tn_nI (show k < 2 ^ 31 by omega), tn_nI (show q < 2 ^ 31 by omega)])]; exact ⟨rfl, rfl⟩), by rw [ht]; exact hM, GK.warm hW hG⟩, hS.F ht⟩) hS.2.2 dX2_test_51
theorem w_X2_test {R : Room} {s : State} {args : Array Value} {own : String} {idx : Nat} (hts : ∀ w ∈ lw_all, w.before args s = true) (h1 : Cond.methodLink own idx yX2_test ∈ lw_all) {rm : Room} {mc ms : Nat} (hrc : rm.cells = mc) (hrs : rm.slots = ms) (hR : rm.frames + 1 ≤ R.frames ∧ 8 + (4 + 11) + rm.locals ≤ R.locals) : CallW R s args own RX2 idx yX2_test cX2_test 4 (some .int) (ws_ yX2_test cX2_test 4 (some .int)) rm mc ms 3 := cwV 3 hts (lw_V h1 q1500 q1501 q70 q1502) rfl hrc hrs (by decide +kernel) hR

abbrev r_X2_span : Room := { frames := 3, cells := 0, slots := 0, locals := 76 }
set_option maxHeartbeats 400000 in
theorem c_X2_span (lh : Launch) (D : va_G) (dA : Nat → ClassId) (a0 : Nat) (ad : Nat → Nat) (N : Nat → Nat) (I : Nat → Int32) (G : Nat → Nat → Nat) (J : Nat → Nat → Int32) (sz : Nat) (c : Int32) (h : Int32) (n : Int32) (w : Int32) (h1 : ∀ a b, G a b < 2 ^ 31) (h2 : N 3 ≤ 10) (h3 : N 14 ≤ 600) (h4 : N 19 ≤ 100) : Met lh yX2_span (ws_ yX2_span cX2_span 5 (some .int)) r_X2_span (PmM D dA a0 ad N I G J sz [.ref a0, .int c, .int h, .int n, .int w]) (va_Qi (fun (r : Int32) (u : SgT) => if spanB N G c h n w = true then r = spanS G J (tn c) (tn h) (tn n) (decide (w = nI 1)) ∧ u = (up1 N 0 0, I, G, J) else r = -1 ∧ u = (up1 N 0 0, I, G, J)) (BmM D dA a0 ad) (AM a0 ad sz)) 0 0 (AM a0 ad sz) := by
  refine Met.ofW (cc := cX2_span) (maxL := 5) (ret := (some .int)) (by decide) rfl ?_
  intro p e s m args below meth cd s₁ B hml hv
  obtain ⟨hargs, hsz, hM, hG⟩ := hv
  have hx := B.exec
  have hb := B.bytes
  have hrt := B.returns
  have hts := atoms_spec (ws := (ws_ yX2_span cX2_span 5 (some .int))) B.pre
  have hts : ∀ w ∈ lw_all, w.before _ s = true := fun w h => hts w (List.mem_cons_of_mem _ h)
  have hown : s.vm.findClass RX2 = some m.cls := findClass_of_methodNamed B.named
  have hlocks := B.notSynchronized
  subst hsz
  have hS : va_S (AM a0 ad s.heap.size) s.heap s.heap [] := va_S.rf
  have hE : entryFrame m args 5 = F0 m 0 ((lg_sl ([.ref a0, .int c, .int h, .int n, .int w]) ++ List.replicate (5 - (lg_sl ([.ref a0, .int c, .int h, .int n, .int w])).length) Slot.unset).toArray) [] := by rw [hargs]; exact lg_entry_eq m _ 5
  have hl := lv_entry ([.ref a0, .int c, .int h, .int n, .int w]) (n := 5) (Nat.le_of_ble_eq_true rfl)
  rw [hE]
  clear hE
  generalize (lg_sl ([.ref a0, .int c, .int h, .int n, .int w]) ++ List.replicate (5 - (lg_sl ([.ref a0, .int c, .int h, .int n, .int w])).length) Slot.unset).toArray = ls at hl ⊢
  have hl : lv_has ls 5 [(0, .ref a0), (1, .int c), (2, .int h), (3, .int n), (4, .int w)] := hl
  generalize hQ : MQ _ _ _ _ _ _ _ = Q
  refine lv_aload_n hx hb dX2_span_0 rfl (lv_at hl 0 rfl) ?_
  refine lv_iconst (v := nI 0) hx hb dX2_span_1 (by decide) ?_
  refine M_put hx hb hts hown hG hS AM.o hM 0 (by decide) q1292 rfl rfl rfl (up1 N 0 0) I rfl dX2_span_2 (fun H locs hM hz hS => ?_)
  refine lv_aload_n hx hb dX2_span_5 rfl (lv_at hl 0 rfl) ?_
  refine lv_iload_n hx hb dX2_span_6 rfl (lv_at hl 1 rfl) ?_
  refine vp_callSi (W.runV (As := [.int c]) (rest := []) ⟨hx, hb, hml, hown, hts⟩ (c_X2_lives lh D dA a0 ad (up1 N 0 0) I G J c (show ∀ a b, G a b < 2 ^ 31 from by first | omega | assumption | exact hB_up (by assumption) (by omega)) (show (N 3) ≤ 10 from by first | omega | assumption | exact hB_up (by assumption) (by omega))) (w_X2_lives hts q1479 rfl rfl ⟨Nat.le_of_ble_eq_true rfl, Nat.le_of_ble_eq_true rfl⟩) ⟨PqM.blind, M_recv hG hM, PqM.pre hG hM⟩ rfl rfl hl.1 rfl (lv_room (Nat.le_of_ble_eq_true rfl)) dX2_span_7 ⟨Nat.le_of_ble_eq_true rfl, Nat.le_of_ble_eq_true rfl⟩) (fun rr hrr => ?_)
  subst hrr
  refine kx_int (y := bI (lvI ((N 3)) G c)) rfl ?_
  refine kb_eq (tgt := 52) hx hb dX2_span_10 (by decide) (fun c_10 => ?_) (fun c_10 => ?_)
  · refine lv_iconst (v := -1) hx hb dX2_span_52 (by decide) ?_
    subst hQ
    exact W.iret (v := (-1)) hx hb hrt (fun t ht hW => ⟨⟨_, ((up1 N 0 0), I, G, J), rfl, (by dsimp only; rw [if_neg (by simp [spanB, c_10])]; exact ⟨rfl, rfl⟩), by rw [ht]; exact hM, GK.warm hW hG⟩, hS.F ht⟩) hS.2.2 dX2_span_53
  · obtain ⟨j, hj, rfl, hlj⟩ := lvI_nat (by omega) c_10
    refine lv_iload_n hx hb dX2_span_13 rfl (lv_at hl 2 rfl) ?_
    refine lv_aload_n hx hb dX2_span_14 rfl (lv_at hl 0 rfl) ?_
    refine M_get (v := .ref (ad 9)) hx hb hts hown hG hM 9 (by decide) q1301 rfl rfl dX2_span_15 ?_
    refine lv_iload_n hx hb dX2_span_18 rfl (lv_at hl 1 rfl) ?_
    refine M_iald (v := nI (G 9 j)) hx hb hG hM 9 rfl rfl (show j < 10 from by omega) (rfl) dX2_span_19 ?_
    refine lv_aload_n hx hb dX2_span_20 rfl (lv_at hl 0 rfl) ?_
    refine M_get (v := .int (nI (N 14))) hx hb hts hown hG hM 14 (by decide) q1306 rfl rfl dX2_span_21 ?_
    refine vp_callSi (W.runS (As := [.int h, .int (nI (G 9 j)), .int (nI (N 14))]) (rest := []) ⟨hx, hb, hml, hown, hts⟩ (c_X2_within lh h (nI (G 9 j)) (nI (N 14))) (w_X2_within hts q1464 rfl rfl ⟨Nat.le_of_ble_eq_true rfl, Nat.le_of_ble_eq_true rfl⟩) ⟨P0.blind, P0.pre⟩ rfl rfl hl.1 rfl (lv_room (Nat.le_of_ble_eq_true rfl)) dX2_span_24 ⟨Nat.le_of_ble_eq_true rfl, Nat.le_of_ble_eq_true rfl⟩) (fun rr hrr => ?_)
    subst hrr
    refine kx_int (y := bI (wi h (nI (G 9 j)) (nI (N 14)))) rfl ?_
    refine kb_eq (tgt := 52) hx hb dX2_span_27 (by decide) (fun c_27 => ?_) (fun c_27 => ?_)
    · refine lv_iconst (v := -1) hx hb dX2_span_52 (by decide) ?_
      subst hQ
      exact W.iret (v := (-1)) hx hb hrt (fun t ht hW => ⟨⟨_, ((up1 N 0 0), I, G, J), rfl, (by dsimp only; rw [if_neg (by simp [spanB, c_10, c_27, tn_nI (show j < 2 ^ 31 by omega)])]; exact ⟨rfl, rfl⟩), by rw [ht]; exact hM, GK.warm hW hG⟩, hS.F ht⟩) hS.2.2 dX2_span_53
    · obtain ⟨k, hk1, hk2, rfl⟩ := wi_nat (h1 _ _) (by omega) c_27
      refine lv_iload_n hx hb dX2_span_30 rfl (lv_at hl 3 rfl) ?_
      refine lv_iconst (v := nI 0) hx hb dX2_span_31 (by decide) ?_
      refine lv_aload_n hx hb dX2_span_32 rfl (lv_at hl 0 rfl) ?_
      refine M_get (v := .int (nI (N 19))) hx hb hts hown hG hM 19 (by decide) q1311 rfl rfl dX2_span_33 ?_
      refine vp_callSi (W.runS (As := [.int n, .int (nI 0), .int (nI (N 19))]) (rest := []) ⟨hx, hb, hml, hown, hts⟩ (c_X2_within lh n (nI 0) (nI (N 19))) (w_X2_within hts q1464 rfl rfl ⟨Nat.le_of_ble_eq_true rfl, Nat.le_of_ble_eq_true rfl⟩) ⟨P0.blind, P0.pre⟩ rfl rfl hl.1 rfl (lv_room (Nat.le_of_ble_eq_true rfl)) dX2_span_36 ⟨Nat.le_of_ble_eq_true rfl, Nat.le_of_ble_eq_true rfl⟩) (fun rr hrr => ?_)
      subst hrr
      refine kx_int (y := bI (wi n (nI 0) (nI (N 19)))) rfl ?_
      refine kb_eq (tgt := 52) hx hb dX2_span_39 (by decide) (fun c_39 => ?_) (fun c_39 => ?_)
      · refine lv_iconst (v := -1) hx hb dX2_span_52 (by decide) ?_
        subst hQ
        exact W.iret (v := (-1)) hx hb hrt (fun t ht hW => ⟨⟨_, ((up1 N 0 0), I, G, J), rfl, (by dsimp only; rw [if_neg (by simp [spanB, c_10, c_27, c_39, tn_nI (show j < 2 ^ 31 by omega), tn_nI (show k < 2 ^ 31 by omega)])]; exact ⟨rfl, rfl⟩), by rw [ht]; exact hM, GK.warm hW hG⟩, hS.F ht⟩) hS.2.2 dX2_span_53
      · obtain ⟨q, hq1, hq2, rfl⟩ := wi_nat (by decide) (by omega) c_39
        refine lv_iload hx hb dX2_span_42 (lv_at hl 4 rfl) ?_
        refine lv_iconst (v := nI 0) hx hb dX2_span_44 (by decide) ?_
        refine lv_iconst (v := nI 1) hx hb dX2_span_45 (by decide) ?_
        refine vp_callSi (W.runS (As := [.int w, .int (nI 0), .int (nI 1)]) (rest := []) ⟨hx, hb, hml, hown, hts⟩ (c_X2_within lh w (nI 0) (nI 1)) (w_X2_within hts q1464 rfl rfl ⟨Nat.le_of_ble_eq_true rfl, Nat.le_of_ble_eq_true rfl⟩) ⟨P0.blind, P0.pre⟩ rfl rfl hl.1 rfl (lv_room (Nat.le_of_ble_eq_true rfl)) dX2_span_46 ⟨Nat.le_of_ble_eq_true rfl, Nat.le_of_ble_eq_true rfl⟩) (fun rr hrr => ?_)
        subst hrr
        refine kx_int (y := bI (wi w (nI 0) (nI 1))) rfl ?_
        refine kb_ne (tgt := 54) hx hb dX2_span_49 (by decide) (fun c_49 => ?_) (fun c_49 => ?_)
        · refine lv_aload_n hx hb dX2_span_54 rfl (lv_at hl 0 rfl) ?_
          refine lv_iload_n hx hb dX2_span_55 rfl (lv_at hl 1 rfl) ?_
          refine lv_iload_n hx hb dX2_span_56 rfl (lv_at hl 2 rfl) ?_
          refine lv_iload_n hx hb dX2_span_57 rfl (lv_at hl 3 rfl) ?_
          refine lv_iload hx hb dX2_span_58 (lv_at hl 4 rfl) ?_
          refine lv_iconst (v := nI 1) hx hb dX2_span_60 (by decide) ?_
          refine lv_icmp_ne (tgt := 68) hx hb dX2_span_61 (by decide) (fun c_61 => ?_) (fun c_61 => ?_)
          · refine lv_iconst (v := nI 0) hx hb dX2_span_68 (by decide) ?_
            refine vp_callSi (W.runV (As := [.int (nI j), .int (nI k), .int (nI q), .int (nI 0)]) (rest := []) ⟨hx, hb, hml, hown, hts⟩ (c_X2_spanOf lh D dA a0 ad (up1 N 0 0) I G J j k q false (show ∀ a b, G a b < 2 ^ 31 from by first | omega | assumption | exact hB_up (by assumption) (by omega)) (show j < 10 from by first | omega | assumption | exact hB_up (by assumption) (by omega)) (show k ≤ 600 from by first | omega | assumption | exact hB_up (by assumption) (by omega)) (show q ≤ 100 from by first | omega | assumption | exact hB_up (by assumption) (by omega))) (w_X2_spanOf hts q1507 rfl rfl ⟨Nat.le_of_ble_eq_true rfl, Nat.le_of_ble_eq_true rfl⟩) ⟨PqM.blind, M_recv hG hM, PqM.pre hG hM⟩ rfl rfl hl.1 rfl (lv_room (Nat.le_of_ble_eq_true rfl)) dX2_span_69 ⟨Nat.le_of_ble_eq_true rfl, Nat.le_of_ble_eq_true rfl⟩) (fun rr hrr => ?_)
            subst hrr
            refine kx_int (y := spanS G J j k q false) rfl ?_
            subst hQ
            exact W.iret (v := spanS G J j k q false) hx hb hrt (fun t ht hW => ⟨⟨_, ((up1 N 0 0), I, G, J), rfl, (by dsimp only; rw [if_pos (by simp [spanB, c_10, c_27, c_39, c_49, tn_nI (show j < 2 ^ 31 by omega), tn_nI (show k < 2 ^ 31 by omega), tn_nI (show q < 2 ^ 31 by omega)])]; refine ⟨?_, ?_⟩ <;> (try simp only [tn_nI (show j < 2 ^ 31 by omega), tn_nI (show k < 2 ^ 31 by omega), tn_nI (show q < 2 ^ 31 by omega)]) <;> (try first | rfl | simp [c_10, c_27, c_39, c_49, c_61])), by rw [ht]; exact hM, GK.warm hW hG⟩, hS.F ht⟩) hS.2.2 dX2_span_72
          · refine lv_iconst (v := nI 1) hx hb dX2_span_64 (by decide) ?_
            refine lv_goto (tgt := 69) hx hb dX2_span_65 (by decide) ?_
            refine vp_callSi (W.runV (As := [.int (nI j), .int (nI k), .int (nI q), .int (nI 1)]) (rest := []) ⟨hx, hb, hml, hown, hts⟩ (c_X2_spanOf lh D dA a0 ad (up1 N 0 0) I G J j k q true (show ∀ a b, G a b < 2 ^ 31 from by first | omega | assumption | exact hB_up (by assumption) (by omega)) (show j < 10 from by first | omega | assumption | exact hB_up (by assumption) (by omega)) (show k ≤ 600 from by first | omega | assumption | exact hB_up (by assumption) (by omega)) (show q ≤ 100 from by first | omega | assumption | exact hB_up (by assumption) (by omega))) (w_X2_spanOf hts q1507 rfl rfl ⟨Nat.le_of_ble_eq_true rfl, Nat.le_of_ble_eq_true rfl⟩) ⟨PqM.blind, M_recv hG hM, PqM.pre hG hM⟩ rfl rfl hl.1 rfl (lv_room (Nat.le_of_ble_eq_true rfl)) dX2_span_69 ⟨Nat.le_of_ble_eq_true rfl, Nat.le_of_ble_eq_true rfl⟩) (fun rr hrr => ?_)
            subst hrr
            refine kx_int (y := spanS G J j k q true) rfl ?_
            subst hQ
            exact W.iret (v := spanS G J j k q true) hx hb hrt (fun t ht hW => ⟨⟨_, ((up1 N 0 0), I, G, J), rfl, (by dsimp only; rw [if_pos (by simp [spanB, c_10, c_27, c_39, c_49, tn_nI (show j < 2 ^ 31 by omega), tn_nI (show k < 2 ^ 31 by omega), tn_nI (show q < 2 ^ 31 by omega)])]; refine ⟨?_, ?_⟩ <;> (try simp only [tn_nI (show j < 2 ^ 31 by omega), tn_nI (show k < 2 ^ 31 by omega), tn_nI (show q < 2 ^ 31 by omega)]) <;> (try first | rfl | simp [c_10, c_27, c_39, c_49, c_61])), by rw [ht]; exact hM, GK.warm hW hG⟩, hS.F ht⟩) hS.2.2 dX2_span_72
        · refine lv_iconst (v := -1) hx hb dX2_span_52 (by decide) ?_
          subst hQ
          exact W.iret (v := (-1)) hx hb hrt (fun t ht hW => ⟨⟨_, ((up1 N 0 0), I, G, J), rfl, (by dsimp only; rw [if_neg (by simp [spanB, c_10, c_27, c_39, c_49, tn_nI (show j < 2 ^ 31 by omega), tn_nI (show k < 2 ^ 31 by omega), tn_nI (show q < 2 ^ 31 by omega)])]; exact ⟨rfl, rfl⟩), by rw [ht]; exact hM, GK.warm hW hG⟩, hS.F ht⟩) hS.2.2 dX2_span_53
theorem w_X2_span {R : Room} {s : State} {args : Array Value} {own : String} {idx : Nat} (hts : ∀ w ∈ lw_all, w.before args s = true) (h1 : Cond.methodLink own idx yX2_span ∈ lw_all) {rm : Room} {mc ms : Nat} (hrc : rm.cells = mc) (hrs : rm.slots = ms) (hR : rm.frames + 1 ≤ R.frames ∧ 8 + (5 + 11) + rm.locals ≤ R.locals) : CallW R s args own RX2 idx yX2_span cX2_span 5 (some .int) (ws_ yX2_span cX2_span 5 (some .int)) rm mc ms 4 := cwV 4 hts (lw_V h1 q1504 q1505 q70 q1506) rfl hrc hrs (by decide +kernel) hR

abbrev r_X2_limits : Room := { frames := 1, cells := 0, slots := 0, locals := 22 }
set_option maxHeartbeats 400000 in
theorem c_X2_limits (lh : Launch) (D : va_G) (dA : Nat → ClassId) (a0 : Nat) (ad : Nat → Nat) (N : Nat → Nat) (I : Nat → Int32) (G : Nat → Nat → Nat) (J : Nat → Nat → Int32) (sz : Nat) (a : Int32) (b : Int32) : Met lh yX2_limits (ws_ yX2_limits cX2_limits 3 (some .boolean)) r_X2_limits (PmM D dA a0 ad N I G J sz [.ref a0, .int a, .int b]) (va_Qi (fun (r : Int32) (u : SgT) => if limB a b = true then r = nI 1 ∧ u = (up1 (up1 (up1 N 0 0) 42 (tn a)) 43 (tn b), I, G, J) else r = nI 0 ∧ u = (up1 N 0 0, I, G, J)) (BmM D dA a0 ad) (AM a0 ad sz)) 0 0 (AM a0 ad sz) := by
  refine Met.ofW (cc := cX2_limits) (maxL := 3) (ret := (some .boolean)) (by decide) rfl ?_
  intro p e s m args below meth cd s₁ B hml hv
  obtain ⟨hargs, hsz, hM, hG⟩ := hv
  have hx := B.exec
  have hb := B.bytes
  have hrt := B.returns
  have hts := atoms_spec (ws := (ws_ yX2_limits cX2_limits 3 (some .boolean))) B.pre
  have hts : ∀ w ∈ lw_all, w.before _ s = true := fun w h => hts w (List.mem_cons_of_mem _ h)
  have hown : s.vm.findClass RX2 = some m.cls := findClass_of_methodNamed B.named
  have hlocks := B.notSynchronized
  subst hsz
  have hS : va_S (AM a0 ad s.heap.size) s.heap s.heap [] := va_S.rf
  have hE : entryFrame m args 3 = F0 m 0 ((lg_sl ([.ref a0, .int a, .int b]) ++ List.replicate (3 - (lg_sl ([.ref a0, .int a, .int b])).length) Slot.unset).toArray) [] := by rw [hargs]; exact lg_entry_eq m _ 3
  have hl := lv_entry ([.ref a0, .int a, .int b]) (n := 3) (Nat.le_of_ble_eq_true rfl)
  rw [hE]
  clear hE
  generalize (lg_sl ([.ref a0, .int a, .int b]) ++ List.replicate (3 - (lg_sl ([.ref a0, .int a, .int b])).length) Slot.unset).toArray = ls at hl ⊢
  have hl : lv_has ls 3 [(0, .ref a0), (1, .int a), (2, .int b)] := hl
  generalize hQ : MQ _ _ _ _ _ _ _ = Q
  refine lv_aload_n hx hb dX2_limits_0 rfl (lv_at hl 0 rfl) ?_
  refine lv_iconst (v := nI 0) hx hb dX2_limits_1 (by decide) ?_
  refine M_put hx hb hts hown hG hS AM.o hM 0 (by decide) q1292 rfl rfl rfl (up1 N 0 0) I rfl dX2_limits_2 (fun H locs hM hz hS => ?_)
  refine lv_iload_n hx hb dX2_limits_5 rfl (lv_at hl 1 rfl) ?_
  refine lv_iconst (v := nI 0) hx hb dX2_limits_6 (by decide) ?_
  refine lv_sipush (v := nI 1000) hx hb dX2_limits_7 (by decide) ?_
  refine vp_callSi (W.runS (As := [.int a, .int (nI 0), .int (nI 1000)]) (rest := []) ⟨hx, hb, hml, hown, hts⟩ (c_X2_within lh a (nI 0) (nI 1000)) (w_X2_within hts q1464 rfl rfl ⟨Nat.le_of_ble_eq_true rfl, Nat.le_of_ble_eq_true rfl⟩) ⟨P0.blind, P0.pre⟩ rfl rfl hl.1 rfl (lv_room (Nat.le_of_ble_eq_true rfl)) dX2_limits_10 ⟨Nat.le_of_ble_eq_true rfl, Nat.le_of_ble_eq_true rfl⟩) (fun rr hrr => ?_)
  subst hrr
  refine kx_int (y := bI (wi a (nI 0) (nI 1000))) rfl ?_
  refine kb_eq (tgt := 27) hx hb dX2_limits_13 (by decide) (fun c_13 => ?_) (fun c_13 => ?_)
  · refine lv_iconst (v := nI 0) hx hb dX2_limits_27 (by decide) ?_
    subst hQ
    exact W.zret (v := nI 0) hx hb hrt rfl (fun t ht hW => ⟨⟨_, ((up1 N 0 0), I, G, J), rfl, (by dsimp only; rw [if_neg (by simp [limB, c_13])]; exact ⟨rfl, rfl⟩), by rw [ht]; exact hM, GK.warm hW hG⟩, hS.F ht⟩) hS.2.2 dX2_limits_28
  · obtain ⟨j, hj1, hj2, rfl⟩ := wi_nat (by decide) (by decide) c_13
    refine lv_iload_n hx hb dX2_limits_16 rfl (lv_at hl 2 rfl) ?_
    refine lv_iload_n hx hb dX2_limits_17 rfl (lv_at hl 1 rfl) ?_
    refine lv_sipush (v := nI 1000) hx hb dX2_limits_18 (by decide) ?_
    refine vp_callSi (W.runS (As := [.int b, .int (nI j), .int (nI 1000)]) (rest := []) ⟨hx, hb, hml, hown, hts⟩ (c_X2_within lh b (nI j) (nI 1000)) (w_X2_within hts q1464 rfl rfl ⟨Nat.le_of_ble_eq_true rfl, Nat.le_of_ble_eq_true rfl⟩) ⟨P0.blind, P0.pre⟩ rfl rfl hl.1 rfl (lv_room (Nat.le_of_ble_eq_true rfl)) dX2_limits_21 ⟨Nat.le_of_ble_eq_true rfl, Nat.le_of_ble_eq_true rfl⟩) (fun rr hrr => ?_)
    subst hrr
    refine kx_int (y := bI (wi b (nI j) (nI 1000))) rfl ?_
    refine kb_ne (tgt := 29) hx hb dX2_limits_24 (by decide) (fun c_24 => ?_) (fun c_24 => ?_)
    · obtain ⟨k, hk1, hk2, rfl⟩ := wi_nat (by omega) (by decide) c_24
      refine lv_aload_n hx hb dX2_limits_29 rfl (lv_at hl 0 rfl) ?_
      refine lv_iload_n hx hb dX2_limits_30 rfl (lv_at hl 1 rfl) ?_
      refine M_put hx hb hts hown hG hS AM.o hM 42 (by decide) q1334 rfl rfl rfl (up1 (up1 N 0 0) 42 j) I rfl dX2_limits_31 (fun H locs hM hz hS => ?_)
      refine lv_aload_n hx hb dX2_limits_34 rfl (lv_at hl 0 rfl) ?_
      refine lv_iload_n hx hb dX2_limits_35 rfl (lv_at hl 2 rfl) ?_
      refine M_put hx hb hts hown hG hS AM.o hM 43 (by decide) q1335 rfl rfl rfl (up1 (up1 (up1 N 0 0) 42 j) 43 k) I rfl dX2_limits_36 (fun H locs hM hz hS => ?_)
      refine lv_iconst (v := nI 1) hx hb dX2_limits_39 (by decide) ?_
      subst hQ
      exact W.zret (v := nI 1) hx hb hrt rfl (fun t ht hW => ⟨⟨_, ((up1 (up1 (up1 N 0 0) 42 j) 43 k), I, G, J), rfl, (by dsimp only; rw [if_pos (by simp [limB, c_13, c_24, tn_nI (show j < 2 ^ 31 by omega), tn_nI (show k < 2 ^ 31 by omega)])]; refine ⟨?_, ?_⟩ <;> (try simp only [tn_nI (show j < 2 ^ 31 by omega), tn_nI (show k < 2 ^ 31 by omega)]) <;> (try first | rfl | simp [c_13, c_24])), by rw [ht]; exact hM, GK.warm hW hG⟩, hS.F ht⟩) hS.2.2 dX2_limits_40
    · refine lv_iconst (v := nI 0) hx hb dX2_limits_27 (by decide) ?_
      subst hQ
      exact W.zret (v := nI 0) hx hb hrt rfl (fun t ht hW => ⟨⟨_, ((up1 N 0 0), I, G, J), rfl, (by dsimp only; rw [if_neg (by simp [limB, c_13, c_24, tn_nI (show j < 2 ^ 31 by omega)])]; exact ⟨rfl, rfl⟩), by rw [ht]; exact hM, GK.warm hW hG⟩, hS.F ht⟩) hS.2.2 dX2_limits_28
theorem w_X2_limits {R : Room} {s : State} {args : Array Value} {own : String} {idx : Nat} (hts : ∀ w ∈ lw_all, w.before args s = true) (h1 : Cond.methodLink own idx yX2_limits ∈ lw_all) {rm : Room} {mc ms : Nat} (hrc : rm.cells = mc) (hrs : rm.slots = ms) (hR : rm.frames + 1 ≤ R.frames ∧ 8 + (3 + 11) + rm.locals ≤ R.locals) : CallW R s args own RX2 idx yX2_limits cX2_limits 3 (some .boolean) (ws_ yX2_limits cX2_limits 3 (some .boolean)) rm mc ms 2 := cwV 2 hts (lw_V h1 q1627 q1628 q70 q1629) rfl hrc hrs (by decide +kernel) hR

abbrev r_X2_clear : Room := { frames := 0, cells := 0, slots := 0, locals := 0 }
set_option maxHeartbeats 400000 in
theorem c_X2_clear (lh : Launch) (D : va_G) (dA : Nat → ClassId) (a0 : Nat) (ad : Nat → Nat) (N : Nat → Nat) (I : Nat → Int32) (G : Nat → Nat → Nat) (J : Nat → Nat → Int32) (sz : Nat) : Met lh yX2_clear (ws_ yX2_clear cX2_clear 2 (some .int)) r_X2_clear (PmM D dA a0 ad N I G J sz [.ref a0]) (va_Qi (fun (r : Int32) (u : SgT) => r = nI (N 44) ∧ u = (up1 (up1 N 0 0) 44 0, I, G, J)) (BmM D dA a0 ad) (AM a0 ad sz)) 0 0 (AM a0 ad sz) := by
  refine Met.ofW (cc := cX2_clear) (maxL := 2) (ret := (some .int)) (by decide) rfl ?_
  intro p e s m args below meth cd s₁ B hml hv
  obtain ⟨hargs, hsz, hM, hG⟩ := hv
  have hx := B.exec
  have hb := B.bytes
  have hrt := B.returns
  have hts := atoms_spec (ws := (ws_ yX2_clear cX2_clear 2 (some .int))) B.pre
  have hts : ∀ w ∈ lw_all, w.before _ s = true := fun w h => hts w (List.mem_cons_of_mem _ h)
  have hown : s.vm.findClass RX2 = some m.cls := findClass_of_methodNamed B.named
  have hlocks := B.notSynchronized
  subst hsz
  have hS : va_S (AM a0 ad s.heap.size) s.heap s.heap [] := va_S.rf
  have hE : entryFrame m args 2 = F0 m 0 ((lg_sl ([.ref a0]) ++ List.replicate (2 - (lg_sl ([.ref a0])).length) Slot.unset).toArray) [] := by rw [hargs]; exact lg_entry_eq m _ 2
  have hl := lv_entry ([.ref a0]) (n := 2) (Nat.le_of_ble_eq_true rfl)
  rw [hE]
  clear hE
  generalize (lg_sl ([.ref a0]) ++ List.replicate (2 - (lg_sl ([.ref a0])).length) Slot.unset).toArray = ls at hl ⊢
  have hl : lv_has ls 2 [(0, .ref a0)] := hl
  generalize hQ : MQ _ _ _ _ _ _ _ = Q
  refine lv_aload_n hx hb dX2_clear_0 rfl (lv_at hl 0 rfl) ?_
  refine lv_iconst (v := nI 0) hx hb dX2_clear_1 (by decide) ?_
  refine M_put hx hb hts hown hG hS AM.o hM 0 (by decide) q1292 rfl rfl rfl (up1 N 0 0) I rfl dX2_clear_2 (fun H locs hM hz hS => ?_)
  refine lv_aload_n hx hb dX2_clear_5 rfl (lv_at hl 0 rfl) ?_
  refine M_get (v := .int (nI (N 44))) hx hb hts hown hG hM 44 (by decide) q1336 rfl rfl dX2_clear_6 ?_
  refine lv_istore_n (lv' := [(1, .int (nI (N 44))), (0, .ref a0)]) hx hb dX2_clear_9 rfl hl (by decide) rfl (fun ls hl => ?_)
  refine lv_aload_n hx hb dX2_clear_10 rfl (lv_at hl 1 rfl) ?_
  refine lv_iconst (v := nI 0) hx hb dX2_clear_11 (by decide) ?_
  refine M_put hx hb hts hown hG hS AM.o hM 44 (by decide) q1336 rfl rfl rfl (up1 (up1 N 0 0) 44 0) I rfl dX2_clear_12 (fun H locs hM hz hS => ?_)
  refine lv_iload_n hx hb dX2_clear_15 rfl (lv_at hl 0 rfl) ?_
  subst hQ
  exact W.iret (v := nI (N 44)) hx hb hrt (fun t ht hW => ⟨⟨_, ((up1 (up1 N 0 0) 44 0), I, G, J), rfl, (⟨rfl, rfl⟩), by rw [ht]; exact hM, GK.warm hW hG⟩, hS.F ht⟩) hS.2.2 dX2_clear_16
theorem w_X2_clear {R : Room} {s : State} {args : Array Value} {own : String} {idx : Nat} (hts : ∀ w ∈ lw_all, w.before args s = true) (h1 : Cond.methodLink own idx yX2_clear ∈ lw_all) {rm : Room} {mc ms : Nat} (hrc : rm.cells = mc) (hrs : rm.slots = ms) (hR : rm.frames + 1 ≤ R.frames ∧ 8 + (2 + 11) + rm.locals ≤ R.locals) : CallW R s args own RX2 idx yX2_clear cX2_clear 2 (some .int) (ws_ yX2_clear cX2_clear 2 (some .int)) rm mc ms 0 := cwV 0 hts (lw_V h1 q1659 q1660 q70 q1661) rfl hrc hrs (by decide +kernel) hR

abbrev r_X2_place : Room := { frames := 0, cells := 0, slots := 0, locals := 0 }
set_option maxHeartbeats 400000 in
theorem c_X2_place (lh : Launch) (D : va_G) (dA : Nat → ClassId) (a0 : Nat) (ad : Nat → Nat) (N : Nat → Nat) (I : Nat → Int32) (G : Nat → Nat → Nat) (J : Nat → Nat → Int32) (sz : Nat) : Met lh yX2_place (ws_ yX2_place cX2_place 1 (some .int)) r_X2_place (PmM D dA a0 ad N I G J sz [.ref a0]) (va_Qi (fun (r : Int32) (u : SgT) => r = I 35 ∧ u = (up1 N 0 0, I, G, J)) (BmM D dA a0 ad) (AM a0 ad sz)) 0 0 (AM a0 ad sz) := by
  refine Met.ofW (cc := cX2_place) (maxL := 1) (ret := (some .int)) (by decide) rfl ?_
  intro p e s m args below meth cd s₁ B hml hv
  obtain ⟨hargs, hsz, hM, hG⟩ := hv
  have hx := B.exec
  have hb := B.bytes
  have hrt := B.returns
  have hts := atoms_spec (ws := (ws_ yX2_place cX2_place 1 (some .int))) B.pre
  have hts : ∀ w ∈ lw_all, w.before _ s = true := fun w h => hts w (List.mem_cons_of_mem _ h)
  have hown : s.vm.findClass RX2 = some m.cls := findClass_of_methodNamed B.named
  have hlocks := B.notSynchronized
  subst hsz
  have hS : va_S (AM a0 ad s.heap.size) s.heap s.heap [] := va_S.rf
  have hE : entryFrame m args 1 = F0 m 0 ((lg_sl ([.ref a0]) ++ List.replicate (1 - (lg_sl ([.ref a0])).length) Slot.unset).toArray) [] := by rw [hargs]; exact lg_entry_eq m _ 1
  have hl := lv_entry ([.ref a0]) (n := 1) (Nat.le_of_ble_eq_true rfl)
  rw [hE]
  clear hE
  generalize (lg_sl ([.ref a0]) ++ List.replicate (1 - (lg_sl ([.ref a0])).length) Slot.unset).toArray = ls at hl ⊢
  have hl : lv_has ls 1 [(0, .ref a0)] := hl
  generalize hQ : MQ _ _ _ _ _ _ _ = Q
  refine lv_aload_n hx hb dX2_place_0 rfl (lv_at hl 0 rfl) ?_
  refine lv_iconst (v := nI 0) hx hb dX2_place_1 (by decide) ?_
  refine M_put hx hb hts hown hG hS AM.o hM 0 (by decide) q1292 rfl rfl rfl (up1 N 0 0) I rfl dX2_place_2 (fun H locs hM hz hS => ?_)
  refine lv_aload_n hx hb dX2_place_5 rfl (lv_at hl 0 rfl) ?_
  refine M_get (v := .int (I 35)) hx hb hts hown hG hM 35 (by decide) q1327 rfl rfl dX2_place_6 ?_
  subst hQ
  exact W.iret (v := I 35) hx hb hrt (fun t ht hW => ⟨⟨_, ((up1 N 0 0), I, G, J), rfl, (⟨rfl, rfl⟩), by rw [ht]; exact hM, GK.warm hW hG⟩, hS.F ht⟩) hS.2.2 dX2_place_9
theorem w_X2_place {R : Room} {s : State} {args : Array Value} {own : String} {idx : Nat} (hts : ∀ w ∈ lw_all, w.before args s = true) (h1 : Cond.methodLink own idx yX2_place ∈ lw_all) {rm : Room} {mc ms : Nat} (hrc : rm.cells = mc) (hrs : rm.slots = ms) (hR : rm.frames + 1 ≤ R.frames ∧ 8 + (1 + 11) + rm.locals ≤ R.locals) : CallW R s args own RX2 idx yX2_place cX2_place 1 (some .int) (ws_ yX2_place cX2_place 1 (some .int)) rm mc ms 0 := cwV 0 hts (lw_V h1 q1579 q1580 q70 q1581) rfl hrc hrs (by decide +kernel) hR

abbrev r_X2_thrown : Room := { frames := 0, cells := 0, slots := 0, locals := 0 }
set_option maxHeartbeats 400000 in
theorem c_X2_thrown (lh : Launch) (D : va_G) (dA : Nat → ClassId) (a0 : Nat) (ad : Nat → Nat) (N : Nat → Nat) (I : Nat → Int32) (G : Nat → Nat → Nat) (J : Nat → Nat → Int32) : Met lh yX2_thrown (ws_ yX2_thrown cX2_thrown 1 (some .int)) r_X2_thrown (PqM D dA a0 ad N I G J [.ref a0]) (vp_Si (fun rv => rv = nI (N 0))) 0 0 (fun _ => False) := by
  refine Met.ofW (cc := cX2_thrown) (maxL := 1) (ret := (some .int)) (by decide) rfl ?_
  intro p e s m args below meth cd s₁ B hml hv
  obtain ⟨hargs, hM, hG⟩ := hv
  have hx := B.exec
  have hb := B.bytes
  have hrt := B.returns
  have hts := atoms_spec (ws := (ws_ yX2_thrown cX2_thrown 1 (some .int))) B.pre
  have hts : ∀ w ∈ lw_all, w.before _ s = true := fun w h => hts w (List.mem_cons_of_mem _ h)
  have hown : s.vm.findClass RX2 = some m.cls := findClass_of_methodNamed B.named
  have hlocks := B.notSynchronized
  have hE : entryFrame m args 1 = F0 m 0 ((lg_sl ([.ref a0]) ++ List.replicate (1 - (lg_sl ([.ref a0])).length) Slot.unset).toArray) [] := by rw [hargs]; exact lg_entry_eq m _ 1
  have hl := lv_entry ([.ref a0]) (n := 1) (Nat.le_of_ble_eq_true rfl)
  rw [hE]
  clear hE
  generalize (lg_sl ([.ref a0]) ++ List.replicate (1 - (lg_sl ([.ref a0])).length) Slot.unset).toArray = ls at hl ⊢
  have hl : lv_has ls 1 [(0, .ref a0)] := hl
  generalize hQ : MQ _ _ _ _ _ _ _ = Q
  refine lv_aload_n hx hb dX2_thrown_0 rfl (lv_at hl 0 rfl) ?_
  refine M_get (v := .int (nI (N 0))) hx hb hts hown hG hM 0 (by decide) q1292 rfl rfl dX2_thrown_1 ?_
  subst hQ
  exact W.iret (v := nI (N 0)) hx hb hrt (fun t ht _ => ⟨_, rfl, (show nI (N 0) = nI (N 0) from rfl), ht⟩) t_nil dX2_thrown_4
theorem w_X2_thrown {R : Room} {s : State} {args : Array Value} {own : String} {idx : Nat} (hts : ∀ w ∈ lw_all, w.before args s = true) (h1 : Cond.methodLink own idx yX2_thrown ∈ lw_all) {rm : Room} {mc ms : Nat} (hrc : rm.cells = mc) (hrs : rm.slots = ms) (hR : rm.frames + 1 ≤ R.frames ∧ 8 + (1 + 11) + rm.locals ≤ R.locals) : CallW R s args own RX2 idx yX2_thrown cX2_thrown 1 (some .int) (ws_ yX2_thrown cX2_thrown 1 (some .int)) rm mc ms 0 := cwV 0 hts (lw_V h1 q1456 q1457 q70 q1458) rfl hrc hrs (by decide +kernel) hR

abbrev r_X2_end : Room := { frames := 1, cells := 0, slots := 0, locals := 22 }
set_option maxHeartbeats 400000 in
theorem c_X2_end (lh : Launch) (D : va_G) (dA : Nat → ClassId) (a0 : Nat) (ad : Nat → Nat) (N : Nat → Nat) (I : Nat → Int32) (G : Nat → Nat → Nat) (J : Nat → Nat → Int32) (sz : Nat) (n : Int32) (h1 : N 33 ≤ 300) : Met lh yX2_end (ws_ yX2_end cX2_end 2 (some .int)) r_X2_end (PmM D dA a0 ad N I G J sz [.ref a0, .int n]) (va_Qi (fun (r : Int32) (u : SgT) => if wi n (nI 0) (nI (N 33)) = true then r = n ∧ u = (up1 (up1 N 0 0) 33 (tn n), I, G, J) else r = -1 ∧ u = (up1 N 0 0, I, G, J)) (BmM D dA a0 ad) (AM a0 ad sz)) 0 0 (AM a0 ad sz) := by
  refine Met.ofW (cc := cX2_end) (maxL := 2) (ret := (some .int)) (by decide) rfl ?_
  intro p e s m args below meth cd s₁ B hml hv
  obtain ⟨hargs, hsz, hM, hG⟩ := hv
  have hx := B.exec
  have hb := B.bytes
  have hrt := B.returns
  have hts := atoms_spec (ws := (ws_ yX2_end cX2_end 2 (some .int))) B.pre
  have hts : ∀ w ∈ lw_all, w.before _ s = true := fun w h => hts w (List.mem_cons_of_mem _ h)
  have hown : s.vm.findClass RX2 = some m.cls := findClass_of_methodNamed B.named
  have hlocks := B.notSynchronized
  subst hsz
  have hS : va_S (AM a0 ad s.heap.size) s.heap s.heap [] := va_S.rf
  have hE : entryFrame m args 2 = F0 m 0 ((lg_sl ([.ref a0, .int n]) ++ List.replicate (2 - (lg_sl ([.ref a0, .int n])).length) Slot.unset).toArray) [] := by rw [hargs]; exact lg_entry_eq m _ 2
  have hl := lv_entry ([.ref a0, .int n]) (n := 2) (Nat.le_of_ble_eq_true rfl)
  rw [hE]
  clear hE
  generalize (lg_sl ([.ref a0, .int n]) ++ List.replicate (2 - (lg_sl ([.ref a0, .int n])).length) Slot.unset).toArray = ls at hl ⊢
  have hl : lv_has ls 2 [(0, .ref a0), (1, .int n)] := hl
  generalize hQ : MQ _ _ _ _ _ _ _ = Q
  refine lv_aload_n hx hb dX2_end_0 rfl (lv_at hl 0 rfl) ?_
  refine lv_iconst (v := nI 0) hx hb dX2_end_1 (by decide) ?_
  refine M_put hx hb hts hown hG hS AM.o hM 0 (by decide) q1292 rfl rfl rfl (up1 N 0 0) I rfl dX2_end_2 (fun H locs hM hz hS => ?_)
  refine lv_iload_n hx hb dX2_end_5 rfl (lv_at hl 1 rfl) ?_
  refine lv_iconst (v := nI 0) hx hb dX2_end_6 (by decide) ?_
  refine lv_aload_n hx hb dX2_end_7 rfl (lv_at hl 0 rfl) ?_
  refine M_get (v := .int (nI (N 33))) hx hb hts hown hG hM 33 (by decide) q1325 rfl rfl dX2_end_8 ?_
  refine vp_callSi (W.runS (As := [.int n, .int (nI 0), .int (nI (N 33))]) (rest := []) ⟨hx, hb, hml, hown, hts⟩ (c_X2_within lh n (nI 0) (nI (N 33))) (w_X2_within hts q1464 rfl rfl ⟨Nat.le_of_ble_eq_true rfl, Nat.le_of_ble_eq_true rfl⟩) ⟨P0.blind, P0.pre⟩ rfl rfl hl.1 rfl (lv_room (Nat.le_of_ble_eq_true rfl)) dX2_end_11 ⟨Nat.le_of_ble_eq_true rfl, Nat.le_of_ble_eq_true rfl⟩) (fun rr hrr => ?_)
  subst hrr
  refine kx_int (y := bI (wi n (nI 0) (nI (N 33)))) rfl ?_
  refine kb_ne (tgt := 19) hx hb dX2_end_14 (by decide) (fun c_14 => ?_) (fun c_14 => ?_)
  · obtain ⟨k, hk1, hk2, rfl⟩ := wi_nat (by decide) (by omega) c_14
    refine lv_aload_n hx hb dX2_end_19 rfl (lv_at hl 0 rfl) ?_
    refine lv_iload_n hx hb dX2_end_20 rfl (lv_at hl 1 rfl) ?_
    refine M_put hx hb hts hown hG hS AM.o hM 33 (by decide) q1325 rfl rfl rfl (up1 (up1 N 0 0) 33 k) I rfl dX2_end_21 (fun H locs hM hz hS => ?_)
    refine lv_iload_n hx hb dX2_end_24 rfl (lv_at hl 1 rfl) ?_
    subst hQ
    exact W.iret (v := nI k) hx hb hrt (fun t ht hW => ⟨⟨_, ((up1 (up1 N 0 0) 33 k), I, G, J), rfl, (by dsimp only; rw [if_pos (by simp [c_14, tn_nI (show k < 2 ^ 31 by omega)])]; refine ⟨?_, ?_⟩ <;> (try simp only [tn_nI (show k < 2 ^ 31 by omega)]) <;> (try first | rfl | simp [c_14])), by rw [ht]; exact hM, GK.warm hW hG⟩, hS.F ht⟩) hS.2.2 dX2_end_25
  · refine lv_iconst (v := -1) hx hb dX2_end_17 (by decide) ?_
    subst hQ
    exact W.iret (v := (-1)) hx hb hrt (fun t ht hW => ⟨⟨_, ((up1 N 0 0), I, G, J), rfl, (by dsimp only; rw [if_neg (by simp [c_14])]; exact ⟨rfl, rfl⟩), by rw [ht]; exact hM, GK.warm hW hG⟩, hS.F ht⟩) hS.2.2 dX2_end_18
theorem w_X2_end {R : Room} {s : State} {args : Array Value} {own : String} {idx : Nat} (hts : ∀ w ∈ lw_all, w.before args s = true) (h1 : Cond.methodLink own idx yX2_end ∈ lw_all) {rm : Room} {mc ms : Nat} (hrc : rm.cells = mc) (hrs : rm.slots = ms) (hR : rm.frames + 1 ≤ R.frames ∧ 8 + (2 + 11) + rm.locals ≤ R.locals) : CallW R s args own RX2 idx yX2_end cX2_end 2 (some .int) (ws_ yX2_end cX2_end 2 (some .int)) rm mc ms 1 := cwV 1 hts (lw_V h1 q1520 q1521 q70 q1522) rfl hrc hrs (by decide +kernel) hR

abbrev r_X2_order : Room := { frames := 1, cells := 0, slots := 0, locals := 22 }
set_option maxHeartbeats 400000 in
theorem c_X2_order (lh : Launch) (D : va_G) (dA : Nat → ClassId) (a0 : Nat) (ad : Nat → Nat) (N : Nat → Nat) (I : Nat → Int32) (G : Nat → Nat → Nat) (J : Nat → Nat → Int32) (sz : Nat) (g : Int32) (a : Int32) (b : Int32) (q : Int32) (h1 : N 44 ≤ 6) : Met lh yX2_order (ws_ yX2_order cX2_order 5 (some .int)) r_X2_order (PmM D dA a0 ad N I G J sz [.ref a0, .int g, .int a, .int b, .int q]) (va_Qi (fun (r : Int32) (u : SgT) => if orderB N g a b q = true then r = nI (N 44) ∧ u = (up1 (up1 N 0 0) 44 (N 44 + 1), I, orderG G (N 44) (tn g) (tn a) (tn b) (tn q), J) else r = -1 ∧ u = (up1 N 0 0, I, G, J)) (BmM D dA a0 ad) (AM a0 ad sz)) 0 0 (AM a0 ad sz) := by
  refine Met.ofW (cc := cX2_order) (maxL := 5) (ret := (some .int)) (by decide) rfl ?_
  intro p e s m args below meth cd s₁ B hml hv
  obtain ⟨hargs, hsz, hM, hG⟩ := hv
  have hx := B.exec
  have hb := B.bytes
  have hrt := B.returns
  have hts := atoms_spec (ws := (ws_ yX2_order cX2_order 5 (some .int))) B.pre
  have hts : ∀ w ∈ lw_all, w.before _ s = true := fun w h => hts w (List.mem_cons_of_mem _ h)
  have hown : s.vm.findClass RX2 = some m.cls := findClass_of_methodNamed B.named
  have hlocks := B.notSynchronized
  subst hsz
  have hS : va_S (AM a0 ad s.heap.size) s.heap s.heap [] := va_S.rf
  have hE : entryFrame m args 5 = F0 m 0 ((lg_sl ([.ref a0, .int g, .int a, .int b, .int q]) ++ List.replicate (5 - (lg_sl ([.ref a0, .int g, .int a, .int b, .int q])).length) Slot.unset).toArray) [] := by rw [hargs]; exact lg_entry_eq m _ 5
  have hl := lv_entry ([.ref a0, .int g, .int a, .int b, .int q]) (n := 5) (Nat.le_of_ble_eq_true rfl)
  rw [hE]
  clear hE
  generalize (lg_sl ([.ref a0, .int g, .int a, .int b, .int q]) ++ List.replicate (5 - (lg_sl ([.ref a0, .int g, .int a, .int b, .int q])).length) Slot.unset).toArray = ls at hl ⊢
  have hl : lv_has ls 5 [(0, .ref a0), (1, .int g), (2, .int a), (3, .int b), (4, .int q)] := hl
  generalize hQ : MQ _ _ _ _ _ _ _ = Q
  refine lv_aload_n hx hb dX2_order_0 rfl (lv_at hl 0 rfl) ?_
  refine lv_iconst (v := nI 0) hx hb dX2_order_1 (by decide) ?_
  refine M_put hx hb hts hown hG hS AM.o hM 0 (by decide) q1292 rfl rfl rfl (up1 N 0 0) I rfl dX2_order_2 (fun H locs hM hz hS => ?_)
  refine lv_aload_n hx hb dX2_order_5 rfl (lv_at hl 0 rfl) ?_
  refine M_get (v := .int (nI (N 44))) hx hb hts hown hG hM 44 (by decide) q1336 rfl rfl dX2_order_6 ?_
  refine lv_bipush (v := nI 6) hx hb dX2_order_9 (by decide) ?_
  refine kn_ceq (tgt := 58) hx hb dX2_order_11 (by decide) (by omega) (by omega) (fun c_11 => ?_) (fun c_11 => ?_)
  · refine lv_iconst (v := -1) hx hb dX2_order_58 (by decide) ?_
    subst hQ
    exact W.iret (v := (-1)) hx hb hrt (fun t ht hW => ⟨⟨_, ((up1 N 0 0), I, G, J), rfl, (by dsimp only; rw [if_neg (by simp [orderB, c_11])]; exact ⟨rfl, rfl⟩), by rw [ht]; exact hM, GK.warm hW hG⟩, hS.F ht⟩) hS.2.2 dX2_order_59
  · refine lv_iload_n hx hb dX2_order_14 rfl (lv_at hl 1 rfl) ?_
    refine lv_iconst (v := nI 1) hx hb dX2_order_15 (by decide) ?_
    refine lv_ldc (v := 100000) hx hb hown (hts _ q1463) dX2_order_16 ?_
    refine kx_int (y := nI 100000) (by decide) ?_
    refine vp_callSi (W.runS (As := [.int g, .int (nI 1), .int (nI 100000)]) (rest := []) ⟨hx, hb, hml, hown, hts⟩ (c_X2_within lh g (nI 1) (nI 100000)) (w_X2_within hts q1464 rfl rfl ⟨Nat.le_of_ble_eq_true rfl, Nat.le_of_ble_eq_true rfl⟩) ⟨P0.blind, P0.pre⟩ rfl rfl hl.1 rfl (lv_room (Nat.le_of_ble_eq_true rfl)) dX2_order_18 ⟨Nat.le_of_ble_eq_true rfl, Nat.le_of_ble_eq_true rfl⟩) (fun rr hrr => ?_)
    subst hrr
    refine kx_int (y := bI (wi g (nI 1) (nI 100000))) rfl ?_
    refine kb_eq (tgt := 58) hx hb dX2_order_21 (by decide) (fun c_21 => ?_) (fun c_21 => ?_)
    · refine lv_iconst (v := -1) hx hb dX2_order_58 (by decide) ?_
      subst hQ
      exact W.iret (v := (-1)) hx hb hrt (fun t ht hW => ⟨⟨_, ((up1 N 0 0), I, G, J), rfl, (by dsimp only; rw [if_neg (by simp [orderB, c_11, c_21])]; exact ⟨rfl, rfl⟩), by rw [ht]; exact hM, GK.warm hW hG⟩, hS.F ht⟩) hS.2.2 dX2_order_59
    · obtain ⟨j, hj1, hj2, rfl⟩ := wi_nat (by decide) (by decide) c_21
      refine lv_iload_n hx hb dX2_order_24 rfl (lv_at hl 2 rfl) ?_
      refine lv_iconst (v := nI 0) hx hb dX2_order_25 (by decide) ?_
      refine lv_sipush (v := nI 1000) hx hb dX2_order_26 (by decide) ?_
      refine vp_callSi (W.runS (As := [.int a, .int (nI 0), .int (nI 1000)]) (rest := []) ⟨hx, hb, hml, hown, hts⟩ (c_X2_within lh a (nI 0) (nI 1000)) (w_X2_within hts q1464 rfl rfl ⟨Nat.le_of_ble_eq_true rfl, Nat.le_of_ble_eq_true rfl⟩) ⟨P0.blind, P0.pre⟩ rfl rfl hl.1 rfl (lv_room (Nat.le_of_ble_eq_true rfl)) dX2_order_29 ⟨Nat.le_of_ble_eq_true rfl, Nat.le_of_ble_eq_true rfl⟩) (fun rr hrr => ?_)
      subst hrr
      refine kx_int (y := bI (wi a (nI 0) (nI 1000))) rfl ?_
      refine kb_eq (tgt := 58) hx hb dX2_order_32 (by decide) (fun c_32 => ?_) (fun c_32 => ?_)
      · refine lv_iconst (v := -1) hx hb dX2_order_58 (by decide) ?_
        subst hQ
        exact W.iret (v := (-1)) hx hb hrt (fun t ht hW => ⟨⟨_, ((up1 N 0 0), I, G, J), rfl, (by dsimp only; rw [if_neg (by simp [orderB, c_11, c_21, c_32, tn_nI (show j < 2 ^ 31 by omega)])]; exact ⟨rfl, rfl⟩), by rw [ht]; exact hM, GK.warm hW hG⟩, hS.F ht⟩) hS.2.2 dX2_order_59
      · obtain ⟨k, hk1, hk2, rfl⟩ := wi_nat (by decide) (by decide) c_32
        refine lv_iload_n hx hb dX2_order_35 rfl (lv_at hl 3 rfl) ?_
        refine lv_iload_n hx hb dX2_order_36 rfl (lv_at hl 2 rfl) ?_
        refine lv_sipush (v := nI 1000) hx hb dX2_order_37 (by decide) ?_
        refine vp_callSi (W.runS (As := [.int b, .int (nI k), .int (nI 1000)]) (rest := []) ⟨hx, hb, hml, hown, hts⟩ (c_X2_within lh b (nI k) (nI 1000)) (w_X2_within hts q1464 rfl rfl ⟨Nat.le_of_ble_eq_true rfl, Nat.le_of_ble_eq_true rfl⟩) ⟨P0.blind, P0.pre⟩ rfl rfl hl.1 rfl (lv_room (Nat.le_of_ble_eq_true rfl)) dX2_order_40 ⟨Nat.le_of_ble_eq_true rfl, Nat.le_of_ble_eq_true rfl⟩) (fun rr hrr => ?_)
        subst hrr
        refine kx_int (y := bI (wi b (nI k) (nI 1000))) rfl ?_
        refine kb_eq (tgt := 58) hx hb dX2_order_43 (by decide) (fun c_43 => ?_) (fun c_43 => ?_)
        · refine lv_iconst (v := -1) hx hb dX2_order_58 (by decide) ?_
          subst hQ
          exact W.iret (v := (-1)) hx hb hrt (fun t ht hW => ⟨⟨_, ((up1 N 0 0), I, G, J), rfl, (by dsimp only; rw [if_neg (by simp [orderB, c_11, c_21, c_32, c_43, tn_nI (show j < 2 ^ 31 by omega), tn_nI (show k < 2 ^ 31 by omega)])]; exact ⟨rfl, rfl⟩), by rw [ht]; exact hM, GK.warm hW hG⟩, hS.F ht⟩) hS.2.2 dX2_order_59
        · obtain ⟨x, hx1, hx2, rfl⟩ := wi_nat (by omega) (by decide) c_43
          refine lv_iload hx hb dX2_order_46 (lv_at hl 4 rfl) ?_
          refine lv_iconst (v := nI 0) hx hb dX2_order_48 (by decide) ?_
          refine lv_sipush (v := nI 10000) hx hb dX2_order_49 (by decide) ?_
          refine vp_callSi (W.runS (As := [.int q, .int (nI 0), .int (nI 10000)]) (rest := []) ⟨hx, hb, hml, hown, hts⟩ (c_X2_within lh q (nI 0) (nI 10000)) (w_X2_within hts q1464 rfl rfl ⟨Nat.le_of_ble_eq_true rfl, Nat.le_of_ble_eq_true rfl⟩) ⟨P0.blind, P0.pre⟩ rfl rfl hl.1 rfl (lv_room (Nat.le_of_ble_eq_true rfl)) dX2_order_52 ⟨Nat.le_of_ble_eq_true rfl, Nat.le_of_ble_eq_true rfl⟩) (fun rr hrr => ?_)
          subst hrr
          refine kx_int (y := bI (wi q (nI 0) (nI 10000))) rfl ?_
          refine kb_ne (tgt := 60) hx hb dX2_order_55 (by decide) (fun c_55 => ?_) (fun c_55 => ?_)
          · obtain ⟨y, hy1, hy2, rfl⟩ := wi_nat (by decide) (by decide) c_55
            refine lv_aload_n hx hb dX2_order_60 rfl (lv_at hl 0 rfl) ?_
            refine M_get (v := .ref (ad 45)) hx hb hts hown hG hM 45 (by decide) q1337 rfl rfl dX2_order_61 ?_
            refine lv_aload_n hx hb dX2_order_64 rfl (lv_at hl 0 rfl) ?_
            refine M_get (v := .int (nI (N 44))) hx hb hts hown hG hM 44 (by decide) q1336 rfl rfl dX2_order_65 ?_
            refine lv_iload_n hx hb dX2_order_68 rfl (lv_at hl 1 rfl) ?_
            refine M_iastN (v := j) hx hb hG hS hM 45 rfl (AM.a 45 rfl) rfl rfl (show N 44 < 6 from by omega) dX2_order_69 (fun H locs hM hz hS => ?_)
            refine lv_aload_n hx hb dX2_order_70 rfl (lv_at hl 0 rfl) ?_
            refine M_get (v := .ref (ad 46)) hx hb hts hown hG hM 46 (by decide) q1338 rfl rfl dX2_order_71 ?_
            refine lv_aload_n hx hb dX2_order_74 rfl (lv_at hl 0 rfl) ?_
            refine M_get (v := .int (nI (N 44))) hx hb hts hown hG hM 44 (by decide) q1336 rfl rfl dX2_order_75 ?_
            refine lv_iload_n hx hb dX2_order_78 rfl (lv_at hl 2 rfl) ?_
            refine M_iastN (v := k) hx hb hG hS hM 46 rfl (AM.a 46 rfl) rfl rfl (show N 44 < 6 from by omega) dX2_order_79 (fun H locs hM hz hS => ?_)
            refine lv_aload_n hx hb dX2_order_80 rfl (lv_at hl 0 rfl) ?_
            refine M_get (v := .ref (ad 47)) hx hb hts hown hG hM 47 (by decide) q1339 rfl rfl dX2_order_81 ?_
            refine lv_aload_n hx hb dX2_order_84 rfl (lv_at hl 0 rfl) ?_
            refine M_get (v := .int (nI (N 44))) hx hb hts hown hG hM 44 (by decide) q1336 rfl rfl dX2_order_85 ?_
            refine lv_iload_n hx hb dX2_order_88 rfl (lv_at hl 3 rfl) ?_
            refine M_iastN (v := x) hx hb hG hS hM 47 rfl (AM.a 47 rfl) rfl rfl (show N 44 < 6 from by omega) dX2_order_89 (fun H locs hM hz hS => ?_)
            refine lv_aload_n hx hb dX2_order_90 rfl (lv_at hl 0 rfl) ?_
            refine M_get (v := .ref (ad 48)) hx hb hts hown hG hM 48 (by decide) q1340 rfl rfl dX2_order_91 ?_
            refine lv_aload_n hx hb dX2_order_94 rfl (lv_at hl 0 rfl) ?_
            refine M_get (v := .int (nI (N 44))) hx hb hts hown hG hM 44 (by decide) q1336 rfl rfl dX2_order_95 ?_
            refine lv_iload hx hb dX2_order_98 (lv_at hl 4 rfl) ?_
            refine M_iastN (v := y) hx hb hG hS hM 48 rfl (AM.a 48 rfl) rfl rfl (show N 44 < 6 from by omega) dX2_order_100 (fun H locs hM hz hS => ?_)
            refine lv_aload_n hx hb dX2_order_101 rfl (lv_at hl 0 rfl) ?_
            refine lv_dup hx hb dX2_order_102 rfl ?_
            refine M_get (v := .int (nI (N 44))) hx hb hts hown hG hM 44 (by decide) q1336 rfl rfl dX2_order_103 ?_
            refine lv_iconst (v := nI 1) hx hb dX2_order_106 (by decide) ?_
            refine kn_add hx hb dX2_order_107 ?_
            refine M_put hx hb hts hown hG hS AM.o hM 44 (by decide) q1336 rfl rfl rfl (up1 (up1 N 0 0) 44 (N 44 + 1)) I rfl dX2_order_108 (fun H locs hM hz hS => ?_)
            refine lv_aload_n hx hb dX2_order_111 rfl (lv_at hl 0 rfl) ?_
            refine M_get (v := .int (nI (N 44 + 1))) hx hb hts hown hG hM 44 (by decide) q1336 rfl rfl dX2_order_112 ?_
            refine lv_iconst (v := nI 1) hx hb dX2_order_115 (by decide) ?_
            refine kn_sub hx hb dX2_order_116 (by omega) ?_
            subst hQ
            exact W.iret (v := nI (N 44 + 1 - 1)) hx hb hrt (fun t ht hW => ⟨⟨_, ((up1 (up1 N 0 0) 44 (N 44 + 1)), I, (up2 (up2 (up2 (up2 G 45 (N 44) j) 46 (N 44) k) 47 (N 44) x) 48 (N 44) y), J), rfl, (by dsimp only; rw [if_pos (by simp [orderB, c_11, c_21, c_32, c_43, c_55, tn_nI (show j < 2 ^ 31 by omega), tn_nI (show k < 2 ^ 31 by omega), tn_nI (show x < 2 ^ 31 by omega), tn_nI (show y < 2 ^ 31 by omega)])]; refine ⟨?_, ?_⟩ <;> (try simp only [tn_nI (show j < 2 ^ 31 by omega), tn_nI (show k < 2 ^ 31 by omega), tn_nI (show x < 2 ^ 31 by omega), tn_nI (show y < 2 ^ 31 by omega)]) <;> (try first | rfl | simp [c_11, c_21, c_32, c_43, c_55])), by rw [ht]; exact hM, GK.warm hW hG⟩, hS.F ht⟩) hS.2.2 dX2_order_117
          · refine lv_iconst (v := -1) hx hb dX2_order_58 (by decide) ?_
            subst hQ
            exact W.iret (v := (-1)) hx hb hrt (fun t ht hW => ⟨⟨_, ((up1 N 0 0), I, G, J), rfl, (by dsimp only; rw [if_neg (by simp [orderB, c_11, c_21, c_32, c_43, c_55, tn_nI (show j < 2 ^ 31 by omega), tn_nI (show k < 2 ^ 31 by omega), tn_nI (show x < 2 ^ 31 by omega)])]; exact ⟨rfl, rfl⟩), by rw [ht]; exact hM, GK.warm hW hG⟩, hS.F ht⟩) hS.2.2 dX2_order_59
theorem w_X2_order {R : Room} {s : State} {args : Array Value} {own : String} {idx : Nat} (hts : ∀ w ∈ lw_all, w.before args s = true) (h1 : Cond.methodLink own idx yX2_order ∈ lw_all) {rm : Room} {mc ms : Nat} (hrc : rm.cells = mc) (hrs : rm.slots = ms) (hR : rm.frames + 1 ≤ R.frames ∧ 8 + (5 + 11) + rm.locals ≤ R.locals) : CallW R s args own RX2 idx yX2_order cX2_order 5 (some .int) (ws_ yX2_order cX2_order 5 (some .int)) rm mc ms 4 := cwV 4 hts (lw_V h1 q1655 q1656 q70 q1657) rfl hrc hrs (by decide +kernel) hR

abbrev r_X2_inJar : Room := { frames := 1, cells := 0, slots := 0, locals := 22 }
set_option maxHeartbeats 400000 in
theorem c_X2_inJar (lh : Launch) (D : va_G) (dA : Nat → ClassId) (a0 : Nat) (ad : Nat → Nat) (N : Nat → Nat) (I : Nat → Int32) (G : Nat → Nat → Nat) (J : Nat → Nat → Int32) (sz : Nat) (j : Int32) (l : Int32) (h1 : N 40 ≤ 60) (h2 : N 1 ≤ 20) : Met lh yX2_inJar (ws_ yX2_inJar cX2_inJar 3 (some .int)) r_X2_inJar (PmM D dA a0 ad N I G J sz [.ref a0, .int j, .int l]) (va_Qi (fun (r : Int32) (u : SgT) => if inJarB N j l = true then r = nI (G 41 (20 * tn j + tn l)) ∧ u = (up1 N 0 0, I, G, J) else r = -1 ∧ u = (up1 N 0 0, I, G, J)) (BmM D dA a0 ad) (AM a0 ad sz)) 0 0 (AM a0 ad sz) := by
  refine Met.ofW (cc := cX2_inJar) (maxL := 3) (ret := (some .int)) (by decide) rfl ?_
  intro p e s m args below meth cd s₁ B hml hv
  obtain ⟨hargs, hsz, hM, hG⟩ := hv
  have hx := B.exec
  have hb := B.bytes
  have hrt := B.returns
  have hts := atoms_spec (ws := (ws_ yX2_inJar cX2_inJar 3 (some .int))) B.pre
  have hts : ∀ w ∈ lw_all, w.before _ s = true := fun w h => hts w (List.mem_cons_of_mem _ h)
  have hown : s.vm.findClass RX2 = some m.cls := findClass_of_methodNamed B.named
  have hlocks := B.notSynchronized
  subst hsz
  have hS : va_S (AM a0 ad s.heap.size) s.heap s.heap [] := va_S.rf
  have hE : entryFrame m args 3 = F0 m 0 ((lg_sl ([.ref a0, .int j, .int l]) ++ List.replicate (3 - (lg_sl ([.ref a0, .int j, .int l])).length) Slot.unset).toArray) [] := by rw [hargs]; exact lg_entry_eq m _ 3
  have hl := lv_entry ([.ref a0, .int j, .int l]) (n := 3) (Nat.le_of_ble_eq_true rfl)
  rw [hE]
  clear hE
  generalize (lg_sl ([.ref a0, .int j, .int l]) ++ List.replicate (3 - (lg_sl ([.ref a0, .int j, .int l])).length) Slot.unset).toArray = ls at hl ⊢
  have hl : lv_has ls 3 [(0, .ref a0), (1, .int j), (2, .int l)] := hl
  generalize hQ : MQ _ _ _ _ _ _ _ = Q
  refine lv_aload_n hx hb dX2_inJar_0 rfl (lv_at hl 0 rfl) ?_
  refine lv_iconst (v := nI 0) hx hb dX2_inJar_1 (by decide) ?_
  refine M_put hx hb hts hown hG hS AM.o hM 0 (by decide) q1292 rfl rfl rfl (up1 N 0 0) I rfl dX2_inJar_2 (fun H locs hM hz hS => ?_)
  refine lv_iload_n hx hb dX2_inJar_5 rfl (lv_at hl 1 rfl) ?_
  refine lv_iconst (v := nI 0) hx hb dX2_inJar_6 (by decide) ?_
  refine lv_aload_n hx hb dX2_inJar_7 rfl (lv_at hl 0 rfl) ?_
  refine M_get (v := .int (nI (N 40))) hx hb hts hown hG hM 40 (by decide) q1332 rfl rfl dX2_inJar_8 ?_
  refine lv_iconst (v := nI 1) hx hb dX2_inJar_11 (by decide) ?_
  refine lv_isub hx hb dX2_inJar_12 ?_
  refine vp_callSi (W.runS (As := [.int j, .int (nI 0), .int (nI (N 40) - (nI 1))]) (rest := []) ⟨hx, hb, hml, hown, hts⟩ (c_X2_within lh j (nI 0) (nI (N 40) - (nI 1))) (w_X2_within hts q1464 rfl rfl ⟨Nat.le_of_ble_eq_true rfl, Nat.le_of_ble_eq_true rfl⟩) ⟨P0.blind, P0.pre⟩ rfl rfl hl.1 rfl (lv_room (Nat.le_of_ble_eq_true rfl)) dX2_inJar_13 ⟨Nat.le_of_ble_eq_true rfl, Nat.le_of_ble_eq_true rfl⟩) (fun rr hrr => ?_)
  subst hrr
  refine kx_int (y := bI (wi j (nI 0) (nI (N 40) - (nI 1)))) rfl ?_
  refine kb_eq (tgt := 47) hx hb dX2_inJar_16 (by decide) (fun c_16 => ?_) (fun c_16 => ?_)
  · refine lv_iconst (v := -1) hx hb dX2_inJar_47 (by decide) ?_
    subst hQ
    exact W.iret (v := (-1)) hx hb hrt (fun t ht hW => ⟨⟨_, ((up1 N 0 0), I, G, J), rfl, (by dsimp only; rw [if_neg (by simp [inJarB, c_16])]; exact ⟨rfl, rfl⟩), by rw [ht]; exact hM, GK.warm hW hG⟩, hS.F ht⟩) hS.2.2 dX2_inJar_48
  · obtain ⟨k, hk, rfl⟩ := wi_cnt (by omega) c_16
    refine lv_iload_n hx hb dX2_inJar_19 rfl (lv_at hl 2 rfl) ?_
    refine lv_iconst (v := nI 0) hx hb dX2_inJar_20 (by decide) ?_
    refine lv_aload_n hx hb dX2_inJar_21 rfl (lv_at hl 0 rfl) ?_
    refine M_get (v := .int (nI (N 1))) hx hb hts hown hG hM 1 (by decide) q1293 rfl rfl dX2_inJar_22 ?_
    refine lv_iconst (v := nI 1) hx hb dX2_inJar_25 (by decide) ?_
    refine lv_isub hx hb dX2_inJar_26 ?_
    refine vp_callSi (W.runS (As := [.int l, .int (nI 0), .int (nI (N 1) - (nI 1))]) (rest := []) ⟨hx, hb, hml, hown, hts⟩ (c_X2_within lh l (nI 0) (nI (N 1) - (nI 1))) (w_X2_within hts q1464 rfl rfl ⟨Nat.le_of_ble_eq_true rfl, Nat.le_of_ble_eq_true rfl⟩) ⟨P0.blind, P0.pre⟩ rfl rfl hl.1 rfl (lv_room (Nat.le_of_ble_eq_true rfl)) dX2_inJar_27 ⟨Nat.le_of_ble_eq_true rfl, Nat.le_of_ble_eq_true rfl⟩) (fun rr hrr => ?_)
    subst hrr
    refine kx_int (y := bI (wi l (nI 0) (nI (N 1) - (nI 1)))) rfl ?_
    refine kb_eq (tgt := 47) hx hb dX2_inJar_30 (by decide) (fun c_30 => ?_) (fun c_30 => ?_)
    · refine lv_iconst (v := -1) hx hb dX2_inJar_47 (by decide) ?_
      subst hQ
      exact W.iret (v := (-1)) hx hb hrt (fun t ht hW => ⟨⟨_, ((up1 N 0 0), I, G, J), rfl, (by dsimp only; rw [if_neg (by simp [inJarB, c_16, c_30, tn_nI (show k < 2 ^ 31 by omega)])]; exact ⟨rfl, rfl⟩), by rw [ht]; exact hM, GK.warm hW hG⟩, hS.F ht⟩) hS.2.2 dX2_inJar_48
    · obtain ⟨x, hxx, rfl⟩ := wi_cnt (by omega) c_30
      refine lv_aload_n hx hb dX2_inJar_33 rfl (lv_at hl 0 rfl) ?_
      refine M_get (v := .ref (ad 41)) hx hb hts hown hG hM 41 (by decide) q1333 rfl rfl dX2_inJar_34 ?_
      refine lv_bipush (v := nI 20) hx hb dX2_inJar_37 (by decide) ?_
      refine lv_iload_n hx hb dX2_inJar_39 rfl (lv_at hl 1 rfl) ?_
      refine kn_mul hx hb dX2_inJar_40 ?_
      refine lv_iload_n hx hb dX2_inJar_41 rfl (lv_at hl 2 rfl) ?_
      refine kn_add hx hb dX2_inJar_42 ?_
      refine M_iald (v := nI (G 41 (20 * k + x))) hx hb hG hM 41 rfl rfl (show 20 * k + x < 1200 from by omega) (rfl) dX2_inJar_43 ?_
      refine lv_goto (tgt := 48) hx hb dX2_inJar_44 (by decide) ?_
      subst hQ
      exact W.iret (v := nI (G 41 (20 * k + x))) hx hb hrt (fun t ht hW => ⟨⟨_, ((up1 N 0 0), I, G, J), rfl, (by dsimp only; rw [if_pos (by simp [inJarB, c_16, c_30, tn_nI (show k < 2 ^ 31 by omega), tn_nI (show x < 2 ^ 31 by omega)])]; refine ⟨?_, ?_⟩ <;> (try simp only [tn_nI (show k < 2 ^ 31 by omega), tn_nI (show x < 2 ^ 31 by omega)]) <;> (try rfl)), by rw [ht]; exact hM, GK.warm hW hG⟩, hS.F ht⟩) hS.2.2 dX2_inJar_48
theorem w_X2_inJar {R : Room} {s : State} {args : Array Value} {own : String} {idx : Nat} (hts : ∀ w ∈ lw_all, w.before args s = true) (h1 : Cond.methodLink own idx yX2_inJar ∈ lw_all) {rm : Room} {mc ms : Nat} (hrc : rm.cells = mc) (hrs : rm.slots = ms) (hR : rm.frames + 1 ≤ R.frames ∧ 8 + (3 + 11) + rm.locals ≤ R.locals) : CallW R s args own RX2 idx yX2_inJar cX2_inJar 3 (some .int) (ws_ yX2_inJar cX2_inJar 3 (some .int)) rm mc ms 2 := cwV 2 hts (lw_V h1 q1647 q1648 q70 q1649) rfl hrc hrs (by decide +kernel) hR

abbrev r_X2_called : Room := { frames := 1, cells := 0, slots := 0, locals := 22 }
set_option maxHeartbeats 400000 in
theorem c_X2_called (lh : Launch) (D : va_G) (dA : Nat → ClassId) (a0 : Nat) (ad : Nat → Nat) (N : Nat → Nat) (I : Nat → Int32) (G : Nat → Nat → Nat) (J : Nat → Nat → Int32) (sz : Nat) (l : Int32) (h1 : ∀ a b, G a b < 2 ^ 31) (h2 : N 40 ≤ 60) (h3 : N 1 ≤ 20) : Met lh yX2_called (ws_ yX2_called cX2_called 4 (some .int)) r_X2_called (PmM D dA a0 ad N I G J sz [.ref a0, .int l]) (va_Qi (fun (r : Int32) (u : SgT) => r = (if wi l (nI 0) (nI (N 1) - nI 1) = true then nI (calledS G (tn l) (N 40)) else nI 0) ∧ u = (up1 N 0 0, I, G, J)) (BmM D dA a0 ad) (AM a0 ad sz)) 0 0 (AM a0 ad sz) := by
  refine Met.ofW (cc := cX2_called) (maxL := 4) (ret := (some .int)) (by decide) rfl ?_
  intro p e s m args below meth cd s₁ B hml hv
  obtain ⟨hargs, hsz, hM, hG⟩ := hv
  have hx := B.exec
  have hb := B.bytes
  have hrt := B.returns
  have hts := atoms_spec (ws := (ws_ yX2_called cX2_called 4 (some .int))) B.pre
  have hts : ∀ w ∈ lw_all, w.before _ s = true := fun w h => hts w (List.mem_cons_of_mem _ h)
  have hown : s.vm.findClass RX2 = some m.cls := findClass_of_methodNamed B.named
  have hlocks := B.notSynchronized
  subst hsz
  have hS : va_S (AM a0 ad s.heap.size) s.heap s.heap [] := va_S.rf
  have hE : entryFrame m args 4 = F0 m 0 ((lg_sl ([.ref a0, .int l]) ++ List.replicate (4 - (lg_sl ([.ref a0, .int l])).length) Slot.unset).toArray) [] := by rw [hargs]; exact lg_entry_eq m _ 4
  have hl := lv_entry ([.ref a0, .int l]) (n := 4) (Nat.le_of_ble_eq_true rfl)
  rw [hE]
  clear hE
  generalize (lg_sl ([.ref a0, .int l]) ++ List.replicate (4 - (lg_sl ([.ref a0, .int l])).length) Slot.unset).toArray = ls at hl ⊢
  have hl : lv_has ls 4 [(0, .ref a0), (1, .int l)] := hl
  generalize hQ : MQ _ _ _ _ _ _ _ = Q
  refine lv_aload_n hx hb dX2_called_0 rfl (lv_at hl 0 rfl) ?_
  refine lv_iconst (v := nI 0) hx hb dX2_called_1 (by decide) ?_
  refine M_put hx hb hts hown hG hS AM.o hM 0 (by decide) q1292 rfl rfl rfl (up1 N 0 0) I rfl dX2_called_2 (fun H locs hM hz hS => ?_)
  refine lv_iconst (v := nI 0) hx hb dX2_called_5 (by decide) ?_
  refine lv_istore_n (lv' := [(2, .int (nI 0)), (0, .ref a0), (1, .int l)]) hx hb dX2_called_6 rfl hl (by decide) rfl (fun ls hl => ?_)
  by_cases hw : wi l (nI 0) (nI (N 1) - nI 1) = true
  · obtain ⟨k, hk, rfl⟩ := wi_cnt (by omega) hw
    refine lv_iconst (v := nI 0) hx hb dX2_called_7 (by decide) ?_
    refine lv_istore_n (lv' := [(3, .int (nI 0)), (2, .int (nI 0)), (0, .ref a0), (1, .int (nI k))]) hx hb dX2_called_8 rfl hl (by decide) rfl (fun ls hl => ?_)
    have L9 : ∀ (nn9 : Nat) (q : Nat), (q ≤ N 40) → N 40 - q < nn9 → ∀ (H : Heap) (locs : List Loc), RM D dA a0 ad (up1 N 0 0) I G J H → va_S (AM a0 ad s.heap.size) s.heap H locs → ∀ (ls : Array Slot), lv_has ls 4 [(0, .ref a0), (1, .int (nI k)), (2, .int (nI (calledS G k q))), (3, .int (nI q))] → W p lh e r_X2_called s m args below meth cd H locs 0 0 Q (F0 m 9 ls []) := by
      intro nn9
      induction nn9 with
      | zero => intro q i9_0 hm9; exact absurd hm9 (Nat.not_lt_zero _)
      | succ nn9 ih9 =>
        intro q i9_0 hm9 H locs hM hS ls hl
        refine lv_iload_n hx hb dX2_called_9 rfl (lv_at hl 3 rfl) ?_
        refine lv_aload_n hx hb dX2_called_10 rfl (lv_at hl 0 rfl) ?_
        refine M_get (v := .int (nI (N 40))) hx hb hts hown hG hM 40 (by decide) q1332 rfl rfl dX2_called_11 ?_
        refine kn_cge (tgt := 59) hx hb dX2_called_14 (by decide) (by omega) (by omega) (fun c_14 => ?_) (fun c_14 => ?_)
        · refine lv_iload_n hx hb dX2_called_59 rfl (lv_at hl 2 rfl) ?_
          subst hQ
          exact W.iret (v := nI (calledS G k q)) hx hb hrt (fun t ht hW => ⟨⟨_, ((up1 N 0 0), I, G, J), rfl, (by dsimp only; rw [if_pos hw, tn_nI (show k < 2 ^ 31 by omega), show N 40 = q by omega]; exact ⟨rfl, rfl⟩), by rw [ht]; exact hM, GK.warm hW hG⟩, hS.F ht⟩) hS.2.2 dX2_called_60
        · refine lv_iload_n hx hb dX2_called_17 rfl (lv_at hl 1 rfl) ?_
          refine lv_iconst (v := nI 0) hx hb dX2_called_18 (by decide) ?_
          refine lv_aload_n hx hb dX2_called_19 rfl (lv_at hl 0 rfl) ?_
          refine M_get (v := .int (nI (N 1))) hx hb hts hown hG hM 1 (by decide) q1293 rfl rfl dX2_called_20 ?_
          refine lv_iconst (v := nI 1) hx hb dX2_called_23 (by decide) ?_
          refine lv_isub hx hb dX2_called_24 ?_
          refine vp_callSi (W.runS (As := [.int (nI k), .int (nI 0), .int (nI (N 1) - (nI 1))]) (rest := []) ⟨hx, hb, hml, hown, hts⟩ (c_X2_within lh (nI k) (nI 0) (nI (N 1) - (nI 1))) (w_X2_within hts q1464 rfl rfl ⟨Nat.le_of_ble_eq_true rfl, Nat.le_of_ble_eq_true rfl⟩) ⟨P0.blind, P0.pre⟩ rfl rfl hl.1 rfl (lv_room (Nat.le_of_ble_eq_true rfl)) dX2_called_25 ⟨Nat.le_of_ble_eq_true rfl, Nat.le_of_ble_eq_true rfl⟩) (fun rr hrr => ?_)
          subst hrr
          refine kx_int (y := bI (wi (nI k) (nI 0) (nI (N 1) - (nI 1)))) rfl ?_
          refine kb_eq (tgt := 59) hx hb dX2_called_28 (by decide) (fun c_28 => ?_) (fun c_28 => ?_)
          · exact absurd hw (by rw [c_28]; decide)
          · refine lv_iload_n hx hb dX2_called_31 rfl (lv_at hl 2 rfl) ?_
            refine lv_aload_n hx hb dX2_called_32 rfl (lv_at hl 0 rfl) ?_
            refine M_get (v := .ref (ad 41)) hx hb hts hown hG hM 41 (by decide) q1333 rfl rfl dX2_called_33 ?_
            refine lv_bipush (v := nI 20) hx hb dX2_called_36 (by decide) ?_
            refine lv_iload_n hx hb dX2_called_38 rfl (lv_at hl 3 rfl) ?_
            refine kn_mul hx hb dX2_called_39 ?_
            refine lv_iload_n hx hb dX2_called_40 rfl (lv_at hl 1 rfl) ?_
            refine kn_add hx hb dX2_called_41 ?_
            refine M_iald (v := nI (G 41 (20 * q + k))) hx hb hG hM 41 rfl rfl (show 20 * q + k < 1200 from by omega) (rfl) dX2_called_42 ?_
            refine kn_zle (tgt := 50) hx hb dX2_called_43 (by decide) (h1 _ _) (fun c_43 => ?_) (fun c_43 => ?_)
            · refine lv_iconst (v := nI 0) hx hb dX2_called_50 (by decide) ?_
              refine kn_add hx hb dX2_called_51 ?_
              refine lv_istore_n (lv' := [(2, .int (nI (calledS G k q + 0))), (0, .ref a0), (1, .int (nI k)), (3, .int (nI q))]) hx hb dX2_called_52 rfl hl (by decide) rfl (fun ls hl => ?_)
              refine lv_iinc (v := nI (q + 1)) (lv' := [(3, .int (nI (q + 1))), (2, .int (nI (calledS G k q + 0))), (0, .ref a0), (1, .int (nI k))]) hx hb dX2_called_53 hl (k := 3) rfl (show nI q + Int32.ofInt 1 = nI (q + 1) from nI_add _ 1) (by decide) rfl (fun ls hl => ?_)
              refine lv_goto (tgt := 9) hx hb dX2_called_56 (by decide) ?_
              exact ih9 (q + 1) (by omega) (by omega) _ _ hM hS _ (lv_conv (show lv_has ls 4 [(0, .ref a0), (1, .int (nI k)), (2, .int (nI (calledS G k q + 0))), (3, .int (nI (q + 1)))] from (lv_sub hl [2, 3, 1, 0] rfl)) (by simp [calledS, c_43]))
            · refine lv_iconst (v := nI 1) hx hb dX2_called_46 (by decide) ?_
              refine lv_goto (tgt := 51) hx hb dX2_called_47 (by decide) ?_
              refine kn_add hx hb dX2_called_51 ?_
              refine lv_istore_n (lv' := [(2, .int (nI (calledS G k q + 1))), (0, .ref a0), (1, .int (nI k)), (3, .int (nI q))]) hx hb dX2_called_52 rfl hl (by decide) rfl (fun ls hl => ?_)
              refine lv_iinc (v := nI (q + 1)) (lv' := [(3, .int (nI (q + 1))), (2, .int (nI (calledS G k q + 1))), (0, .ref a0), (1, .int (nI k))]) hx hb dX2_called_53 hl (k := 3) rfl (show nI q + Int32.ofInt 1 = nI (q + 1) from nI_add _ 1) (by decide) rfl (fun ls hl => ?_)
              refine lv_goto (tgt := 9) hx hb dX2_called_56 (by decide) ?_
              exact ih9 (q + 1) (by omega) (by omega) _ _ hM hS _ (lv_conv (show lv_has ls 4 [(0, .ref a0), (1, .int (nI k)), (2, .int (nI (calledS G k q + 1))), (3, .int (nI (q + 1)))] from (lv_sub hl [2, 3, 1, 0] rfl)) (by simp [calledS, Nat.ne_of_gt c_43]))
    exact L9 _ 0 (by omega) (Nat.lt_succ_self _) _ _ hM hS _ (lv_sub hl [2, 3, 1, 0] rfl)
  · refine lv_iconst (v := nI 0) hx hb dX2_called_7 (by decide) ?_
    refine lv_istore_n (lv' := [(3, .int (nI 0)), (2, .int (nI 0)), (0, .ref a0), (1, .int l)]) hx hb dX2_called_8 rfl hl (by decide) rfl (fun ls hl => ?_)
    have L9 : ∀ (nn9 : Nat) (q : Nat), (q ≤ N 40) → (¬ wi l (nI 0) (nI (N 1) - nI 1) = true → q = 0) → N 40 - q < nn9 → ∀ (H : Heap) (locs : List Loc), RM D dA a0 ad (up1 N 0 0) I G J H → va_S (AM a0 ad s.heap.size) s.heap H locs → ∀ (ls : Array Slot), lv_has ls 4 [(0, .ref a0), (1, .int l), (2, .int (nI q)), (3, .int (nI q))] → W p lh e r_X2_called s m args below meth cd H locs 0 0 Q (F0 m 9 ls []) := by
      intro nn9
      induction nn9 with
      | zero => intro q i9_0 i9_1 hm9; exact absurd hm9 (Nat.not_lt_zero _)
      | succ nn9 ih9 =>
        intro q i9_0 i9_1 hm9 H locs hM hS ls hl
        refine lv_iload_n hx hb dX2_called_9 rfl (lv_at hl 3 rfl) ?_
        refine lv_aload_n hx hb dX2_called_10 rfl (lv_at hl 0 rfl) ?_
        refine M_get (v := .int (nI (N 40))) hx hb hts hown hG hM 40 (by decide) q1332 rfl rfl dX2_called_11 ?_
        refine kn_cge (tgt := 59) hx hb dX2_called_14 (by decide) (by omega) (by omega) (fun c_14 => ?_) (fun c_14 => ?_)
        · refine lv_iload_n hx hb dX2_called_59 rfl (lv_at hl 2 rfl) ?_
          subst hQ
          exact W.iret (v := nI q) hx hb hrt (fun t ht hW => ⟨⟨_, ((up1 N 0 0), I, G, J), rfl, (by dsimp only; rw [if_neg hw]; have hq := i9_1 hw; subst hq; exact ⟨rfl, rfl⟩), by rw [ht]; exact hM, GK.warm hW hG⟩, hS.F ht⟩) hS.2.2 dX2_called_60
        · refine lv_iload_n hx hb dX2_called_17 rfl (lv_at hl 1 rfl) ?_
          refine lv_iconst (v := nI 0) hx hb dX2_called_18 (by decide) ?_
          refine lv_aload_n hx hb dX2_called_19 rfl (lv_at hl 0 rfl) ?_
          refine M_get (v := .int (nI (N 1))) hx hb hts hown hG hM 1 (by decide) q1293 rfl rfl dX2_called_20 ?_
          refine lv_iconst (v := nI 1) hx hb dX2_called_23 (by decide) ?_
          refine lv_isub hx hb dX2_called_24 ?_
          refine vp_callSi (W.runS (As := [.int l, .int (nI 0), .int (nI (N 1) - (nI 1))]) (rest := []) ⟨hx, hb, hml, hown, hts⟩ (c_X2_within lh l (nI 0) (nI (N 1) - (nI 1))) (w_X2_within hts q1464 rfl rfl ⟨Nat.le_of_ble_eq_true rfl, Nat.le_of_ble_eq_true rfl⟩) ⟨P0.blind, P0.pre⟩ rfl rfl hl.1 rfl (lv_room (Nat.le_of_ble_eq_true rfl)) dX2_called_25 ⟨Nat.le_of_ble_eq_true rfl, Nat.le_of_ble_eq_true rfl⟩) (fun rr hrr => ?_)
          subst hrr
          refine kx_int (y := bI (wi l (nI 0) (nI (N 1) - (nI 1)))) rfl ?_
          refine kb_eq (tgt := 59) hx hb dX2_called_28 (by decide) (fun c_28 => ?_) (fun c_28 => ?_)
          · refine lv_iload_n hx hb dX2_called_59 rfl (lv_at hl 2 rfl) ?_
            subst hQ
            exact W.iret (v := nI q) hx hb hrt (fun t ht hW => ⟨⟨_, ((up1 N 0 0), I, G, J), rfl, (by dsimp only; rw [if_neg hw]; have hq := i9_1 hw; subst hq; exact ⟨rfl, rfl⟩), by rw [ht]; exact hM, GK.warm hW hG⟩, hS.F ht⟩) hS.2.2 dX2_called_60
          · exact absurd c_28 hw
    exact L9 _ 0 (by omega) (fun _ => rfl) (Nat.lt_succ_self _) _ _ hM hS _ (lv_sub hl [2, 3, 1, 0] rfl)
theorem w_X2_called {R : Room} {s : State} {args : Array Value} {own : String} {idx : Nat} (hts : ∀ w ∈ lw_all, w.before args s = true) (h1 : Cond.methodLink own idx yX2_called ∈ lw_all) {rm : Room} {mc ms : Nat} (hrc : rm.cells = mc) (hrs : rm.slots = ms) (hR : rm.frames + 1 ≤ R.frames ∧ 8 + (4 + 11) + rm.locals ≤ R.locals) : CallW R s args own RX2 idx yX2_called cX2_called 4 (some .int) (ws_ yX2_called cX2_called 4 (some .int)) rm mc ms 1 := cwV 1 hts (lw_V h1 q1651 q1652 q70 q1653) rfl hrc hrs (by decide +kernel) hR

abbrev r_X2_isFit : Room := { frames := 2, cells := 0, slots := 0, locals := 47 }
set_option maxHeartbeats 400000 in
theorem c_X2_isFit (lh : Launch) (D : va_G) (dA : Nat → ClassId) (a0 : Nat) (ad : Nat → Nat) (N : Nat → Nat) (I : Nat → Int32) (G : Nat → Nat → Nat) (J : Nat → Nat → Int32) (c : Nat) (h1 : ∀ a b, G a b < 2 ^ 31) (h2 : c < 10) (h3 : N 14 ≤ 600) (h4 : N 19 ≤ 100) : Met lh yX2_isFit (ws_ yX2_isFit cX2_isFit 3 (some .boolean)) r_X2_isFit (PqM D dA a0 ad N I G J [.ref a0, .int (nI c)]) (vp_Si (fun rv => rv = bI (fitS G c (N 14) (N 19) (N 42) (N 43)))) 0 0 (fun _ => False) := by
  refine Met.ofW (cc := cX2_isFit) (maxL := 3) (ret := (some .boolean)) (by decide) rfl ?_
  intro p e s m args below meth cd s₁ B hml hv
  obtain ⟨hargs, hM, hG⟩ := hv
  have hx := B.exec
  have hb := B.bytes
  have hrt := B.returns
  have hts := atoms_spec (ws := (ws_ yX2_isFit cX2_isFit 3 (some .boolean))) B.pre
  have hts : ∀ w ∈ lw_all, w.before _ s = true := fun w h => hts w (List.mem_cons_of_mem _ h)
  have hown : s.vm.findClass RX2 = some m.cls := findClass_of_methodNamed B.named
  have hlocks := B.notSynchronized
  have hE : entryFrame m args 3 = F0 m 0 ((lg_sl ([.ref a0, .int (nI c)]) ++ List.replicate (3 - (lg_sl ([.ref a0, .int (nI c)])).length) Slot.unset).toArray) [] := by rw [hargs]; exact lg_entry_eq m _ 3
  have hl := lv_entry ([.ref a0, .int (nI c)]) (n := 3) (Nat.le_of_ble_eq_true rfl)
  rw [hE]
  clear hE
  generalize (lg_sl ([.ref a0, .int (nI c)]) ++ List.replicate (3 - (lg_sl ([.ref a0, .int (nI c)])).length) Slot.unset).toArray = ls at hl ⊢
  have hl : lv_has ls 3 [(0, .ref a0), (1, .int (nI c))] := hl
  generalize hQ : MQ _ _ _ _ _ _ _ = Q
  refine lv_aload_n hx hb dX2_isFit_0 rfl (lv_at hl 0 rfl) ?_
  refine M_get (v := .ref (ad 6)) hx hb hts hown hG hM 6 (by decide) q1298 rfl rfl dX2_isFit_1 ?_
  refine lv_iload_n hx hb dX2_isFit_4 rfl (lv_at hl 1 rfl) ?_
  refine M_iald (v := nI (G 6 c)) hx hb hG hM 6 rfl rfl (show c < 10 from by omega) (rfl) dX2_isFit_5 ?_
  refine lv_iconst (v := nI 1) hx hb dX2_isFit_6 (by decide) ?_
  refine kn_ceq (tgt := 12) hx hb dX2_isFit_7 (by decide) (h1 _ _) (by omega) (fun c_7 => ?_) (fun c_7 => ?_)
  · refine lv_aload_n hx hb dX2_isFit_12 rfl (lv_at hl 0 rfl) ?_
    refine lv_iload_n hx hb dX2_isFit_13 rfl (lv_at hl 1 rfl) ?_
    refine lv_aload_n hx hb dX2_isFit_14 rfl (lv_at hl 0 rfl) ?_
    refine M_get (v := .int (nI (N 14))) hx hb hts hown hG hM 14 (by decide) q1306 rfl rfl dX2_isFit_15 ?_
    refine lv_aload_n hx hb dX2_isFit_18 rfl (lv_at hl 0 rfl) ?_
    refine M_get (v := .int (nI (N 19))) hx hb hts hown hG hM 19 (by decide) q1311 rfl rfl dX2_isFit_19 ?_
    refine vp_callSi (W.runV (As := [.int (nI c), .int (nI (N 14)), .int (nI (N 19))]) (rest := []) ⟨hx, hb, hml, hown, hts⟩ (c_X2_latestTest lh D dA a0 ad N I G J c (N 14) (N 19) (show ∀ a b, G a b < 2 ^ 31 from by first | omega | assumption | exact hB_up (by assumption) (by omega)) (show c < 10 from by first | omega | assumption | exact hB_up (by assumption) (by omega)) (show (N 14) < 2 ^ 31 from by first | omega | assumption | exact hB_up (by assumption) (by omega)) (show (N 19) ≤ 100 from by first | omega | assumption | exact hB_up (by assumption) (by omega))) (w_X2_latestTest hts q1511 rfl rfl ⟨Nat.le_of_ble_eq_true rfl, Nat.le_of_ble_eq_true rfl⟩) ⟨PqM.blind, M_recv hG hM, PqM.pre hG hM⟩ rfl rfl hl.1 rfl (lv_room (Nat.le_of_ble_eq_true rfl)) dX2_isFit_22 ⟨Nat.le_of_ble_eq_true rfl, Nat.le_of_ble_eq_true rfl⟩) (fun rr hrr => ?_)
    subst hrr
    rcases ho22 : latS G c (N 14) (N 19) with _ | k22
    · show W p lh e r_X2_isFit s m args below meth cd _ _ _ _ Q (F0 m _ ls (.int (-1) :: _))
      refine lv_istore_n (lv' := [(2, .int (-1)), (0, .ref a0), (1, .int (nI c))]) hx hb dX2_isFit_25 rfl hl (by decide) rfl (fun ls hl => ?_)
      refine lv_iload_n hx hb dX2_isFit_26 rfl (lv_at hl 0 rfl) ?_
      refine lv_iconst (v := -1) hx hb dX2_isFit_27 (by decide) ?_
      refine lv_icmp_eq (tgt := 55) hx hb dX2_isFit_28 (by decide) (fun _ => ?_) (fun c => absurd rfl c)
      refine lv_iconst (v := nI 0) hx hb dX2_isFit_55 (by decide) ?_
      subst hQ
      exact W.zret (v := nI 0) hx hb hrt rfl (fun t ht _ => ⟨_, rfl, (show nI 0 = bI (fitS G c (N 14) (N 19) (N 42) (N 43)) from retB0 (by simp [fitS, c_7, ho22])), ht⟩) t_nil dX2_isFit_56
    · show W p lh e r_X2_isFit s m args below meth cd _ _ _ _ Q (F0 m _ ls (.int (nI k22) :: _))
      have hlt := latS_lt ho22
      refine lv_istore_n (lv' := [(2, .int (nI k22)), (0, .ref a0), (1, .int (nI c))]) hx hb dX2_isFit_25 rfl hl (by decide) rfl (fun ls hl => ?_)
      refine lv_iload_n hx hb dX2_isFit_26 rfl (lv_at hl 0 rfl) ?_
      refine lv_iconst (v := -1) hx hb dX2_isFit_27 (by decide) ?_
      refine lv_icmp_eq (tgt := 55) hx hb dX2_isFit_28 (by decide) (fun c => absurd c (nI_nm1 (by omega))) (fun _ => ?_)
      refine lv_aload_n hx hb dX2_isFit_31 rfl (lv_at hl 1 rfl) ?_
      refine M_get (v := .ref (ad 22)) hx hb hts hown hG hM 22 (by decide) q1314 rfl rfl dX2_isFit_32 ?_
      refine lv_iload_n hx hb dX2_isFit_35 rfl (lv_at hl 0 rfl) ?_
      refine M_iald (v := nI (G 22 k22)) hx hb hG hM 22 rfl rfl (show k22 < 100 from by omega) (rfl) dX2_isFit_36 ?_
      refine lv_aload_n hx hb dX2_isFit_37 rfl (lv_at hl 1 rfl) ?_
      refine M_get (v := .int (nI (N 42))) hx hb hts hown hG hM 42 (by decide) q1334 rfl rfl dX2_isFit_38 ?_
      refine lv_aload_n hx hb dX2_isFit_41 rfl (lv_at hl 1 rfl) ?_
      refine M_get (v := .int (nI (N 43))) hx hb hts hown hG hM 43 (by decide) q1335 rfl rfl dX2_isFit_42 ?_
      refine vp_callSi (W.runS (As := [.int (nI (G 22 k22)), .int (nI (N 42)), .int (nI (N 43))]) (rest := []) ⟨hx, hb, hml, hown, hts⟩ (c_X2_within lh (nI (G 22 k22)) (nI (N 42)) (nI (N 43))) (w_X2_within hts q1464 rfl rfl ⟨Nat.le_of_ble_eq_true rfl, Nat.le_of_ble_eq_true rfl⟩) ⟨P0.blind, P0.pre⟩ rfl rfl hl.1 rfl (lv_room (Nat.le_of_ble_eq_true rfl)) dX2_isFit_45 ⟨Nat.le_of_ble_eq_true rfl, Nat.le_of_ble_eq_true rfl⟩) (fun rr hrr => ?_)
      subst hrr
      refine kb_eq (tgt := 55) hx hb dX2_isFit_48 (by decide) (fun c_48 => ?_) (fun c_48 => ?_)
      · refine lv_iconst (v := nI 0) hx hb dX2_isFit_55 (by decide) ?_
        subst hQ
        exact W.zret (v := nI 0) hx hb hrt rfl (fun t ht _ => ⟨_, rfl, (show nI 0 = bI (fitS G c (N 14) (N 19) (N 42) (N 43)) from retB0 (by simp [fitS, c_7, ho22, c_48])), ht⟩) t_nil dX2_isFit_56
      · refine lv_iconst (v := nI 1) hx hb dX2_isFit_51 (by decide) ?_
        refine lv_goto (tgt := 56) hx hb dX2_isFit_52 (by decide) ?_
        subst hQ
        exact W.zret (v := nI 1) hx hb hrt rfl (fun t ht _ => ⟨_, rfl, (show nI 1 = bI (fitS G c (N 14) (N 19) (N 42) (N 43)) from retB1 (by simp [fitS, c_7, ho22, c_48])), ht⟩) t_nil dX2_isFit_56
  · refine lv_iconst (v := nI 0) hx hb dX2_isFit_10 (by decide) ?_
    subst hQ
    exact W.zret (v := nI 0) hx hb hrt rfl (fun t ht _ => ⟨_, rfl, (show nI 0 = bI (fitS G c (N 14) (N 19) (N 42) (N 43)) from retB0 (by simp [fitS, c_7])), ht⟩) t_nil dX2_isFit_11
theorem w_X2_isFit {R : Room} {s : State} {args : Array Value} {own : String} {idx : Nat} (hts : ∀ w ∈ lw_all, w.before args s = true) (h1 : Cond.methodLink own idx yX2_isFit ∈ lw_all) {rm : Room} {mc ms : Nat} (hrc : rm.cells = mc) (hrs : rm.slots = ms) (hR : rm.frames + 1 ≤ R.frames ∧ 8 + (3 + 11) + rm.locals ≤ R.locals) : CallW R s args own RX2 idx yX2_isFit cX2_isFit 3 (some .boolean) (ws_ yX2_isFit cX2_isFit 3 (some .boolean)) rm mc ms 1 := cwV 1 hts (lw_V h1 q1636 qs55 q70 q1637) rfl hrc hrs (by decide +kernel) hR

abbrev r_X2_doesMeet : Room := { frames := 3, cells := 0, slots := 0, locals := 76 }
set_option maxHeartbeats 400000 in
theorem c_X2_doesMeet (lh : Launch) (D : va_G) (dA : Nat → ClassId) (a0 : Nat) (ad : Nat → Nat) (N : Nat → Nat) (I : Nat → Int32) (G : Nat → Nat → Nat) (J : Nat → Nat → Int32) (c : Nat) (o : Nat) (h1 : ∀ a b, G a b < 2 ^ 31) (h2 : c < 10) (h3 : N 14 ≤ 600) (h4 : N 19 ≤ 100) (h5 : o < 6) : Met lh yX2_doesMeet (ws_ yX2_doesMeet cX2_doesMeet 3 (some .boolean)) r_X2_doesMeet (PqM D dA a0 ad N I G J [.ref a0, .int (nI c), .int (nI o)]) (vp_Si (fun rv => rv = bI (dmS G J c o (N 14) (N 19) (N 42) (N 43)))) 0 0 (fun _ => False) := by
  refine Met.ofW (cc := cX2_doesMeet) (maxL := 3) (ret := (some .boolean)) (by decide) rfl ?_
  intro p e s m args below meth cd s₁ B hml hv
  obtain ⟨hargs, hM, hG⟩ := hv
  have hx := B.exec
  have hb := B.bytes
  have hrt := B.returns
  have hts := atoms_spec (ws := (ws_ yX2_doesMeet cX2_doesMeet 3 (some .boolean))) B.pre
  have hts : ∀ w ∈ lw_all, w.before _ s = true := fun w h => hts w (List.mem_cons_of_mem _ h)
  have hown : s.vm.findClass RX2 = some m.cls := findClass_of_methodNamed B.named
  have hlocks := B.notSynchronized
  have hE : entryFrame m args 3 = F0 m 0 ((lg_sl ([.ref a0, .int (nI c), .int (nI o)]) ++ List.replicate (3 - (lg_sl ([.ref a0, .int (nI c), .int (nI o)])).length) Slot.unset).toArray) [] := by rw [hargs]; exact lg_entry_eq m _ 3
  have hl := lv_entry ([.ref a0, .int (nI c), .int (nI o)]) (n := 3) (Nat.le_of_ble_eq_true rfl)
  rw [hE]
  clear hE
  generalize (lg_sl ([.ref a0, .int (nI c), .int (nI o)]) ++ List.replicate (3 - (lg_sl ([.ref a0, .int (nI c), .int (nI o)])).length) Slot.unset).toArray = ls at hl ⊢
  have hl : lv_has ls 3 [(0, .ref a0), (1, .int (nI c)), (2, .int (nI o))] := hl
  generalize hQ : MQ _ _ _ _ _ _ _ = Q
  refine lv_aload_n hx hb dX2_doesMeet_0 rfl (lv_at hl 0 rfl) ?_
  refine lv_iload_n hx hb dX2_doesMeet_1 rfl (lv_at hl 1 rfl) ?_
  refine vp_callSi (W.runV (As := [.int (nI c)]) (rest := []) ⟨hx, hb, hml, hown, hts⟩ (c_X2_isFit lh D dA a0 ad N I G J c (show ∀ a b, G a b < 2 ^ 31 from by first | omega | assumption | exact hB_up (by assumption) (by omega)) (show c < 10 from by first | omega | assumption | exact hB_up (by assumption) (by omega)) (show (N 14) ≤ 600 from by first | omega | assumption | exact hB_up (by assumption) (by omega)) (show (N 19) ≤ 100 from by first | omega | assumption | exact hB_up (by assumption) (by omega))) (w_X2_isFit hts q1634 rfl rfl ⟨Nat.le_of_ble_eq_true rfl, Nat.le_of_ble_eq_true rfl⟩) ⟨PqM.blind, M_recv hG hM, PqM.pre hG hM⟩ rfl rfl hl.1 rfl (lv_room (Nat.le_of_ble_eq_true rfl)) dX2_doesMeet_2 ⟨Nat.le_of_ble_eq_true rfl, Nat.le_of_ble_eq_true rfl⟩) (fun rr hrr => ?_)
  subst hrr
  refine kb_eq (tgt := 72) hx hb dX2_doesMeet_5 (by decide) (fun c_5 => ?_) (fun c_5 => ?_)
  · refine lv_iconst (v := nI 0) hx hb dX2_doesMeet_72 (by decide) ?_
    subst hQ
    exact W.zret (v := nI 0) hx hb hrt rfl (fun t ht _ => ⟨_, rfl, (show nI 0 = bI (dmS G J c o (N 14) (N 19) (N 42) (N 43)) from retB0 (by simp only [dmS, Bool.and_eq_true, Bool.and_eq_false_iff, Bool.not_eq_true', Bool.not_eq_false', decide_eq_true_eq, decide_eq_false_iff_not]; first | exact Or.inl c_5 | exact Or.inr (Or.inl c_19) | exact Or.inr (Or.inr (Or.inl c_42)) | exact Or.inr (Or.inr (Or.inr c_65)) | exact ⟨c_5, c_19, c_42, c_65⟩)), ht⟩) t_nil dX2_doesMeet_73
  · refine lv_aload_n hx hb dX2_doesMeet_8 rfl (lv_at hl 0 rfl) ?_
    refine lv_iload_n hx hb dX2_doesMeet_9 rfl (lv_at hl 1 rfl) ?_
    refine vp_callSi (W.runV (As := [.int (nI c)]) (rest := []) ⟨hx, hb, hml, hown, hts⟩ (c_X2_grams lh D dA a0 ad N I G J c (show c < 10 from by first | omega | assumption | exact hB_up (by assumption) (by omega))) (w_X2_grams hts q1487 rfl rfl ⟨Nat.le_of_ble_eq_true rfl, Nat.le_of_ble_eq_true rfl⟩) ⟨PqM.blind, M_recv hG hM, PqM.pre hG hM⟩ rfl rfl hl.1 rfl (lv_room (Nat.le_of_ble_eq_true rfl)) dX2_doesMeet_10 ⟨Nat.le_of_ble_eq_true rfl, Nat.le_of_ble_eq_true rfl⟩) (fun rr hrr => ?_)
    subst hrr
    refine lv_aload_n hx hb dX2_doesMeet_13 rfl (lv_at hl 0 rfl) ?_
    refine M_get (v := .ref (ad 45)) hx hb hts hown hG hM 45 (by decide) q1337 rfl rfl dX2_doesMeet_14 ?_
    refine lv_iload_n hx hb dX2_doesMeet_17 rfl (lv_at hl 2 rfl) ?_
    refine M_iald (v := nI (G 45 o)) hx hb hG hM 45 rfl rfl (show o < 6 from by omega) (rfl) dX2_doesMeet_18 ?_
    refine lv_icmp_lt (tgt := 72) hx hb dX2_doesMeet_19 (by decide) (fun c_19 => ?_) (fun c_19 => ?_)
    · refine lv_iconst (v := nI 0) hx hb dX2_doesMeet_72 (by decide) ?_
      subst hQ
      exact W.zret (v := nI 0) hx hb hrt rfl (fun t ht _ => ⟨_, rfl, (show nI 0 = bI (dmS G J c o (N 14) (N 19) (N 42) (N 43)) from retB0 (by simp only [dmS, Bool.and_eq_true, Bool.and_eq_false_iff, Bool.not_eq_true', Bool.not_eq_false', decide_eq_true_eq, decide_eq_false_iff_not]; first | exact Or.inl c_5 | exact Or.inr (Or.inl c_19) | exact Or.inr (Or.inr (Or.inl c_42)) | exact Or.inr (Or.inr (Or.inr c_65)) | exact ⟨c_5, c_19, c_42, c_65⟩)), ht⟩) t_nil dX2_doesMeet_73
    · refine lv_aload_n hx hb dX2_doesMeet_22 rfl (lv_at hl 0 rfl) ?_
      refine lv_iload_n hx hb dX2_doesMeet_23 rfl (lv_at hl 1 rfl) ?_
      refine lv_aload_n hx hb dX2_doesMeet_24 rfl (lv_at hl 0 rfl) ?_
      refine M_get (v := .int (nI (N 14))) hx hb hts hown hG hM 14 (by decide) q1306 rfl rfl dX2_doesMeet_25 ?_
      refine lv_aload_n hx hb dX2_doesMeet_28 rfl (lv_at hl 0 rfl) ?_
      refine M_get (v := .int (nI (N 19))) hx hb hts hown hG hM 19 (by decide) q1311 rfl rfl dX2_doesMeet_29 ?_
      refine lv_iconst (v := nI 0) hx hb dX2_doesMeet_32 (by decide) ?_
      refine vp_callSi (W.runV (As := [.int (nI c), .int (nI (N 14)), .int (nI (N 19)), .int (nI 0)]) (rest := []) ⟨hx, hb, hml, hown, hts⟩ (c_X2_spanOf lh D dA a0 ad N I G J c (N 14) (N 19) false (show ∀ a b, G a b < 2 ^ 31 from by first | omega | assumption | exact hB_up (by assumption) (by omega)) (show c < 10 from by first | omega | assumption | exact hB_up (by assumption) (by omega)) (show (N 14) ≤ 600 from by first | omega | assumption | exact hB_up (by assumption) (by omega)) (show (N 19) ≤ 100 from by first | omega | assumption | exact hB_up (by assumption) (by omega))) (w_X2_spanOf hts q1507 rfl rfl ⟨Nat.le_of_ble_eq_true rfl, Nat.le_of_ble_eq_true rfl⟩) ⟨PqM.blind, M_recv hG hM, PqM.pre hG hM⟩ rfl rfl hl.1 rfl (lv_room (Nat.le_of_ble_eq_true rfl)) dX2_doesMeet_33 ⟨Nat.le_of_ble_eq_true rfl, Nat.le_of_ble_eq_true rfl⟩) (fun rr hrr => ?_)
      subst hrr
      refine lv_aload_n hx hb dX2_doesMeet_36 rfl (lv_at hl 0 rfl) ?_
      refine M_get (v := .ref (ad 46)) hx hb hts hown hG hM 46 (by decide) q1338 rfl rfl dX2_doesMeet_37 ?_
      refine lv_iload_n hx hb dX2_doesMeet_40 rfl (lv_at hl 2 rfl) ?_
      refine M_iald (v := nI (G 46 o)) hx hb hG hM 46 rfl rfl (show o < 6 from by omega) (rfl) dX2_doesMeet_41 ?_
      refine lv_icmp_lt (tgt := 72) hx hb dX2_doesMeet_42 (by decide) (fun c_42 => ?_) (fun c_42 => ?_)
      · refine lv_iconst (v := nI 0) hx hb dX2_doesMeet_72 (by decide) ?_
        subst hQ
        exact W.zret (v := nI 0) hx hb hrt rfl (fun t ht _ => ⟨_, rfl, (show nI 0 = bI (dmS G J c o (N 14) (N 19) (N 42) (N 43)) from retB0 (by simp only [dmS, Bool.and_eq_true, Bool.and_eq_false_iff, Bool.not_eq_true', Bool.not_eq_false', decide_eq_true_eq, decide_eq_false_iff_not]; first | exact Or.inl c_5 | exact Or.inr (Or.inl c_19) | exact Or.inr (Or.inr (Or.inl c_42)) | exact Or.inr (Or.inr (Or.inr c_65)) | exact ⟨c_5, c_19, c_42, c_65⟩)), ht⟩) t_nil dX2_doesMeet_73
      · refine lv_aload_n hx hb dX2_doesMeet_45 rfl (lv_at hl 0 rfl) ?_
        refine lv_iload_n hx hb dX2_doesMeet_46 rfl (lv_at hl 1 rfl) ?_
        refine lv_aload_n hx hb dX2_doesMeet_47 rfl (lv_at hl 0 rfl) ?_
        refine M_get (v := .int (nI (N 14))) hx hb hts hown hG hM 14 (by decide) q1306 rfl rfl dX2_doesMeet_48 ?_
        refine lv_aload_n hx hb dX2_doesMeet_51 rfl (lv_at hl 0 rfl) ?_
        refine M_get (v := .int (nI (N 19))) hx hb hts hown hG hM 19 (by decide) q1311 rfl rfl dX2_doesMeet_52 ?_
        refine lv_iconst (v := nI 1) hx hb dX2_doesMeet_55 (by decide) ?_
        refine vp_callSi (W.runV (As := [.int (nI c), .int (nI (N 14)), .int (nI (N 19)), .int (nI 1)]) (rest := []) ⟨hx, hb, hml, hown, hts⟩ (c_X2_spanOf lh D dA a0 ad N I G J c (N 14) (N 19) true (show ∀ a b, G a b < 2 ^ 31 from by first | omega | assumption | exact hB_up (by assumption) (by omega)) (show c < 10 from by first | omega | assumption | exact hB_up (by assumption) (by omega)) (show (N 14) ≤ 600 from by first | omega | assumption | exact hB_up (by assumption) (by omega)) (show (N 19) ≤ 100 from by first | omega | assumption | exact hB_up (by assumption) (by omega))) (w_X2_spanOf hts q1507 rfl rfl ⟨Nat.le_of_ble_eq_true rfl, Nat.le_of_ble_eq_true rfl⟩) ⟨PqM.blind, M_recv hG hM, PqM.pre hG hM⟩ rfl rfl hl.1 rfl (lv_room (Nat.le_of_ble_eq_true rfl)) dX2_doesMeet_56 ⟨Nat.le_of_ble_eq_true rfl, Nat.le_of_ble_eq_true rfl⟩) (fun rr hrr => ?_)
        subst hrr
        refine lv_aload_n hx hb dX2_doesMeet_59 rfl (lv_at hl 0 rfl) ?_
        refine M_get (v := .ref (ad 47)) hx hb hts hown hG hM 47 (by decide) q1339 rfl rfl dX2_doesMeet_60 ?_
        refine lv_iload_n hx hb dX2_doesMeet_63 rfl (lv_at hl 2 rfl) ?_
        refine M_iald (v := nI (G 47 o)) hx hb hG hM 47 rfl rfl (show o < 6 from by omega) (rfl) dX2_doesMeet_64 ?_
        refine lv_icmp_gt (tgt := 72) hx hb dX2_doesMeet_65 (by decide) (fun c_65 => ?_) (fun c_65 => ?_)
        · refine lv_iconst (v := nI 0) hx hb dX2_doesMeet_72 (by decide) ?_
          subst hQ
          exact W.zret (v := nI 0) hx hb hrt rfl (fun t ht _ => ⟨_, rfl, (show nI 0 = bI (dmS G J c o (N 14) (N 19) (N 42) (N 43)) from retB0 (by simp only [dmS, Bool.and_eq_true, Bool.and_eq_false_iff, Bool.not_eq_true', Bool.not_eq_false', decide_eq_true_eq, decide_eq_false_iff_not]; first | exact Or.inl c_5 | exact Or.inr (Or.inl c_19) | exact Or.inr (Or.inr (Or.inl c_42)) | exact Or.inr (Or.inr (Or.inr c_65)) | exact ⟨c_5, c_19, c_42, c_65⟩)), ht⟩) t_nil dX2_doesMeet_73
        · refine lv_iconst (v := nI 1) hx hb dX2_doesMeet_68 (by decide) ?_
          refine lv_goto (tgt := 73) hx hb dX2_doesMeet_69 (by decide) ?_
          subst hQ
          exact W.zret (v := nI 1) hx hb hrt rfl (fun t ht _ => ⟨_, rfl, (show nI 1 = bI (dmS G J c o (N 14) (N 19) (N 42) (N 43)) from retB1 (by simp only [dmS, Bool.and_eq_true, Bool.and_eq_false_iff, Bool.not_eq_true', Bool.not_eq_false', decide_eq_true_eq, decide_eq_false_iff_not]; first | exact Or.inl c_5 | exact Or.inr (Or.inl c_19) | exact Or.inr (Or.inr (Or.inl c_42)) | exact Or.inr (Or.inr (Or.inr c_65)) | exact ⟨c_5, c_19, c_42, c_65⟩)), ht⟩) t_nil dX2_doesMeet_73
theorem w_X2_doesMeet {R : Room} {s : State} {args : Array Value} {own : String} {idx : Nat} (hts : ∀ w ∈ lw_all, w.before args s = true) (h1 : Cond.methodLink own idx yX2_doesMeet ∈ lw_all) {rm : Room} {mc ms : Nat} (hrc : rm.cells = mc) (hrs : rm.slots = ms) (hR : rm.frames + 1 ≤ R.frames ∧ 8 + (3 + 11) + rm.locals ≤ R.locals) : CallW R s args own RX2 idx yX2_doesMeet cX2_doesMeet 3 (some .boolean) (ws_ yX2_doesMeet cX2_doesMeet 3 (some .boolean)) rm mc ms 2 := cwV 2 hts (lw_V h1 q1668 qs58 q70 q1669) rfl hrc hrs (by decide +kernel) hR

abbrev r_X2_meets : Room := { frames := 4, cells := 0, slots := 0, locals := 98 }
set_option maxHeartbeats 400000 in
theorem c_X2_meets (lh : Launch) (D : va_G) (dA : Nat → ClassId) (a0 : Nat) (ad : Nat → Nat) (N : Nat → Nat) (I : Nat → Int32) (G : Nat → Nat → Nat) (J : Nat → Nat → Int32) (sz : Nat) (c : Int32) (o : Int32) (h1 : ∀ a b, G a b < 2 ^ 31) (h2 : N 3 ≤ 10) (h3 : N 14 ≤ 600) (h4 : N 19 ≤ 100) (h5 : N 44 ≤ 6) : Met lh yX2_meets (ws_ yX2_meets cX2_meets 3 (some .int)) r_X2_meets (PmM D dA a0 ad N I G J sz [.ref a0, .int c, .int o]) (va_Qi (fun (r : Int32) (u : SgT) => if meetsB N c o = true then r = bI (dmS G J (tn c) (tn o) (N 14) (N 19) (N 42) (N 43)) ∧ u = (up1 N 0 0, I, G, J) else r = -1 ∧ u = (up1 N 0 0, I, G, J)) (BmM D dA a0 ad) (AM a0 ad sz)) 0 0 (AM a0 ad sz) := by
  refine Met.ofW (cc := cX2_meets) (maxL := 3) (ret := (some .int)) (by decide) rfl ?_
  intro p e s m args below meth cd s₁ B hml hv
  obtain ⟨hargs, hsz, hM, hG⟩ := hv
  have hx := B.exec
  have hb := B.bytes
  have hrt := B.returns
  have hts := atoms_spec (ws := (ws_ yX2_meets cX2_meets 3 (some .int))) B.pre
  have hts : ∀ w ∈ lw_all, w.before _ s = true := fun w h => hts w (List.mem_cons_of_mem _ h)
  have hown : s.vm.findClass RX2 = some m.cls := findClass_of_methodNamed B.named
  have hlocks := B.notSynchronized
  subst hsz
  have hS : va_S (AM a0 ad s.heap.size) s.heap s.heap [] := va_S.rf
  have hE : entryFrame m args 3 = F0 m 0 ((lg_sl ([.ref a0, .int c, .int o]) ++ List.replicate (3 - (lg_sl ([.ref a0, .int c, .int o])).length) Slot.unset).toArray) [] := by rw [hargs]; exact lg_entry_eq m _ 3
  have hl := lv_entry ([.ref a0, .int c, .int o]) (n := 3) (Nat.le_of_ble_eq_true rfl)
  rw [hE]
  clear hE
  generalize (lg_sl ([.ref a0, .int c, .int o]) ++ List.replicate (3 - (lg_sl ([.ref a0, .int c, .int o])).length) Slot.unset).toArray = ls at hl ⊢
  have hl : lv_has ls 3 [(0, .ref a0), (1, .int c), (2, .int o)] := hl
  generalize hQ : MQ _ _ _ _ _ _ _ = Q
  refine lv_aload_n hx hb dX2_meets_0 rfl (lv_at hl 0 rfl) ?_
  refine lv_iconst (v := nI 0) hx hb dX2_meets_1 (by decide) ?_
  refine M_put hx hb hts hown hG hS AM.o hM 0 (by decide) q1292 rfl rfl rfl (up1 N 0 0) I rfl dX2_meets_2 (fun H locs hM hz hS => ?_)
  refine lv_aload_n hx hb dX2_meets_5 rfl (lv_at hl 0 rfl) ?_
  refine lv_iload_n hx hb dX2_meets_6 rfl (lv_at hl 1 rfl) ?_
  refine vp_callSi (W.runV (As := [.int c]) (rest := []) ⟨hx, hb, hml, hown, hts⟩ (c_X2_isCrock lh D dA a0 ad (up1 N 0 0) I G J c) (w_X2_isCrock hts q1483 rfl rfl ⟨Nat.le_of_ble_eq_true rfl, Nat.le_of_ble_eq_true rfl⟩) ⟨PqM.blind, M_recv hG hM, PqM.pre hG hM⟩ rfl rfl hl.1 rfl (lv_room (Nat.le_of_ble_eq_true rfl)) dX2_meets_7 ⟨Nat.le_of_ble_eq_true rfl, Nat.le_of_ble_eq_true rfl⟩) (fun rr hrr => ?_)
  subst hrr
  refine kx_int (y := bI (wi c (nI 0) (nI ((N 3)) - nI 1))) rfl ?_
  refine kb_eq (tgt := 27) hx hb dX2_meets_10 (by decide) (fun c_10 => ?_) (fun c_10 => ?_)
  · refine lv_iconst (v := -1) hx hb dX2_meets_27 (by decide) ?_
    subst hQ
    exact W.iret (v := (-1)) hx hb hrt (fun t ht hW => ⟨⟨_, ((up1 N 0 0), I, G, J), rfl, (by dsimp only; rw [if_neg (by simp [meetsB, c_10])]; exact ⟨rfl, rfl⟩), by rw [ht]; exact hM, GK.warm hW hG⟩, hS.F ht⟩) hS.2.2 dX2_meets_28
  · obtain ⟨j, hj, rfl⟩ := wi_cnt (by omega) c_10
    refine lv_iload_n hx hb dX2_meets_13 rfl (lv_at hl 2 rfl) ?_
    refine lv_iconst (v := nI 0) hx hb dX2_meets_14 (by decide) ?_
    refine lv_aload_n hx hb dX2_meets_15 rfl (lv_at hl 0 rfl) ?_
    refine M_get (v := .int (nI (N 44))) hx hb hts hown hG hM 44 (by decide) q1336 rfl rfl dX2_meets_16 ?_
    refine lv_iconst (v := nI 1) hx hb dX2_meets_19 (by decide) ?_
    refine lv_isub hx hb dX2_meets_20 ?_
    refine vp_callSi (W.runS (As := [.int o, .int (nI 0), .int (nI (N 44) - (nI 1))]) (rest := []) ⟨hx, hb, hml, hown, hts⟩ (c_X2_within lh o (nI 0) (nI (N 44) - (nI 1))) (w_X2_within hts q1464 rfl rfl ⟨Nat.le_of_ble_eq_true rfl, Nat.le_of_ble_eq_true rfl⟩) ⟨P0.blind, P0.pre⟩ rfl rfl hl.1 rfl (lv_room (Nat.le_of_ble_eq_true rfl)) dX2_meets_21 ⟨Nat.le_of_ble_eq_true rfl, Nat.le_of_ble_eq_true rfl⟩) (fun rr hrr => ?_)
    subst hrr
    refine kx_int (y := bI (wi o (nI 0) (nI (N 44) - (nI 1)))) rfl ?_
    refine kb_ne (tgt := 29) hx hb dX2_meets_24 (by decide) (fun c_24 => ?_) (fun c_24 => ?_)
    · obtain ⟨k, hk, rfl⟩ := wi_cnt (by omega) c_24
      refine lv_aload_n hx hb dX2_meets_29 rfl (lv_at hl 0 rfl) ?_
      refine lv_iload_n hx hb dX2_meets_30 rfl (lv_at hl 1 rfl) ?_
      refine lv_iload_n hx hb dX2_meets_31 rfl (lv_at hl 2 rfl) ?_
      refine vp_callSi (W.runV (As := [.int (nI j), .int (nI k)]) (rest := []) ⟨hx, hb, hml, hown, hts⟩ (c_X2_doesMeet lh D dA a0 ad (up1 N 0 0) I G J j k (show ∀ a b, G a b < 2 ^ 31 from by first | omega | assumption | exact hB_up (by assumption) (by omega)) (show j < 10 from by first | omega | assumption | exact hB_up (by assumption) (by omega)) (show (N 14) ≤ 600 from by first | omega | assumption | exact hB_up (by assumption) (by omega)) (show (N 19) ≤ 100 from by first | omega | assumption | exact hB_up (by assumption) (by omega)) (show k < 6 from by first | omega | assumption | exact hB_up (by assumption) (by omega))) (w_X2_doesMeet hts q1666 rfl rfl ⟨Nat.le_of_ble_eq_true rfl, Nat.le_of_ble_eq_true rfl⟩) ⟨PqM.blind, M_recv hG hM, PqM.pre hG hM⟩ rfl rfl hl.1 rfl (lv_room (Nat.le_of_ble_eq_true rfl)) dX2_meets_32 ⟨Nat.le_of_ble_eq_true rfl, Nat.le_of_ble_eq_true rfl⟩) (fun rr hrr => ?_)
      subst hrr
      refine kx_int (y := bI (dmS G J j k ((N 14)) ((N 19)) ((N 42)) ((N 43)))) rfl ?_
      refine kb_eq (tgt := 42) hx hb dX2_meets_35 (by decide) (fun c_35 => ?_) (fun c_35 => ?_)
      · refine lv_iconst (v := nI 0) hx hb dX2_meets_42 (by decide) ?_
        subst hQ
        exact W.iret (v := nI 0) hx hb hrt (fun t ht hW => ⟨⟨_, ((up1 N 0 0), I, G, J), rfl, (by dsimp only; rw [if_pos (by simp [meetsB, c_10, c_24, tn_nI (show j < 2 ^ 31 by omega), tn_nI (show k < 2 ^ 31 by omega)]), tn_nI (show j < 2 ^ 31 by omega), tn_nI (show k < 2 ^ 31 by omega)]; exact ⟨retB0 c_35, rfl⟩), by rw [ht]; exact hM, GK.warm hW hG⟩, hS.F ht⟩) hS.2.2 dX2_meets_43
      · refine lv_iconst (v := nI 1) hx hb dX2_meets_38 (by decide) ?_
        refine lv_goto (tgt := 43) hx hb dX2_meets_39 (by decide) ?_
        subst hQ
        exact W.iret (v := nI 1) hx hb hrt (fun t ht hW => ⟨⟨_, ((up1 N 0 0), I, G, J), rfl, (by dsimp only; rw [if_pos (by simp [meetsB, c_10, c_24, tn_nI (show j < 2 ^ 31 by omega), tn_nI (show k < 2 ^ 31 by omega)]), tn_nI (show j < 2 ^ 31 by omega), tn_nI (show k < 2 ^ 31 by omega)]; exact ⟨retB1 c_35, rfl⟩), by rw [ht]; exact hM, GK.warm hW hG⟩, hS.F ht⟩) hS.2.2 dX2_meets_43
    · refine lv_iconst (v := -1) hx hb dX2_meets_27 (by decide) ?_
      subst hQ
      exact W.iret (v := (-1)) hx hb hrt (fun t ht hW => ⟨⟨_, ((up1 N 0 0), I, G, J), rfl, (by dsimp only; rw [if_neg (by simp [meetsB, c_10, c_24, tn_nI (show j < 2 ^ 31 by omega)])]; exact ⟨rfl, rfl⟩), by rw [ht]; exact hM, GK.warm hW hG⟩, hS.F ht⟩) hS.2.2 dX2_meets_28
theorem w_X2_meets {R : Room} {s : State} {args : Array Value} {own : String} {idx : Nat} (hts : ∀ w ∈ lw_all, w.before args s = true) (h1 : Cond.methodLink own idx yX2_meets ∈ lw_all) {rm : Room} {mc ms : Nat} (hrc : rm.cells = mc) (hrs : rm.slots = ms) (hR : rm.frames + 1 ≤ R.frames ∧ 8 + (3 + 11) + rm.locals ≤ R.locals) : CallW R s args own RX2 idx yX2_meets cX2_meets 3 (some .int) (ws_ yX2_meets cX2_meets 3 (some .int)) rm mc ms 2 := cwV 2 hts (lw_V h1 q1663 q1664 q70 q1665) rfl hrc hrs (by decide +kernel) hR
